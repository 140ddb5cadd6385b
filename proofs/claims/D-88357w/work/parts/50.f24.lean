def uq (a : Int) (k : Nat) : Z4' := (a, 2 - ((k / 25 : Nat) : Int), 2 - ((k / 5 % 5 : Nat) : Int), 2 - ((k % 5 : Nat) : Int))
def okU (v : Q4) : Bool := decide (q_sq v = 4) && q_al v
/-- the units among a list, counted and laid into an array of ints -/
def uF : List Z4' → Nat → AI → Nat × AI
  | [], n, un => (n, un)
  | q :: L, n, un => if okU (qz q) then uF L (n + 1) (wq un n (qz q)) else uF L n un
def UK (a : Int) : Nat → Nat → List Z4'
  | _, 0 => []
  | k, m + 1 => uq a k :: UK a (k + 1) m
def UAl : Int → Nat → List Z4'
  | _, 0 => []
  | a, m + 1 => UK a 0 125 ++ UAl (a - 1) m
def U0 : List Z4' := UAl 2 5
/-- the units, as the model keeps them -/
def unC : AI := (uF U0 0 (fun _ => 0)).2
set_option maxRecDepth 100000 in
theorem uF_24 : (uF U0 0 (fun _ => 0)).1 = 24 := by decide +kernel
theorem uF_le : ∀ (L : List Z4') (n : Nat) (un : AI), n ≤ (uF L n un).1
  | [], n, un => Nat.le_refl n
  | q :: L, n, un => by
    simp only [uF]
    split
    · exact Nat.le_trans (Nat.le_succ n) (uF_le L (n + 1) _)
    · exact uF_le L n un
theorem UK_s {a : Int} {k : Nat} (h : k < 125) : UK a k (125 - k) = uq a k :: UK a (k + 1) (125 - (k + 1)) := by
  rw [show 125 - k = (125 - (k + 1)) + 1 by omega]
  rfl
theorem uF_y {q : Z4'} {L : List Z4'} {n : Nat} {un : AI} (h : okU (qz q) = true) : uF (q :: L) n un = uF L (n + 1) (wq un n (qz q)) := by simp [uF, h]
theorem uF_n {q : Z4'} {L : List Z4'} {n : Nat} {un : AI} (h : okU (qz q) = false) : uF (q :: L) n un = uF L n un := by simp [uF, h]
def PL (ua : Nat → Nat) (un : AI) (n : Nat) : va_W := (List.range n).map (fun i => (ua i, f4 (rq un i)))
theorem PL_s {ua : Nat → Nat} {un : AI} {n q : Nat} {v : Q4} (hl : q_low v = true) : PL ua un n ++ [(q, f4 v)] = PL (va_up ua n q) (wq un n v) (n + 1) := by
  unfold PL
  rw [List.range_succ, List.map_append]
  congr 1
  · refine List.map_congr_left (fun i hi => ?_)
    have : i < n := List.mem_range.mp hi
    rw [va_up_ne _ _ (by omega), rq_wq_ne (by omega)]
  · show [(q, f4 v)] = [(va_up ua n q n, f4 (rq (wq un n v) n))]
    rw [va_up_self, rq_wq hl]
def uAr (ua : Nat → Nat) (n : Nat) : Nat → Option Nat := fun i => if i < n then some (ua i) else none
theorem uAr_s {ua : Nat → Nat} {n q : Nat} : va_up (uAr ua n) n (some q) = uAr (va_up ua n q) (n + 1) := by
  funext i
  simp only [va_up, uAr]
  by_cases h : i = n
  · rw [if_pos h, if_pos (by omega), if_pos h]
  · rw [if_neg h]
    by_cases h2 : i < n
    · rw [if_pos h2, if_pos (by omega), if_neg h]
    · rw [if_neg h2, if_neg (by omega)]
theorem uq_low {a : Int} {k : Nat} (h1 : -2 ≤ a) (h2 : a ≤ 2) (hk : k < 125) : q_low (qz (uq a k)) = true := by
  have a1 : k / 25 ≤ 4 := by omega
  have a2 : k / 5 % 5 ≤ 4 := by omega
  have a3 : k % 5 ≤ 4 := by omega
  simp only [q_low, qz, uq, Bool.and_eq_true]
  exact ⟨⟨⟨qz_p (by omega) (by omega), qz_p (by omega) (by omega)⟩, qz_p (by omega) (by omega)⟩, qz_p (by omega) (by omega)⟩
theorem PL_fo {D : va_G} {H : Heap} {X : va_W} {ua : Nat → Nat} {un : AI} {n : Nat} (hP : va_P D vwCl (X ++ PL ua un n) H) : ∀ i, i < n → Fo D H (ua i) (rq un i) := by
  intro i hi k q hk
  match k, hk with
  | 0, hk => cases hk; exact vp_mem.mp hP _ (List.mem_append_right _ (List.mem_map.mpr ⟨i, List.mem_range.mpr hi, rfl⟩))
  | k + 1, hk => simp at hk
theorem arrV_eq {cI : ClassId} {N : Nat} {f g : Nat → Value} (h : ∀ j, j < N → f j = g j) : arrV cI N f = arrV cI N g := by
  have e : (fun j : Fin N => f j.val) = fun j : Fin N => g j.val := funext (fun j => h j.val j.isLt)
  unfold arrV
  rw [e]
theorem vd_cell {A : Nat → Prop} {x : Nat} {e e' : va_E} {pl : va_W} (h : va_D A ([(x, e)] ++ pl)) : va_D A ([(x, e')] ++ pl) := by
  have h1 := vd_iff.mp h
  refine vd_iff.mpr ⟨h1.1, fun q hq => ?_⟩
  rcases List.mem_append.mp hq with hq | hq
  · rw [List.mem_singleton.mp hq]
    exact h1.2 (x, e) (List.mem_append_left _ List.mem_cons_self)
  · exact h1.2 q (List.mem_append_right _ hq)
theorem vp_cell1 {D : va_G} {H : Heap} {x n : Nat} {cA : ClassId} {f g : Nat → Option Nat} {pl : va_W} (hP : va_P D vwCl ([(x, .inl (cA, n, .inr (.inr (.inr (.inr f)))))] ++ pl) H) (hfg : ∀ i, i < n → f i = g i) : va_P D vwCl ([(x, .inl (cA, n, .inr (.inr (.inr (.inr g)))))] ++ pl) H := by
  have h0 := vp_mem.mp hP
  refine vp_mem.mpr (fun q hq => ?_)
  rcases List.mem_append.mp hq with hq | hq
  · rw [List.mem_singleton.mp hq]
    have h : H[x]? = some (vp_cell cA (n, .inr (.inr (.inr (.inr f))))) := h0 (x, .inl (cA, n, .inr (.inr (.inr (.inr f))))) (List.mem_append_left _ List.mem_cons_self)
    have e : vp_cell cA (n, .inr (.inr (.inr (.inr f)))) = vp_cell cA (n, .inr (.inr (.inr (.inr g)))) := by
      show arrV cA n (fun j => va_rf (f j)) = arrV cA n (fun j => va_rf (g j))
      exact arrV_eq (fun j hj => by rw [hfg j hj])
    exact h.trans (congrArg some e)
  · exact h0 q (List.mem_append_right _ hq)
theorem uAr_24 {D : va_G} {H : Heap} {ca : Nat → ClassId} {x N : Nat} {ua : Nat → Nat} {pl : va_W} (hP : va_P D vwCl ([(x, rA ca 4 N (uAr ua N))] ++ pl) H) : va_P D vwCl ([(x, rA ca 4 N (fun i => some (ua i)))] ++ pl) H := vp_cell1 hP (fun i hi => if_pos hi)
set_option maxHeartbeats 4000000 in
set_option maxRecDepth 100000 in
theorem lp_X0_units_k  {l : Launch} {D : va_G} {ca : Nat → ClassId} (xa : Nat) (ia : Nat) (R : List Z4') (hia : ia < 5) {p : Program} {e : Env} {s : State} {m : MethodId} {below : List Frame} {meth : Method} {c : Code} {A : Nat → Prop} (hOut : ∀ (n9 : Nat) (ua : Nat → Nat) (un : AI), uF R n9 un = (24, unC) → ∀ (H : Heap) (locs : List Loc) (ls : Array Slot), va_P D vwCl ([(xa, rA ca 4 24 (uAr ua n9))] ++ PL ua un n9) H → va_D A ([(xa, rA ca 4 24 (uAr ua n9))] ++ PL ua un n9) → va_S A s.heap H locs → lv_has ls 6 [(0, .ref xa), (1, .int (nI n9)), (2, .int (iZ (2 - ((ia : Nat) : Int))))] → W p l e ({ frames := 2, cells := 626, slots := 2524, locals := 48 }) s m ([] : List Value).toArray below meth c H locs (1 + 125 * (ia + 1)) (24 + 4 * (125 * (ia + 1))) (MQ below (qR D (fun (u : Nat → Nat) => True) (fun u a => ([(a, rA ca 4 24 (fun i => some (u i)))] ++ PL u unC 24)) (fun u a H => True) A) ([] : List Value).toArray s 626 2524 A) (F0 m 102 ls [])) (hx : p.tables.exec = Jvm.exec) (hb : c.code = cX0_units) (hr : meth.sig.returnType = (some (.array (.object "FourParts$Four")))) (hts : ∀ w ∈ lw_all, w.before ([] : List Value).toArray s = true) (hown : s.vm.findClass yX0_units.cls = some m.cls) (hlocks : meth.locks = false) (hnm : meth.name = yX0_units.name) (hml : c.maxLocals = 6) (hK : va_K D vwCl (tysG ca) s) (hN : NW s) (hA : ∀ q, s.heap.size ≤ q → A q)  :
    ∀ (n : Nat) (k : Nat) (n9 : Nat) (ua : Nat → Nat) (un : AI), (k ≤ 125) → (uF (UK (2 - (ia : Int)) k (125 - k) ++ R) n9 un = (24, unC)) → (125 < n + k) →  ∀ (H : Heap) (locs : List Loc) (ls : Array Slot), va_P D vwCl ([(xa, rA ca 4 24 (uAr ua n9))] ++ PL ua un n9) H → va_D A ([(xa, rA ca 4 24 (uAr ua n9))] ++ PL ua un n9) → va_S A s.heap H locs → lv_has ls 6 [(3, .int (nI k)), (0, .ref xa), (1, .int (nI n9)), (2, .int (iZ (2 - ((ia : Nat) : Int))))] → W p l e ({ frames := 2, cells := 626, slots := 2524, locals := 48 }) s m ([] : List Value).toArray below meth c H locs (1 + (125 * ia + k)) (24 + 4 * (125 * ia + k)) (MQ below (qR D (fun (u : Nat → Nat) => True) (fun u a => ([(a, rA ca 4 24 (fun i => some (u i)))] ++ PL u unC 24)) (fun u a H => True) A) ([] : List Value).toArray s 626 2524 A) (F0 m 18 ls []) := by
  intro n
  induction n with
  | zero =>
    intro k n9 ua un hk1 hF hfuel H locs ls hP hD hS hl 
    exact absurd hfuel (by omega)
  | succ n ih =>
    intro k n9 ua un hk1 hF hfuel H locs ls hP hD hS hl 
    have hk := NW_ok
    refine lv_iload_n hx hb dX0_units_18 rfl (lv_at hl 0 rfl) ?_
    refine lv_bipush (v := 125) hx hb dX0_units_19 (by decide) ?_
    refine lv_icmp_ge (tgt := 102) hx hb dX0_units_21 (by decide) (fun c_1 => ?_) (fun c_1 => ?_)
    · have c_1 := le_y (a := 125) (b := k) rfl rfl (by omega) (by omega) c_1
      rw [show 125 - k = 0 by omega] at hF
      refine W.widen (k := 1 + 125 * (ia + 1)) (n := 24 + 4 * (125 * (ia + 1))) (by omega) (by omega) ?_
      exact hOut n9 ua un hF _ _ _ hP hD hS (lv_sub hl [1, 2, 3] rfl)
    · have c_1 := le_no (a := 125) (b := k) rfl rfl (by omega) (by omega) c_1
      rw [UK_s (by omega), List.cons_append] at hF
      have hlo := uq_low (a := 2 - (ia : Int)) (k := k) (by omega) (by omega) (by omega)
      refine va_new (ci := 1) (fs := [.long 0, .long 0, .long 0, .long 0]) (C := RX1) (T := TX1) (N := 4) hx hb hts in_X1 tyX1 tyX1_ok hown (hts _ q226) (hts _ q228) (hts _ q20) hK hP hD hS hA rfl (fun j hj => by rcases (show j = 0 ∨ j = 1 ∨ j = 2 ∨ j = 3 by omega) with rfl | rfl | rfl | rfl <;> rfl) (by show _ ≤ 626; omega) (by show _ ≤ 2524; omega) dX0_units_24 (fun q_2 H hP hD hS => ?_)
      have hP := vp_perm (pm_end _ _ _) hP
      have hD := vd_perm (pm_end _ _ _) hD
      have hP : va_P D vwCl ([(xa, rA ca 4 24 (uAr ua n9)), (q_2, .inr (1, [.long 0, .long 0, .long 0, .long 0]))] ++ PL ua un n9) H := hP
      have hD : va_D A ([(xa, rA ca 4 24 (uAr ua n9)), (q_2, .inr (1, [.long 0, .long 0, .long 0, .long 0]))] ++ PL ua un n9) := hD
      refine lv_dup hx hb dX0_units_27 rfl ?_
      refine lv_iload_n hx hb dX0_units_28 rfl (lv_at hl 3 rfl) ?_
      refine lv_i2l (v := (iZ (2 - ((ia : Nat) : Int))).toInt64) hx hb dX0_units_29 rfl ?_
      refine lv_iconst (v := 2) hx hb dX0_units_30 (by decide) ?_
      refine lv_iload_n hx hb dX0_units_31 rfl (lv_at hl 0 rfl) ?_
      refine lv_bipush (v := 25) hx hb dX0_units_32 (by decide) ?_
      refine lv_idiv hx hb dX0_units_34 (by decide) ?_
      refine lv_topi (fun z_3 ez_3 => ?_)
      obtain rfl : z_3 = nI (k / 25) := ez_3.trans (pk_div (d := 25) (by omega) (by decide) (by decide))
      refine lv_isub hx hb dX0_units_35 ?_
      refine lv_topi (fun z_4 ez_4 => ?_)
      obtain rfl : z_4 = iZ (2 - ((k / 25 : Nat) : Int)) := ez_4.trans (zsub (by decide) (iZ_n _))
      refine lv_i2l (v := (iZ (2 - ((k / 25 : Nat) : Int))).toInt64) hx hb dX0_units_36 rfl ?_
      refine lv_iconst (v := 2) hx hb dX0_units_37 (by decide) ?_
      refine lv_iload_n hx hb dX0_units_38 rfl (lv_at hl 0 rfl) ?_
      refine lv_iconst (v := 5) hx hb dX0_units_39 (by decide) ?_
      refine lv_idiv hx hb dX0_units_40 (by decide) ?_
      refine lv_topi (fun z_5 ez_5 => ?_)
      obtain rfl : z_5 = nI (k / 5) := ez_5.trans (pk_div (d := 5) (by omega) (by decide) (by decide))
      refine lv_iconst (v := 5) hx hb dX0_units_41 (by decide) ?_
      refine lv_irem hx hb dX0_units_42 (by decide) ?_
      refine lv_topi (fun z_6 ez_6 => ?_)
      obtain rfl : z_6 = nI (k / 5 % 5) := ez_6.trans (pk_rem (a := k / 5) (d := 5) (by omega) (by decide) (by decide))
      refine lv_isub hx hb dX0_units_43 ?_
      refine lv_topi (fun z_7 ez_7 => ?_)
      obtain rfl : z_7 = iZ (2 - ((k / 5 % 5 : Nat) : Int)) := ez_7.trans (zsub (by decide) (iZ_n _))
      refine lv_i2l (v := (iZ (2 - ((k / 5 % 5 : Nat) : Int))).toInt64) hx hb dX0_units_44 rfl ?_
      refine lv_iconst (v := 2) hx hb dX0_units_45 (by decide) ?_
      refine lv_iload_n hx hb dX0_units_46 rfl (lv_at hl 0 rfl) ?_
      refine lv_iconst (v := 5) hx hb dX0_units_47 (by decide) ?_
      refine lv_irem hx hb dX0_units_48 (by decide) ?_
      refine lv_topi (fun z_8 ez_8 => ?_)
      obtain rfl : z_8 = nI (k % 5) := ez_8.trans (pk_rem (d := 5) (by omega) (by decide) (by decide))
      refine lv_isub hx hb dX0_units_49 ?_
      refine lv_topi (fun z_9 ez_9 => ?_)
      obtain rfl : z_9 = iZ (2 - ((k % 5 : Nat) : Int)) := ez_9.trans (zsub (by decide) (iZ_n _))
      refine lv_i2l (v := (iZ (2 - ((k % 5 : Nat) : Int))).toInt64) hx hb dX0_units_50 rfl ?_
      refine k_callvP (wr := [(xa, rA ca 4 24 (uAr ua n9))]) (va_runI (As := [.long ((iZ (2 - ((ia : Nat) : Int))).toInt64), .long ((iZ (2 - ((k / 25 : Nat) : Int))).toInt64), .long ((iZ (2 - ((k / 5 % 5 : Nat) : Int))).toInt64), .long ((iZ (2 - ((k % 5 : Nat) : Int))).toInt64)]) (rest := [.ref q_2]) ⟨hx, hb, hml, hown, hts⟩ (ct_X1_init hk l D ca H.size q_2 ((iZ (2 - ((ia : Nat) : Int))).toInt64) ((iZ (2 - ((k / 25 : Nat) : Int))).toInt64) ((iZ (2 - ((k / 5 % 5 : Nat) : Int))).toInt64) ((iZ (2 - ((k % 5 : Nat) : Int))).toInt64) (0, 0, 0, 0)) (cwI 4 hts (lw_meth q231) rfl rfl rfl (hts _ q20) (hts _ q229) (hts _ q230) rfl (by decide +kernel) ⟨Nat.le_of_ble_eq_true rfl, Nat.le_of_ble_eq_true rfl⟩) (k_pre hk hK hN (vq_pre hP) (vd_pre hD) [1] (by decide) rfl trivial) rfl rfl hl.1 rfl (lv_room (Nat.le_of_ble_eq_true rfl)) dX0_units_51 ⟨by show _ ≤ 626; omega, by show _ ≤ 2524; omega⟩) hP hD hS hA [1] [0] rfl rfl (by decide) (by decide) (fun u_11 H locs w_12 hP hD hxw_12 hzw_12 hqw_12 hS => ?_)
      have hP : va_P D vwCl ([(xa, rA ca 4 24 (uAr ua n9)), (q_2, f4 ((iZ (2 - ((ia : Nat) : Int))).toInt64, (iZ (2 - ((k / 25 : Nat) : Int))).toInt64, (iZ (2 - ((k / 5 % 5 : Nat) : Int))).toInt64, (iZ (2 - ((k % 5 : Nat) : Int))).toInt64))] ++ PL ua un n9) H := hP
      have hD : va_D A ([(xa, rA ca 4 24 (uAr ua n9)), (q_2, f4 ((iZ (2 - ((ia : Nat) : Int))).toInt64, (iZ (2 - ((k / 25 : Nat) : Int))).toInt64, (iZ (2 - ((k / 5 % 5 : Nat) : Int))).toInt64, (iZ (2 - ((k % 5 : Nat) : Int))).toInt64))] ++ PL ua un n9) := hD
      have hP : va_P D vwCl ([(xa, rA ca 4 24 (uAr ua n9)), (q_2, f4 (qz (uq (2 - (ia : Int)) k)))] ++ PL ua un n9) H := hP
      have hD : va_D A ([(xa, rA ca 4 24 (uAr ua n9)), (q_2, f4 (qz (uq (2 - (ia : Int)) k)))] ++ PL ua un n9) := hD
      refine lv_astore (lv' := [(4, .ref q_2), (3, .int (nI k)), (0, .ref xa), (1, .int (nI n9)), (2, .int (iZ (2 - ((ia : Nat) : Int))))]) hx hb dX0_units_54 hl (by decide) rfl (fun ls hl => ?_)
      refine lv_aload hx hb dX0_units_56 (lv_at hl 0 rfl) ?_
      refine k_calllP (wr := [(xa, rA ca 4 24 (uAr ua n9)), (q_2, f4 (qz (uq (2 - (ia : Int)) k)))]) (kd_runV (x := yF_square) (owner := "FourParts$Parts") (As := []) (rest := []) ⟨hx, hb, hml, hown, hts⟩ (ct_X7_square l D ca H.size q_2 (qz (uq (2 - (ia : Int)) k))) qL_ret rfl (lw_meth q254) rfl rfl rfl ⟨Nat.le_of_ble_eq_true rfl, Nat.le_of_ble_eq_true rfl⟩ (hN.1 _ (List.mem_of_getElem? (i := 0) rfl)) (hN.1 _ (List.mem_of_getElem? (i := 5) rfl)) (va_Decl.abs hN.2.2.2.2.2.2.2.1.1) ⟨by decide, by decide⟩ hN.2.2.2.2.2.2.2.2.1 (hts _ q252) (by decide +kernel) (k_preV hk hK hN (vq_pre hP) (vd_pre hD) [] (by decide) rfl (Fo.of hP 1 rfl) hP rfl (q0 := 1) rfl) rfl rfl hl.1 rfl (lv_room (Nat.le_of_ble_eq_true rfl)) dX0_units_58 ⟨by show _ ≤ 626; omega, by show _ ≤ 2524; omega⟩) hP hD hS hA [] [0, 1] rfl rfl (by decide) (by decide) (fun r_13 u_14 H locs w_15 hP hD hxw_15 hzw_15 hqw_15 hS => ?_)
      obtain rfl : r_13 = q_sq (qz (uq (2 - (ia : Int)) k)) := w_15
      have hP : va_P D vwCl ([(xa, rA ca 4 24 (uAr ua n9)), (q_2, f4 (qz (uq (2 - (ia : Int)) k)))] ++ PL ua un n9) H := hP
      have hD : va_D A ([(xa, rA ca 4 24 (uAr ua n9)), (q_2, f4 (qz (uq (2 - (ia : Int)) k)))] ++ PL ua un n9) := hD
      refine lv_ldc2 hx hb hown (hts _ q265) dX0_units_61 ?_
      refine k_lc_ne (tgt := 80) hx hb dX0_units_64 dX0_units_65 (by decide) (fun c_16 => ?_) (fun c_16 => ?_)
      · refine lv_iconst (v := 0) hx hb dX0_units_80 (by decide) ?_
        refine lv_istore (lv' := [(5, .int 0), (4, .ref q_2), (3, .int (nI k)), (0, .ref xa), (1, .int (nI n9)), (2, .int (iZ (2 - ((ia : Nat) : Int))))]) hx hb dX0_units_81 hl (by decide) rfl (fun ls hl => ?_)
        refine lv_iload hx hb dX0_units_83 (lv_at hl 0 rfl) ?_
        refine lv_if_eq (tgt := 96) hx hb dX0_units_85 (by decide) (fun c_17 => ?_) (fun c_17 => absurd (by decide) c_17)
        refine lv_iinc (v := nI (k + 1)) (lv' := [(3, .int (nI (k + 1))), (5, .int 0), (4, .ref q_2), (0, .ref xa), (1, .int (nI n9)), (2, .int (iZ (2 - ((ia : Nat) : Int))))]) hx hb dX0_units_96 hl (k := 2) rfl (eq_add rfl rfl) (by decide) rfl (fun ls hl => ?_)
        refine lv_goto (tgt := 18) hx hb dX0_units_99 (by decide) ?_
        have hok : okU (qz (uq (2 - (ia : Int)) k)) = false := by simp only [okU, Bool.and_eq_false_iff, decide_eq_false_iff_not]; exact Or.inl c_16
        rw [uF_n hok] at hF
        have hP := vp_drop (X := [(xa, rA ca 4 24 (uAr ua n9))]) (Y := [_]) hP
        have hD : va_D A ([(xa, rA ca 4 24 (uAr ua n9))] ++ PL ua un n9) := vd_sub (List.Sublist.append (List.sublist_append_left _ _) (List.Sublist.refl _)) hD
        refine W.widen (k := 1 + (125 * ia + (k + 1))) (n := 24 + 4 * (125 * ia + (k + 1))) (by omega) (by omega) ?_
        exact ih (k + 1) n9 ua un (by omega) hF (by omega) _ _ _ hP hD hS (lv_sub hl [0, 3, 4, 5] rfl) 
      · refine lv_aload hx hb dX0_units_68 (lv_at hl 0 rfl) ?_
        refine k_calliP (wr := [(xa, rA ca 4 24 (uAr ua n9)), (q_2, f4 (qz (uq (2 - (ia : Int)) k)))]) (va_runS (As := [.ref q_2]) (rest := []) ⟨hx, hb, hml, hown, hts⟩ (ct_X0_isAlike hk l D ca H.size q_2 (qz (uq (2 - (ia : Int)) k))) (va_cwS 1 hts (lw_S q266 q267 q19 q268) rfl rfl rfl (by decide +kernel) ⟨Nat.le_of_ble_eq_true rfl, Nat.le_of_ble_eq_true rfl⟩) (k_pre hk hK hN (vq_pre hP) (vd_pre hD) [] (by decide) rfl (Fo.of hP 1 rfl)) rfl rfl hl.1 rfl (lv_room (Nat.le_of_ble_eq_true rfl)) dX0_units_70 ⟨by show _ ≤ 626; omega, by show _ ≤ 2524; omega⟩) hP hD hS hA [] [0, 1] rfl rfl (by decide) (by decide) (fun r_18 u_19 H locs w_20 hP hD hxw_20 hzw_20 hqw_20 hS => ?_)
        obtain rfl : r_18 = bI (q_al (qz (uq (2 - (ia : Int)) k))) := w_20
        refine lv_if_eq (tgt := 80) hx hb dX0_units_73 (by decide) (fun c_21 => ?_) (fun c_21 => ?_)
        · have c_21 := bI_z0 c_21
          refine lv_iconst (v := 0) hx hb dX0_units_80 (by decide) ?_
          refine lv_istore (lv' := [(5, .int 0), (4, .ref q_2), (3, .int (nI k)), (0, .ref xa), (1, .int (nI n9)), (2, .int (iZ (2 - ((ia : Nat) : Int))))]) hx hb dX0_units_81 hl (by decide) rfl (fun ls hl => ?_)
          refine lv_iload hx hb dX0_units_83 (lv_at hl 0 rfl) ?_
          refine lv_if_eq (tgt := 96) hx hb dX0_units_85 (by decide) (fun c_22 => ?_) (fun c_22 => absurd (by decide) c_22)
          refine lv_iinc (v := nI (k + 1)) (lv' := [(3, .int (nI (k + 1))), (5, .int 0), (4, .ref q_2), (0, .ref xa), (1, .int (nI n9)), (2, .int (iZ (2 - ((ia : Nat) : Int))))]) hx hb dX0_units_96 hl (k := 2) rfl (eq_add rfl rfl) (by decide) rfl (fun ls hl => ?_)
          refine lv_goto (tgt := 18) hx hb dX0_units_99 (by decide) ?_
          have hok : okU (qz (uq (2 - (ia : Int)) k)) = false := by simp only [okU, Bool.and_eq_false_iff]; exact Or.inr c_21
          rw [uF_n hok] at hF
          have hP := vp_drop (X := [(xa, rA ca 4 24 (uAr ua n9))]) (Y := [_]) hP
          have hD : va_D A ([(xa, rA ca 4 24 (uAr ua n9))] ++ PL ua un n9) := vd_sub (List.Sublist.append (List.sublist_append_left _ _) (List.Sublist.refl _)) hD
          refine W.widen (k := 1 + (125 * ia + (k + 1))) (n := 24 + 4 * (125 * ia + (k + 1))) (by omega) (by omega) ?_
          exact ih (k + 1) n9 ua un (by omega) hF (by omega) _ _ _ hP hD hS (lv_sub hl [0, 3, 4, 5] rfl) 
        · have c_21 := bI_z1 c_21
          refine lv_iconst (v := 1) hx hb dX0_units_76 (by decide) ?_
          refine lv_goto (tgt := 81) hx hb dX0_units_77 (by decide) ?_
          refine lv_istore (lv' := [(5, .int 1), (4, .ref q_2), (3, .int (nI k)), (0, .ref xa), (1, .int (nI n9)), (2, .int (iZ (2 - ((ia : Nat) : Int))))]) hx hb dX0_units_81 hl (by decide) rfl (fun ls hl => ?_)
          refine lv_iload hx hb dX0_units_83 (lv_at hl 0 rfl) ?_
          refine lv_if_eq (tgt := 96) hx hb dX0_units_85 (by decide) (fun c_23 => absurd c_23 (by decide)) (fun c_23 => ?_)
          refine lv_aload_n hx hb dX0_units_88 rfl (lv_at hl 3 rfl) ?_
          refine lv_iload_n hx hb dX0_units_89 rfl (lv_at hl 4 rfl) ?_
          refine lv_aload hx hb dX0_units_90 (lv_at hl 1 rfl) ?_
          have hok : okU (qz (uq (2 - (ia : Int)) k)) = true := by simp only [okU, Bool.and_eq_true, decide_eq_true_eq]; exact ⟨c_16, c_21⟩
          rw [uF_y hok] at hF
          have hn24 : n9 < 24 := by have := uF_le (UK (2 - (ia : Int)) (k + 1) (125 - (k + 1)) ++ R) (n9 + 1) (wq un n9 (qz (uq (2 - (ia : Int)) k))); rw [hF] at this; exact this
          refine va_astq hx hb hK hP hD hS 0 4 1 1 rfl rfl rfl rfl (vin_nI (a := n9) rfl (by omega) (by decide)) dX0_units_92 (fun H locs hP hD hS => ?_)
          rw [nI_clamp (show n9 < 2 ^ 31 by omega), uAr_s] at hP hD
          have hP : va_P D vwCl ([(xa, rA ca 4 24 (uAr (va_up ua n9 q_2) (n9 + 1))), (q_2, f4 (qz (uq (2 - (ia : Int)) k)))] ++ PL ua un n9) H := hP
          have hD : va_D A ([(xa, rA ca 4 24 (uAr (va_up ua n9 q_2) (n9 + 1))), (q_2, f4 (qz (uq (2 - (ia : Int)) k)))] ++ PL ua un n9) := hD
          have hP := vp_perm (pm_pool [_] _ _) hP
          have hD := vd_perm (pm_pool [_] _ _) hD
          rw [PL_s hlo] at hP hD
          have hP : va_P D vwCl ([(xa, rA ca 4 24 (uAr (va_up ua n9 q_2) (n9 + 1)))] ++ PL (va_up ua n9 q_2) (wq un n9 (qz (uq (2 - (ia : Int)) k))) (n9 + 1)) H := hP
          have hD : va_D A ([(xa, rA ca 4 24 (uAr (va_up ua n9 q_2) (n9 + 1)))] ++ PL (va_up ua n9 q_2) (wq un n9 (qz (uq (2 - (ia : Int)) k))) (n9 + 1)) := hD
          refine lv_iinc (v := nI (n9 + 1)) (lv' := [(1, .int (nI (n9 + 1))), (5, .int 1), (4, .ref q_2), (3, .int (nI k)), (0, .ref xa), (2, .int (iZ (2 - ((ia : Nat) : Int))))]) hx hb dX0_units_93 hl (k := 4) rfl (eq_add rfl rfl) (by decide) rfl (fun ls hl => ?_)
          refine lv_iinc (v := nI (k + 1)) (lv' := [(3, .int (nI (k + 1))), (1, .int (nI (n9 + 1))), (5, .int 1), (4, .ref q_2), (0, .ref xa), (2, .int (iZ (2 - ((ia : Nat) : Int))))]) hx hb dX0_units_96 hl (k := 3) rfl (eq_add rfl rfl) (by decide) rfl (fun ls hl => ?_)
          refine lv_goto (tgt := 18) hx hb dX0_units_99 (by decide) ?_
          refine W.widen (k := 1 + (125 * ia + (k + 1))) (n := 24 + 4 * (125 * ia + (k + 1))) (by omega) (by omega) ?_
          exact ih (k + 1) (n9 + 1) (va_up ua n9 q_2) (wq un n9 (qz (uq (2 - (ia : Int)) k))) (by omega) hF (by omega) _ _ _ hP hD hS (lv_sub hl [0, 4, 1, 5] rfl) 
set_option maxHeartbeats 4000000 in
set_option maxRecDepth 100000 in
theorem lp_X0_units_a  {l : Launch} {D : va_G} {ca : Nat → ClassId} (xa : Nat)  {p : Program} {e : Env} {s : State} {m : MethodId} {below : List Frame} {meth : Method} {c : Code} {A : Nat → Prop}  (hx : p.tables.exec = Jvm.exec) (hb : c.code = cX0_units) (hr : meth.sig.returnType = (some (.array (.object "FourParts$Four")))) (hts : ∀ w ∈ lw_all, w.before ([] : List Value).toArray s = true) (hown : s.vm.findClass yX0_units.cls = some m.cls) (hlocks : meth.locks = false) (hnm : meth.name = yX0_units.name) (hml : c.maxLocals = 6) (hK : va_K D vwCl (tysG ca) s) (hN : NW s) (hA : ∀ q, s.heap.size ≤ q → A q)  :
    ∀ (n : Nat) (ia : Nat) (n9 : Nat) (ua : Nat → Nat) (un : AI), (ia ≤ 5) → (uF (UAl (2 - (ia : Int)) (5 - ia)) n9 un = (24, unC)) → (5 < n + ia) →  ∀ (H : Heap) (locs : List Loc) (ls : Array Slot), va_P D vwCl ([(xa, rA ca 4 24 (uAr ua n9))] ++ PL ua un n9) H → va_D A ([(xa, rA ca 4 24 (uAr ua n9))] ++ PL ua un n9) → va_S A s.heap H locs → lv_has ls 6 [(0, .ref xa), (1, .int (nI n9)), (2, .int (iZ (2 - ((ia : Nat) : Int))))] → W p l e ({ frames := 2, cells := 626, slots := 2524, locals := 48 }) s m ([] : List Value).toArray below meth c H locs (1 + 125 * ia) (24 + 4 * (125 * ia)) (MQ below (qR D (fun (u : Nat → Nat) => True) (fun u a => ([(a, rA ca 4 24 (fun i => some (u i)))] ++ PL u unC 24)) (fun u a H => True) A) ([] : List Value).toArray s 626 2524 A) (F0 m 10 ls []) := by
  intro n
  induction n with
  | zero =>
    intro ia n9 ua un hia hF hfuel H locs ls hP hD hS hl 
    exact absurd hfuel (by omega)
  | succ n ih =>
    intro ia n9 ua un hia hF hfuel H locs ls hP hD hS hl 
    have hk := NW_ok
    refine lv_iload_n hx hb dX0_units_10 rfl (lv_at hl 2 rfl) ?_
    refine lv_bipush (v := (-2)) hx hb dX0_units_11 (by decide) ?_
    refine lv_icmp_lt (tgt := 108) hx hb dX0_units_13 (by decide) (fun c_1 => ?_) (fun c_1 => ?_)
    · have c_1 := ltz_y (a := 2 - ((ia : Nat) : Int)) (b := (-2)) rfl (show (-2 : Int32) = iZ (-2) from by decide) (by omega) (by omega) c_1
      refine lv_aload_n hx hb dX0_units_108 rfl (lv_at hl 0 rfl) ?_
      obtain rfl : ia = 5 := by omega
      have hF : (n9, un) = (24, unC) := hF
      obtain ⟨rfl, rfl⟩ := Prod.mk.inj hF
      exact k_aret ua hx hb hr (Or.inr ⟨_, rfl⟩) hlocks trivial (uAr_24 hP) (vd_cell hD) trivial hS (by omega) (by omega) dX0_units_109
    · have c_1 := ltz_no (a := 2 - ((ia : Nat) : Int)) (b := (-2)) rfl (show (-2 : Int32) = iZ (-2) from by decide) (by omega) (by omega) c_1
      refine lv_iconst (v := 0) hx hb dX0_units_16 (by decide) ?_
      refine lv_istore_n (lv' := [(3, .int 0), (0, .ref xa), (1, .int (nI n9)), (2, .int (iZ (2 - ((ia : Nat) : Int))))]) hx hb dX0_units_17 rfl hl (by decide) rfl (fun ls hl => ?_)
      rw [show 5 - ia = (4 - ia) + 1 by omega] at hF
      refine W.widen (k := 1 + (125 * ia + 0)) (n := 24 + 4 * (125 * ia + 0)) (by omega) (by omega) ?_
      refine lp_X0_units_k xa ia (UAl (2 - (ia : Int) - 1) (4 - ia)) (by omega) (fun n9 ua un hF H locs ls hP hD hS hl => ?_) hx hb hr hts hown hlocks hnm hml hK hN hA  126 0 n9 ua un (by omega) hF (by omega) _ _ _ hP hD hS (lv_sub hl [0, 1, 2, 3] rfl)
      refine lv_iinc (v := iZ ((2 - ((ia : Nat) : Int)) - 1)) (lv' := [(2, .int (iZ ((2 - ((ia : Nat) : Int)) - 1))), (0, .ref xa), (1, .int (nI n9))]) hx hb dX0_units_102 hl (k := 2) rfl ((zadd rfl (b := -1) (by decide)).trans (congrArg iZ (by omega))) (by decide) rfl (fun ls hl => ?_)
      refine lv_goto (tgt := 10) hx hb dX0_units_105 (by decide) ?_
      have e1 : (2 : Int) - ((ia + 1 : Nat) : Int) = 2 - (ia : Int) - 1 := by omega
      rw [← e1] at hl hF
      exact ih (ia + 1) n9 ua un (by omega) (by rw [show 5 - (ia + 1) = 4 - ia from by omega]; exact hF) (by omega) _ _ _ hP hD hS (lv_sub hl [1, 2, 0] rfl) 
set_option maxHeartbeats 4000000 in
set_option maxRecDepth 100000 in
theorem ct_X0_units (l : Launch) (D : va_G) (ca : Nat → ClassId) (zH : Nat)   : Met l yX0_units (ws_ yX0_units cX0_units 6 (some (.array (.object "FourParts$Four")))) ({ frames := 2, cells := 626, slots := 2524, locals := 48 }) (va_Pc [] (pr_ NW D ca [] zH (fun _ => True))) (qR D (fun (u : Nat → Nat) => True) (fun u a => ([(a, rA ca 4 24 (fun i => some (u i)))] ++ PL u unC 24)) (fun u a H => True) (va_A [] zH)) 626 2524 (va_A [] zH) := by
  have hk := NW_ok
  refine k_ofW (Qc := qR D (fun (u : Nat → Nat) => True) (fun u a => ([(a, rA ca 4 24 (fun i => some (u i)))] ++ PL u unC 24)) (fun u a H => True)) (by decide) (Nat.le_of_ble_eq_true rfl) ?_
  intro p e s m below meth c ls A H hH hx hb hr hts hown hlocks hnm hml hsz hP hD hK hN hA hAn hS hro hl
  have hl : lv_has ls 6 [] := hl
  refine lv_bipush (v := 24) hx hb dX0_units_0 (by decide) ?_
  refine va_newq hx hb hown (hts _ q226) (hN.2.2.2.2.2.1 _ (List.mem_of_getElem? (i := 1) rfl)) hK hP hD hS hA (n := 24) (N' := 24) (by decide) (by decide) (by decide) (Nat.le_of_ble_eq_true rfl) (Nat.le_of_ble_eq_true rfl) dX0_units_2 (fun xa cA H hK9 hP hD hS => ?_)
  obtain ⟨-, -, -, -, -, hn9⟩ := (hK9.2 6 _ rfl).2
  obtain ⟨-, -, -, -, -, hn4⟩ := (hK.2 4 _ rfl).2
  have ecA : cA = ca 4 := Option.some.inj (hn9.symm.trans hn4)
  subst ecA
  have hP : va_P D vwCl ([(xa, rA ca 4 24 (uAr (fun _ => 0) 0))] ++ PL (fun _ => 0) (fun _ => 0) 0) H := hP
  have hD : va_D A ([(xa, rA ca 4 24 (uAr (fun _ => 0) 0))] ++ PL (fun _ => 0) (fun _ => 0) 0) := hD
  refine lv_astore_n (lv' := [(0, .ref xa)]) hx hb dX0_units_5 rfl hl (by decide) rfl (fun ls hl => ?_)
  refine lv_iconst (v := 0) hx hb dX0_units_6 (by decide) ?_
  refine lv_istore_n (lv' := [(1, .int 0), (0, .ref xa)]) hx hb dX0_units_7 rfl hl (by decide) rfl (fun ls hl => ?_)
  refine lv_iconst (v := 2) hx hb dX0_units_8 (by decide) ?_
  refine lv_istore_n (lv' := [(2, .int 2), (1, .int 0), (0, .ref xa)]) hx hb dX0_units_9 rfl hl (by decide) rfl (fun ls hl => ?_)
  refine W.widen (k := 1 + 125 * 0) (n := 24 + 4 * (125 * 0)) (by omega) (by omega) ?_
  exact lp_X0_units_a xa  hx hb hr hts hown hlocks hnm hml hK hN hA  6 0 0 (fun _ => 0) (fun _ => 0) (by omega) (by rw [← uF_24]; rfl) (by omega) _ _ _ hP hD hS (lv_sub hl [2, 1, 0] rfl) 
