set_option maxHeartbeats 4000000 in
set_option maxRecDepth 100000 in
theorem lp_X0_isPrime {KN : State → Prop} (hk : KNok KN) {l : Launch} {D : va_G} {ca : Nat → ClassId} (P : Nat) (hP0 : P < 2 ^ 40) (hP1 : 1 < P) {p : Program} {e : Env} {s : State} {m : MethodId} {below : List Frame} {meth : Method} {c : Code} {A : Nat → Prop}  (hx : p.tables.exec = Jvm.exec) (hb : c.code = cX0_isPrime) (hr : meth.sig.returnType = (some .boolean)) (hts : ∀ w ∈ lw_all, w.before ([.long (lN P)] : List Value).toArray s = true) (hown : s.vm.findClass yX0_isPrime.cls = some m.cls) (hlocks : meth.locks = false) (hnm : meth.name = yX0_isPrime.name) (hml : c.maxLocals = 5) (hK : va_K D vwCl (tysG ca) s) (hN : KN s) (hA : ∀ q, s.heap.size ≤ q → A q)  :
    ∀ (n : Nat) (d : Nat) (tb : Bool), (2 ≤ d) → (d ≤ 2 ^ 20 + 1) → (tb = true → ∀ e : Nat, 2 ≤ e → e < d → ¬ P % e = 0) → (tb = false → ¬ isPr P) → (2 ^ 20 + 2 ≤ n + d) →  ∀ (H : Heap) (locs : List Loc) (ls : Array Slot), va_P D vwCl [] H → va_D A [] → va_S A s.heap H locs → lv_has ls 5 [(3, .long (lN d)), (2, .int (bI tb)), (0, .long (lN P))] → W p l e ({ frames := 0, cells := 0, slots := 0, locals := 0 }) s m ([.long (lN P)] : List Value).toArray below meth c H locs 0 0 (MQ below (qI D (fun (r : Int32) (u : Bool) => r = bI u ∧ (u = true ↔ isPr (lN P).toInt)) (fun u => []) (fun u H => True) A) ([.long (lN P)] : List Value).toArray s 0 0 A) (F0 m 16 ls []) := by
  intro n
  induction n with
  | zero =>
    intro d tb hd hd2 hT hF hfuel H locs ls hP hD hS hl 
    exact absurd hfuel (by omega)
  | succ n ih =>
    intro d tb hd hd2 hT hF hfuel H locs ls hP hD hS hl 
    refine lv_iload_n hx hb dX0_isPrime_16 rfl (lv_at hl 1 rfl) ?_
    refine lv_if_eq (tgt := 49) hx hb dX0_isPrime_17 (by decide) (fun c_1 => ?_) (fun c_1 => ?_)
    · have c_1 := bI_z0 c_1
      refine lv_iload_n hx hb dX0_isPrime_49 rfl (lv_at hl 1 rfl) ?_
      exact k_zret tb hx hb hr hlocks (bI_nar _) (⟨rfl, by rw [pk_lT (by omega)]; exact ⟨fun z => absurd (z.symm.trans c_1) (by decide), fun z => absurd z (hF c_1)⟩⟩) hP hD trivial hS (Nat.le_of_ble_eq_true rfl) (Nat.le_of_ble_eq_true rfl) dX0_isPrime_50
    · have c_1 := bI_z1 c_1
      refine lv_lload_n hx hb dX0_isPrime_20 rfl (lv_at hl 0 rfl) ?_
      refine lv_lload_n hx hb dX0_isPrime_21 rfl (lv_at hl 0 rfl) ?_
      refine lv_lmul hx hb dX0_isPrime_22 ?_
      refine lv_lload_n hx hb dX0_isPrime_23 rfl (lv_at hl 2 rfl) ?_
      refine k_lc_gt (tgt := 49) hx hb dX0_isPrime_24 dX0_isPrime_25 (by decide) (fun c_2 => ?_) (fun c_2 => ?_)
      · have c_2 := (lN_sqlt (by omega) (by omega)).mp c_2
        refine lv_iload_n hx hb dX0_isPrime_49 rfl (lv_at hl 1 rfl) ?_
        exact k_zret tb hx hb hr hlocks (bI_nar _) (⟨rfl, by rw [pk_lT (by omega)]; exact ⟨fun z => isPr_n.mpr ⟨hP1, fun e he hl => hT z e he (Nat.lt_of_not_le fun q => by have := sq_lt q; omega)⟩, fun z => by cases htb : tb with
          | false => exact absurd z (hF htb)
          | true => rfl⟩⟩) hP hD trivial hS (Nat.le_of_ble_eq_true rfl) (Nat.le_of_ble_eq_true rfl) dX0_isPrime_50
      · have c_2 : d * d ≤ P := Nat.le_of_not_lt fun z => c_2 ((lN_sqlt (by omega) (by omega)).mpr z)
        have hd3 : d ≤ 2 ^ 20 := root_le (b := 2 ^ 20) c_2 (by omega)
        refine lv_lload_n hx hb dX0_isPrime_28 rfl (lv_at hl 2 rfl) ?_
        refine lv_lload_n hx hb dX0_isPrime_29 rfl (lv_at hl 0 rfl) ?_
        refine lv_lrem hx hb dX0_isPrime_30 (by intro z; have := lN_z (by omega) z; omega) ?_
        refine lv_topl (fun z_3 ez_3 => ?_)
        obtain rfl : z_3 = lN (P % d) := ez_3.trans (pk_lRem (by omega) (by omega) (by omega))
        refine lv_lconst (v := 0) hx hb dX0_isPrime_31 (by decide) ?_
        refine k_lc_eq (tgt := 40) hx hb dX0_isPrime_32 dX0_isPrime_33 (by decide) (fun c_4 => ?_) (fun c_4 => ?_)
        · refine lv_iconst (v := 0) hx hb dX0_isPrime_40 (by decide) ?_
          refine lv_istore_n (lv' := [(2, .int 0), (3, .long (lN d)), (0, .long (lN P))]) hx hb dX0_isPrime_41 rfl hl (by decide) rfl (fun ls hl => ?_)
          refine lv_lload_n hx hb dX0_isPrime_42 rfl (lv_at hl 1 rfl) ?_
          refine lv_lconst (v := 1) hx hb dX0_isPrime_43 (by decide) ?_
          refine lv_ladd hx hb dX0_isPrime_44 ?_
          refine lv_topl (fun z_5 ez_5 => ?_)
          obtain rfl : z_5 = lN (d + 1) := ez_5.trans (lN_1 d)
          refine lv_lstore_n (lv' := [(3, .long (lN (d + 1))), (2, .int 0), (0, .long (lN P))]) hx hb dX0_isPrime_45 rfl hl (by decide) rfl (fun ls hl => ?_)
          refine lv_goto (tgt := 16) hx hb dX0_isPrime_46 (by decide) ?_
          exact ih (d + 1) false (by omega) (by omega) (fun z => absurd z (by decide)) (fun _ z => (isPr_n.mp z).2 d hd c_2 (lN_z (by have := Nat.mod_lt P (show 0 < d by omega); omega) c_4)) (by omega) _ _ _ hP hD hS (lv_sub hl [0, 1, 2] rfl) 
        · refine lv_iconst (v := 1) hx hb dX0_isPrime_36 (by decide) ?_
          refine lv_goto (tgt := 41) hx hb dX0_isPrime_37 (by decide) ?_
          refine lv_istore_n (lv' := [(2, .int 1), (3, .long (lN d)), (0, .long (lN P))]) hx hb dX0_isPrime_41 rfl hl (by decide) rfl (fun ls hl => ?_)
          refine lv_lload_n hx hb dX0_isPrime_42 rfl (lv_at hl 1 rfl) ?_
          refine lv_lconst (v := 1) hx hb dX0_isPrime_43 (by decide) ?_
          refine lv_ladd hx hb dX0_isPrime_44 ?_
          refine lv_topl (fun z_6 ez_6 => ?_)
          obtain rfl : z_6 = lN (d + 1) := ez_6.trans (lN_1 d)
          refine lv_lstore_n (lv' := [(3, .long (lN (d + 1))), (2, .int 1), (0, .long (lN P))]) hx hb dX0_isPrime_45 rfl hl (by decide) rfl (fun ls hl => ?_)
          refine lv_goto (tgt := 16) hx hb dX0_isPrime_46 (by decide) ?_
          exact ih (d + 1) true (by omega) (by omega) (fun _ => pr_ext (hT c_1) (fun z => lN_nz c_4 z)) (fun z => absurd z (by decide)) (by omega) _ _ _ hP hD hS (lv_sub hl [0, 1, 2] rfl) 
set_option maxHeartbeats 4000000 in
set_option maxRecDepth 100000 in
theorem ct_X0_isPrime {KN : State → Prop} (hk : KNok KN) (l : Launch) (D : va_G) (ca : Nat → ClassId) (zH : Nat) (p0 : Int64) (hp0 : p0.toInt < 2 ^ 40) : Met l yX0_isPrime (ws_ yX0_isPrime cX0_isPrime 5 (some .boolean)) ({ frames := 0, cells := 0, slots := 0, locals := 0 }) (va_Pc [.long p0] (pr_ KN D ca [] zH (fun _ => True))) (qI D (fun (r : Int32) (u : Bool) => r = bI u ∧ (u = true ↔ isPr p0.toInt)) (fun u => []) (fun u H => True) (va_A [] zH)) 0 0 (va_A [] zH) := by
  refine k_ofW (Qc := qI D (fun (r : Int32) (u : Bool) => r = bI u ∧ (u = true ↔ isPr p0.toInt)) (fun u => []) (fun u H => True)) (by decide) (Nat.le_of_ble_eq_true rfl) ?_
  intro p e s m below meth c ls A H hH hx hb hr hts hown hlocks hnm hml hsz hP hD hK hN hA hAn hS hro hl
  have hl : lv_has ls 5 [(0, .long p0)] := hl
  refine lv_lload_n hx hb dX0_isPrime_0 rfl (lv_at hl 0 rfl) ?_
  refine lv_lconst (v := 1) hx hb dX0_isPrime_1 (by decide) ?_
  refine k_lc_le (tgt := 10) hx hb dX0_isPrime_2 dX0_isPrime_3 (by decide) (fun c_1 => ?_) (fun c_1 => ?_)
  · refine lv_iconst (v := 0) hx hb dX0_isPrime_10 (by decide) ?_
    refine lv_istore_n (lv' := [(2, .int 0), (0, .long p0)]) hx hb dX0_isPrime_11 rfl hl (by decide) rfl (fun ls hl => ?_)
    refine lv_ldc2 hx hb hown (hts _ q135) dX0_isPrime_12 ?_
    refine lv_lstore_n (lv' := [(3, .long 2), (2, .int 0), (0, .long p0)]) hx hb dX0_isPrime_15 rfl hl (by decide) rfl (fun ls hl => ?_)
    refine lv_iload_n hx hb dX0_isPrime_16 rfl (lv_at hl 1 rfl) ?_
    refine lv_if_eq (tgt := 49) hx hb dX0_isPrime_17 (by decide) (fun c_2 => ?_) (fun c_2 => absurd (by decide) c_2)
    refine lv_iload_n hx hb dX0_isPrime_49 rfl (lv_at hl 1 rfl) ?_
    exact k_zret false hx hb hr hlocks (by decide) (⟨rfl, by simp only [Bool.false_eq_true, false_iff]; exact pr_le1 c_1⟩) hP hD trivial hS (Nat.le_of_ble_eq_true rfl) (Nat.le_of_ble_eq_true rfl) dX0_isPrime_50
  · obtain ⟨P, hP0, hP1, rfl⟩ := l_gt1 c_1 hp0
    refine lv_iconst (v := 1) hx hb dX0_isPrime_6 (by decide) ?_
    refine lv_goto (tgt := 11) hx hb dX0_isPrime_7 (by decide) ?_
    refine lv_istore_n (lv' := [(2, .int 1), (0, .long (lN P))]) hx hb dX0_isPrime_11 rfl hl (by decide) rfl (fun ls hl => ?_)
    refine lv_ldc2 hx hb hown (hts _ q135) dX0_isPrime_12 ?_
    refine lv_lstore_n (lv' := [(3, .long 2), (2, .int 1), (0, .long (lN P))]) hx hb dX0_isPrime_15 rfl hl (by decide) rfl (fun ls hl => ?_)
    exact lp_X0_isPrime hk P hP0 hP1  hx hb hr hts hown hlocks hnm hml hK hN hA  (2 ^ 20) 2 true (by omega) (by omega) (fun _ e h1 h2 => by omega) (fun z => absurd z (by decide)) (by omega) _ _ _ hP hD hS (lv_sub hl [0, 1, 2] rfl) 
/-- m longs from place k on are primes whose product is M -/
def wR (f : AL) : Nat → Nat → Nat → Prop
  | _, 0, M => M = 1
  | k, m + 1, M => isPr (f k).toInt ∧ ∃ M' : Nat, (M : Int) = (f k).toInt * M' ∧ wR f (k + 1) m M'
theorem wR_pos {f : AL} : ∀ (m k M : Nat), wR f k m M → 0 < M
  | 0, k, M, h => by have h : M = 1 := h; omega
  | m + 1, k, M, h => by
    obtain ⟨h1, M', h2, h3⟩ := h
    have h4 := wR_pos m (k + 1) M' h3
    have h5 := h1.1
    rcases Nat.eq_zero_or_pos M with q | q
    · have : (0 : Int) < (f k).toInt * M' := Int.mul_pos (by omega) (by omega)
      omega
    · exact q
theorem wR_le {f : AL} {m k M : Nat} (h : wR f k (m + 1) M) : 1 < (f k).toInt ∧ (f k).toInt ≤ M ∧ (f k).toInt ∣ (M : Int) := by
  obtain ⟨h1, M', h2, h3⟩ := h
  have h4 := wR_pos m (k + 1) M' h3
  refine ⟨h1.1, ?_, ⟨M', h2⟩⟩
  rw [h2]
  have h5 := h1.1
  have : (f k).toInt * 1 ≤ (f k).toInt * M' := Int.mul_le_mul_of_nonneg_left (by omega) (by omega)
  omega
theorem wR_st {f : AL} {m k M pp : Nat} (hp : (f k).toInt = pp) (hpr : isPr (f k).toInt) (hd : M % pp = 0) (h0 : 0 < pp) : wR f k (m + 1) M ↔ wR f (k + 1) m (M / pp) := by
  constructor
  · rintro ⟨h1, M', h2, h3⟩
    rw [hp] at h2
    have h4 : M = pp * M' := by exact_mod_cast h2
    rw [h4, Nat.mul_div_cancel_left _ h0]
    exact h3
  · intro h
    refine ⟨hpr, M / pp, ?_, h⟩
    rw [hp]
    have : M = pp * (M / pp) := by rw [Nat.mul_div_cancel' (Nat.dvd_of_mod_eq_zero hd)]
    exact_mod_cast this
theorem l_2P {x : Int64} {P : Nat} (hP : P < 2 ^ 40) (h1 : ¬ x < 2) (h2 : ¬ lN P < x) : ∃ pp : Nat, 2 ≤ pp ∧ pp ≤ P ∧ x = lN pp := by
  rw [Int64.lt_iff_toInt_lt] at h1 h2
  have h3 : (2 : Int64).toInt = 2 := by decide
  rw [pk_lT (by omega)] at h2
  obtain ⟨k, hk, rfl⟩ := pk_lOf (x := x) (by rw [Int64.lt_iff_toInt_lt]; have h0 : (0 : Int64).toInt = 0 := by decide
                                             omega)
  rw [pk_lT hk] at h1 h2
  exact ⟨k, by omega, by omega, rfl⟩
theorem rf_1 {x : Int64} (h : x < 2) : ¬ 1 < x.toInt := by
  rw [Int64.lt_iff_toInt_lt] at h
  have h3 : (2 : Int64).toInt = 2 := by decide
  omega
theorem rf_2 {x : Int64} {P M : Nat} (hM : M ≤ P ∧ P < 2 ^ 40) (h : lN P < x) : ¬ x.toInt ≤ M := by
  rw [Int64.lt_iff_toInt_lt, pk_lT (by omega)] at h
  omega
theorem rf_3 {x : Int} {M pp : Nat} (hp : x = pp) (h : x ∣ (M : Int)) : M % pp = 0 := by
  rw [hp] at h
  exact Nat.mod_eq_zero_of_dvd (by exact_mod_cast h)
set_option maxHeartbeats 4000000 in
set_option maxRecDepth 100000 in
theorem lp_X0_refusal {KN : State → Prop} (hk : KNok KN) {l : Launch} {D : va_G} {ca : Nat → ClassId} (h0 : Nat) (nn : Nat) (f : AL) (P : Nat) (hnn : nn ≤ 12) (hP0 : P < 2 ^ 40) (hP1 : 0 < P) {p : Program} {e : Env} {s : State} {m : MethodId} {below : List Frame} {meth : Method} {c : Code} {A : Nat → Prop}  (hx : p.tables.exec = Jvm.exec) (hb : c.code = cX0_refusal) (hr : meth.sig.returnType = (some .int)) (hts : ∀ w ∈ lw_all, w.before ([.ref h0, .long (lN P)] : List Value).toArray s = true) (hown : s.vm.findClass yX0_refusal.cls = some m.cls) (hlocks : meth.locks = false) (hnm : meth.name = yX0_refusal.name) (hml : c.maxLocals = 10) (hK : va_K D vwCl (tysG ca) s) (hN : KN s) (hA : ∀ q, s.heap.size ≤ q → A q)  :
    ∀ (n : Nat) (k : Nat) (M : Nat), (k ≤ nn) → (0 < M) → (M ≤ P) → (wR f 0 nn P ↔ wR f k (nn - k) M) → (nn < n + k) →  ∀ (H : Heap) (locs : List Loc) (ls : Array Slot), va_P D vwCl [(h0, aL ca nn f)] H → va_D A [(h0, aL ca nn f)] → va_S A s.heap H locs → lv_has ls 10 [(7, .int (nI k)), (6, .int (nI nn)), (5, .ref h0), (3, .long (lN M)), (1, .long (lN P))] → W p l e ({ frames := 1, cells := 0, slots := 0, locals := 24 }) s m ([.ref h0, .long (lN P)] : List Value).toArray below meth c H locs 0 0 (MQ below (qI D (fun (r : Int32) (u : Bool) => r = (if u then 0 else -2) ∧ (u = true ↔ wR f 0 nn P)) (fun u => [(h0, aL ca nn f)]) (fun u H => True) A) ([.ref h0, .long (lN P)] : List Value).toArray s 0 0 A) (F0 m 13 ls []) := by
  intro n
  induction n with
  | zero =>
    intro k M hkn hM1 hM2 hW hfuel H locs ls hP hD hS hl 
    exact absurd hfuel (by omega)
  | succ n ih =>
    intro k M hkn hM1 hM2 hW hfuel H locs ls hP hD hS hl 
    refine lv_iload hx hb dX0_refusal_13 (lv_at hl 0 rfl) ?_
    refine lv_iload hx hb dX0_refusal_15 (lv_at hl 1 rfl) ?_
    refine lv_icmp_ge (tgt := 74) hx hb dX0_refusal_17 (by decide) (fun c_1 => ?_) (fun c_1 => ?_)
    · have c_1 := le_y (a := nn) (b := k) rfl rfl (by omega) (by omega) c_1
      refine lv_lload_n hx hb dX0_refusal_74 rfl (lv_at hl 3 rfl) ?_
      refine lv_lconst (v := 1) hx hb dX0_refusal_75 (by decide) ?_
      refine k_lc_ne (tgt := 84) hx hb dX0_refusal_76 dX0_refusal_77 (by decide) (fun c_2 => ?_) (fun c_2 => ?_)
      · refine lv_bipush (v := (-2)) hx hb dX0_refusal_84 (by decide) ?_
        exact k_iret false hx hb hr hlocks (⟨rfl, by simp only [Bool.false_eq_true, false_iff]; exact fun z => c_2 (by rw [show M = 1 from (by have := hW.mp z; rw [show nn - k = 0 by omega] at this; exact this)]; rfl)⟩) hP hD trivial hS (Nat.le_of_ble_eq_true rfl) (Nat.le_of_ble_eq_true rfl) dX0_refusal_86
      · refine lv_iconst (v := 0) hx hb dX0_refusal_80 (by decide) ?_
        refine lv_goto (tgt := 86) hx hb dX0_refusal_81 (by decide) ?_
        exact k_iret true hx hb hr hlocks (⟨rfl, by simp only [true_iff]; exact hW.mpr (by rw [show nn - k = 0 by omega]; exact (pk_lEQ (by omega) (by decide)).mp c_2)⟩) hP hD trivial hS (Nat.le_of_ble_eq_true rfl) (Nat.le_of_ble_eq_true rfl) dX0_refusal_86
    · have c_1 := le_no (a := nn) (b := k) rfl rfl (by omega) (by omega) c_1
      refine lv_aload hx hb dX0_refusal_20 (lv_at hl 2 rfl) ?_
      refine lv_iload hx hb dX0_refusal_22 (lv_at hl 0 rfl) ?_
      refine va_lald hx hb hK hP 0 2 rfl rfl (vin_nI (a := k) rfl (by omega) (by omega)) dX0_refusal_24 ?_
      refine lv_topl (fun z_3 ez_3 => ?_)
      obtain rfl : z_3 = f k := ez_3.trans (cl_nI (a := k) f rfl (by omega))
      refine lv_lstore (lv' := [(8, .long (f k)), (7, .int (nI k)), (6, .int (nI nn)), (5, .ref h0), (3, .long (lN M)), (1, .long (lN P))]) hx hb dX0_refusal_25 hl (by decide) rfl (fun ls hl => ?_)
      refine lv_lload hx hb dX0_refusal_27 (lv_at hl 0 rfl) ?_
      refine lv_ldc2 hx hb hown (hts _ q135) dX0_refusal_29 ?_
      refine k_lc_lt (tgt := 60) hx hb dX0_refusal_32 dX0_refusal_33 (by decide) (fun c_4 => ?_) (fun c_4 => ?_)
      · refine lv_bipush (v := (-2)) hx hb dX0_refusal_60 (by decide) ?_
        exact k_iret false hx hb hr hlocks (⟨rfl, by simp only [Bool.false_eq_true, false_iff]; exact fun z => rf_1 c_4 (wR_le (m := nn - k - 1) (by have := hW.mp z; rw [show nn - k = (nn - k - 1) + 1 by omega] at this; exact this)).1⟩) hP hD trivial hS (Nat.le_of_ble_eq_true rfl) (Nat.le_of_ble_eq_true rfl) dX0_refusal_62
      · refine lv_lload hx hb dX0_refusal_36 (lv_at hl 0 rfl) ?_
        refine lv_lload_n hx hb dX0_refusal_38 rfl (lv_at hl 5 rfl) ?_
        refine k_lc_gt (tgt := 60) hx hb dX0_refusal_39 dX0_refusal_40 (by decide) (fun c_5 => ?_) (fun c_5 => ?_)
        · refine lv_bipush (v := (-2)) hx hb dX0_refusal_60 (by decide) ?_
          exact k_iret false hx hb hr hlocks (⟨rfl, by simp only [Bool.false_eq_true, false_iff]; exact fun z => rf_2 (M := M) ⟨hM2, hP0⟩ c_5 (wR_le (m := nn - k - 1) (by have := hW.mp z; rw [show nn - k = (nn - k - 1) + 1 by omega] at this; exact this)).2.1⟩) hP hD trivial hS (Nat.le_of_ble_eq_true rfl) (Nat.le_of_ble_eq_true rfl) dX0_refusal_62
        · obtain ⟨pp, hpp1, hpp2, hpe⟩ := l_2P hP0 c_4 c_5
          have hpt : (f k).toInt = pp := by rw [hpe, pk_lT (by omega)]
          obtain ⟨mm, hmm⟩ : ∃ mm, nn - k = mm + 1 := ⟨nn - k - 1, by omega⟩
          refine lv_lload_n hx hb dX0_refusal_43 rfl (lv_at hl 4 rfl) ?_
          refine lv_lload hx hb dX0_refusal_44 (lv_at hl 0 rfl) ?_
          refine lv_lrem hx hb dX0_refusal_46 (by intro z; rw [hpe] at z; have := lN_z (by omega) z; omega) ?_
          refine lv_topl (fun z_6 ez_6 => ?_)
          obtain rfl : z_6 = lN (M % pp) := ez_6.trans (by rw [hpe]; exact pk_lRem (by omega) (by omega) (by omega))
          refine lv_lconst (v := 0) hx hb dX0_refusal_47 (by decide) ?_
          refine k_lc_ne (tgt := 60) hx hb dX0_refusal_48 dX0_refusal_49 (by decide) (fun c_7 => ?_) (fun c_7 => ?_)
          · refine lv_bipush (v := (-2)) hx hb dX0_refusal_60 (by decide) ?_
            exact k_iret false hx hb hr hlocks (⟨rfl, by simp only [Bool.false_eq_true, false_iff]; exact fun z => lN_nz c_7 (rf_3 hpt (wR_le (m := mm) (by have := hW.mp z; rw [hmm] at this; exact this)).2.2)⟩) hP hD trivial hS (Nat.le_of_ble_eq_true rfl) (Nat.le_of_ble_eq_true rfl) dX0_refusal_62
          · refine lv_lload hx hb dX0_refusal_52 (lv_at hl 0 rfl) ?_
            refine k_calli (wr := [(h0, aL ca nn f)]) (va_runS (As := [.long (f k)]) (rest := []) ⟨hx, hb, hml, hown, hts⟩ (ct_X0_isPrime hk l D ca H.size (f k) (by rw [hpt]; omega)) (va_cwS 1 hts (lw_S q488 q489 q19 q490) rfl rfl rfl (by decide +kernel) ⟨Nat.le_of_ble_eq_true rfl, Nat.le_of_ble_eq_true rfl⟩) (k_pre hk hK hN hP hD [] (by decide) rfl trivial) rfl rfl hl.1 rfl (lv_room (Nat.le_of_ble_eq_true rfl)) dX0_refusal_54 ⟨Nat.le_of_ble_eq_true rfl, Nat.le_of_ble_eq_true rfl⟩) hP hD hS hA [] [0] rfl rfl (by decide) (by decide) (fun r_8 u_9 H locs w_10 hP hD hxw_10 hzw_10 hqw_10 hS => ?_)
            obtain ⟨hrr_8, hur_8⟩ := w_10
            subst hrr_8
            refine lv_if_ne (tgt := 63) hx hb dX0_refusal_57 (by decide) (fun c_11 => ?_) (fun c_11 => ?_)
            · have c_11 := bI_z1 c_11
              refine lv_lload_n hx hb dX0_refusal_63 rfl (lv_at hl 4 rfl) ?_
              refine lv_lload hx hb dX0_refusal_64 (lv_at hl 0 rfl) ?_
              refine lv_ldiv hx hb dX0_refusal_66 (by intro z; rw [hpe] at z; have := lN_z (by omega) z; omega) ?_
              refine lv_topl (fun z_12 ez_12 => ?_)
              obtain rfl : z_12 = lN (M / pp) := ez_12.trans (by rw [hpe]; exact pk_lDiv (by omega) (by omega) (by omega))
              refine lv_lstore_n (lv' := [(3, .long (lN (M / pp))), (8, .long (f k)), (7, .int (nI k)), (6, .int (nI nn)), (5, .ref h0), (1, .long (lN P))]) hx hb dX0_refusal_67 rfl hl (by decide) rfl (fun ls hl => ?_)
              refine lv_iinc (v := nI (k + 1)) (lv' := [(7, .int (nI (k + 1))), (3, .long (lN (M / pp))), (8, .long (f k)), (6, .int (nI nn)), (5, .ref h0), (1, .long (lN P))]) hx hb dX0_refusal_68 hl (k := 2) rfl (eq_add rfl rfl) (by decide) rfl (fun ls hl => ?_)
              refine lv_goto (tgt := 13) hx hb dX0_refusal_71 (by decide) ?_
              have hmz := lN_z (by have := Nat.mod_lt M (show 0 < pp by omega); omega) c_7
              have hdl := Nat.div_le_self M pp
              have hdp : 0 < M / pp := Nat.div_pos (Nat.le_of_dvd hM1 (Nat.dvd_of_mod_eq_zero hmz)) (by omega)
              exact ih (k + 1) (M / pp) (by omega) hdp (by omega) (hW.trans (by rw [hmm, show nn - (k + 1) = mm by omega]; exact wR_st hpt (hur_8.mp c_11) hmz (by omega))) (by omega) _ _ _ hP hD hS (lv_sub hl [0, 3, 4, 1, 5] rfl) 
            · have c_11 := bI_z0 c_11
              refine lv_bipush (v := (-2)) hx hb dX0_refusal_60 (by decide) ?_
              exact k_iret false hx hb hr hlocks (⟨rfl, by simp only [Bool.false_eq_true, false_iff]; exact fun z => absurd ((hur_8.mpr (show isPr (f k).toInt from (by have := hW.mp z; rw [hmm] at this; exact this.1))).symm.trans c_11) (by decide)⟩) hP hD trivial hS (Nat.le_of_ble_eq_true rfl) (Nat.le_of_ble_eq_true rfl) dX0_refusal_62
set_option maxHeartbeats 4000000 in
set_option maxRecDepth 100000 in
theorem ct_X0_refusal {KN : State → Prop} (hk : KNok KN) (l : Launch) (D : va_G) (ca : Nat → ClassId) (zH : Nat) (h0 nn : Nat) (f : AL) (P : Nat) (hnn : nn ≤ 12) (hP0 : P < 2 ^ 40) (hP1 : 0 < P) : Met l yX0_refusal (ws_ yX0_refusal cX0_refusal 10 (some .int)) ({ frames := 1, cells := 0, slots := 0, locals := 24 }) (va_Pc [.ref h0, .long (lN P)] (pr_ KN D ca [(h0, aL ca nn f)] zH (fun _ => True))) (qI D (fun (r : Int32) (u : Bool) => r = (if u then 0 else -2) ∧ (u = true ↔ wR f 0 nn P)) (fun u => [(h0, aL ca nn f)]) (fun u H => True) (va_A [(h0, aL ca nn f)] zH)) 0 0 (va_A [(h0, aL ca nn f)] zH) := by
  refine k_ofW (Qc := qI D (fun (r : Int32) (u : Bool) => r = (if u then 0 else -2) ∧ (u = true ↔ wR f 0 nn P)) (fun u => [(h0, aL ca nn f)]) (fun u H => True)) (by decide) (Nat.le_of_ble_eq_true rfl) ?_
  intro p e s m below meth c ls A H hH hx hb hr hts hown hlocks hnm hml hsz hP hD hK hN hA hAn hS hro hl
  have hl : lv_has ls 10 [(0, .ref h0), (1, .long (lN P))] := hl
  refine lv_lload_n hx hb dX0_refusal_0 rfl (lv_at hl 1 rfl) ?_
  refine lv_lstore_n (lv' := [(3, .long (lN P)), (0, .ref h0), (1, .long (lN P))]) hx hb dX0_refusal_1 rfl hl (by decide) rfl (fun ls hl => ?_)
  refine lv_aload_n hx hb dX0_refusal_2 rfl (lv_at hl 1 rfl) ?_
  refine lv_astore (lv' := [(5, .ref h0), (3, .long (lN P)), (0, .ref h0), (1, .long (lN P))]) hx hb dX0_refusal_3 hl (by decide) rfl (fun ls hl => ?_)
  refine lv_aload hx hb dX0_refusal_5 (lv_at hl 0 rfl) ?_
  refine va_alen (v := nI nn) hx hb hK hP 0 2 rfl rfl rfl dX0_refusal_7 ?_
  refine lv_istore (lv' := [(6, .int (nI nn)), (5, .ref h0), (3, .long (lN P)), (0, .ref h0), (1, .long (lN P))]) hx hb dX0_refusal_8 hl (by decide) rfl (fun ls hl => ?_)
  refine lv_iconst (v := 0) hx hb dX0_refusal_10 (by decide) ?_
  refine lv_istore (lv' := [(7, .int 0), (6, .int (nI nn)), (5, .ref h0), (3, .long (lN P)), (0, .ref h0), (1, .long (lN P))]) hx hb dX0_refusal_11 hl (by decide) rfl (fun ls hl => ?_)
  exact lp_X0_refusal hk h0 nn f P hnn hP0 hP1  hx hb hr hts hown hlocks hnm hml hK hN hA  (nn + 1) 0 P (by omega) hP1 (by omega) Iff.rfl (by omega) _ _ _ hP hD hS (lv_sub hl [0, 1, 2, 3, 5] rfl) 
