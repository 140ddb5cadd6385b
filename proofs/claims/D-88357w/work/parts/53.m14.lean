def kd0 : AI := fun i => if i < 6 then -1 else 0
theorem kd0_up : upd (upd (upd (upd (upd (upd (fun _ => 0) 0 (-1)) 1 (-1)) 2 (-1)) 3 (-1)) 4 (-1)) 5 (-1) = kd0 := by
  funext i
  simp only [upd, kd0]
  match i with
  | 0 => rfl
  | 1 => rfl
  | 2 => rfl
  | 3 => rfl
  | 4 => rfl
  | 5 => rfl
  | i + 6 =>
    rw [if_neg (show ¬ i + 6 = 5 by omega), if_neg (show ¬ i + 6 = 4 by omega), if_neg (show ¬ i + 6 = 3 by omega), if_neg (show ¬ i + 6 = 2 by omega), if_neg (show ¬ i + 6 = 1 by omega), if_neg (show ¬ i + 6 = 0 by omega), if_neg (show ¬ i + 6 < 6 by omega)]
def VD (a b c : Int) : Int → Nat → List Z4'
  | _, 0 => []
  | d, m + 1 => (a, b, c, d) :: VD a b c (d - 1) m
def VC (a b : Int) : Int → Nat → List Z4'
  | _, 0 => []
  | c, m + 1 => VD a b c 2 5 ++ VC a b (c - 1) m
def VB (a : Int) : Int → Nat → List Z4'
  | _, 0 => []
  | b, m + 1 => VC a b 2 5 ++ VB a (b - 1) m
def VA : Int → Nat → List Z4'
  | _, 0 => []
  | a, m + 1 => VB a 2 5 ++ VA (a - 1) m
abbrev nd (d : Int) : Nat := (d + 3).toNat
theorem nd_s {d : Int} (h : -2 ≤ d) : nd d = nd (d - 1) + 1 := by simp only [nd]; omega
theorem nd_e {d : Int} (h : d < -2) : nd d = 0 := by simp only [nd]; omega
/-- what is still to be met -/
def VR (a b c d : Int) : List Z4' := VD a b c d (nd d) ++ (VC a b (c - 1) (nd (c - 1)) ++ (VB a (b - 1) (nd (b - 1)) ++ VA (a - 1) (nd (a - 1))))
set_option maxRecDepth 100000 in
theorem VR_0 : VR 2 2 2 2 = U0 := by decide +kernel
theorem VR_s {a b c d : Int} (h : -2 ≤ d) : VR a b c d = (a, b, c, d) :: VR a b c (d - 1) := by
  unfold VR
  rw [nd_s h]
  rfl
theorem VR_d {a b c d : Int} (h : d < -2) (h2 : -2 ≤ c - 1) : VR a b c d = VR a b (c - 1) 2 := by
  unfold VR
  rw [nd_e h, nd_s h2]
  show _ ++ _ = _ ++ _
  rw [show VC a b (c - 1) (nd (c - 1 - 1) + 1) = VD a b (c - 1) 2 5 ++ VC a b (c - 1 - 1) (nd (c - 1 - 1)) from rfl, List.append_assoc]
  rfl
theorem VR_c {a b c d : Int} (h : d < -2) (h2 : c - 1 < -2) (h3 : -2 ≤ b - 1) : VR a b c d = VR a (b - 1) 2 2 := by
  unfold VR
  rw [nd_e h, nd_e h2, nd_s h3]
  show _ ++ _ = _ ++ _
  rw [show VB a (b - 1) (nd (b - 1 - 1) + 1) = (VD a (b - 1) 2 2 5 ++ VC a (b - 1) (2 - 1) 4) ++ VB a (b - 1 - 1) (nd (b - 1 - 1)) from rfl, List.append_assoc, List.append_assoc]
  rfl
theorem VR_b {a b c d : Int} (h : d < -2) (h2 : c - 1 < -2) (h3 : b - 1 < -2) (h4 : -2 ≤ a - 1) : VR a b c d = VR (a - 1) 2 2 2 := by
  unfold VR
  rw [nd_e h, nd_e h2, nd_e h3, nd_s h4]
  show _ ++ _ = _ ++ _
  rw [show VA (a - 1) (nd (a - 1 - 1) + 1) = ((VD (a - 1) 2 2 2 5 ++ VC (a - 1) 2 (2 - 1) 4) ++ VB (a - 1) (2 - 1) 4) ++ VA (a - 1 - 1) (nd (a - 1 - 1)) from rfl, List.append_assoc, List.append_assoc]
  rfl
theorem VR_e {a b c d : Int} (h : d < -2) (h2 : c - 1 < -2) (h3 : b - 1 < -2) (h4 : a - 1 < -2) : VR a b c d = [] := by
  unfold VR
  rw [nd_e h, nd_e h2, nd_e h3, nd_e h4]
  rfl
theorem okU_z {a b c d : Int} (ha : -28 ≤ a ∧ a ≤ 28) (hb : -28 ≤ b ∧ b ≤ 28) (hc : -28 ≤ c ∧ c ≤ 28) (hd : -28 ≤ d ∧ d ≤ 28) : okU (qz (a, b, c, d)) = (decide (a * a + b * b + c * c + d * d = 4) && p_one (iZ a).toInt64 (iZ b).toInt64 (iZ c).toInt64 (iZ d).toInt64) := by
  have e : q_sq (qz (a, b, c, d)) = 4 ↔ a * a + b * b + c * c + d * d = 4 := by
    have t : ∀ x : Int, -28 ≤ x ∧ x ≤ 28 → (iZ x).toInt64.toInt = x := fun x hx => by rw [Int32.toInt_toInt64, iZ_t (show -2 ^ 31 ≤ x ∧ x < 2 ^ 31 by omega)]
    have m : ∀ x : Int, -28 ≤ x ∧ x ≤ 28 → ((iZ x).toInt64 * (iZ x).toInt64).toInt = x * x := fun x hx => by
      have := sqz hx.1 hx.2
      rw [Int64.toInt_mul, t x hx, Int.bmod_eq_of_le (by omega) (by omega)]
    have s : (q_sq (qz (a, b, c, d))).toInt = a * a + b * b + c * c + d * d := by
      have h1 := sqz ha.1 ha.2
      have h2 := sqz hb.1 hb.2
      have h3 := sqz hc.1 hc.2
      have h4 := sqz hd.1 hd.2
      show ((iZ a).toInt64 * (iZ a).toInt64 + (iZ b).toInt64 * (iZ b).toInt64 + (iZ c).toInt64 * (iZ c).toInt64 + (iZ d).toInt64 * (iZ d).toInt64).toInt = _
      rw [Int64.toInt_add, Int64.toInt_add, Int64.toInt_add, m a ha, m b hb, m c hc, m d hd]
      rw [Int.bmod_eq_of_le (n := a * a + b * b) (by omega) (by omega), Int.bmod_eq_of_le (n := a * a + b * b + c * c) (by omega) (by omega), Int.bmod_eq_of_le (by omega) (by omega)]
    rw [← s, ← Int64.toInt_inj]
    exact Iff.rfl
  unfold okU
  rw [al_one]
  congr 1
  exact decide_eq_decide.mpr e
theorem a4_0 {ca : Nat → ClassId} : aL ca 4 (fun _ => 0) = a4 ca (0, 0, 0, 0) := by
  show aL ca 4 (fun _ => 0) = aL ca 4 (L4 (0, 0, 0, 0))
  congr 1
  funext i
  match i with
  | 0 => rfl
  | 1 => rfl
  | 2 => rfl
  | 3 => rfl
  | i + 4 => rfl
theorem wq_z {un : AI} {n : Nat} {a b c d : Int} : upd (upd (upd (upd un (4 * n) (iZ a)) (4 * n + 1) (iZ b)) (4 * n + 2) (iZ c)) (4 * n + 3) (iZ d) = wq un n (qz (a, b, c, d)) := by
  simp only [wq, qz, Int32.toInt32_toInt64]
set_option maxHeartbeats 4000000 in
set_option maxRecDepth 100000 in
theorem lp_X5_init {KN : State → Prop} (hk : KNok KN) {l : Launch} {D : va_G} {ca : Nat → ClassId} (o : Nat) (ad : Nat → Nat)  {p : Program} {e : Env} {s : State} {m : MethodId} {below : List Frame} {meth : Method} {c : Code} {A : Nat → Prop}  (hx : p.tables.exec = Jvm.exec) (hb : c.code = cX5_init) (hr : meth.sig.returnType = none) (hts : ∀ w ∈ lw_all, w.before ([.ref o] : List Value).toArray s = true) (hown : s.vm.findClass yX5_init.cls = some m.cls) (hlocks : meth.locks = false) (hnm : meth.name = yX5_init.name) (hml : c.maxLocals = 6) (hK : va_K D vwCl (tysG ca) s) (hN : KN s) (hA : ∀ q, s.heap.size ≤ q → A q)  :
    ∀ (n : Nat) (ya : Int) (yb : Int) (yc : Int) (yd : Int) (n9 : Nat) (un : AI), (-2 ≤ ya ∧ ya ≤ 2) → (-2 ≤ yb ∧ yb ≤ 2) → (-2 ≤ yc ∧ yc ≤ 2) → (-3 ≤ yd ∧ yd ≤ 2) → (uF (VR ya yb yc yd) n9 un = (24, unC)) → ((((ya + 2) * 6 + (yb + 2)) * 6 + (yc + 2)) * 6 + (yd + 3) < (n : Int)) →  ∀ (H : Heap) (locs : List Loc) (ls : Array Slot), va_P D vwCl [(o, mO ad 0 0), (ad 0, aI ca 6 kd0), (ad 1, aI ca 6 (fun _ => 0)), (ad 2, aL ca 96 (fun _ => 0)), (ad 3, aI ca 64 (fun _ => 0)), (ad 4, aI ca 96 un), (ad 6, aL ca 48 (fun _ => 0)), (ad 7, aL ca 16 (fun _ => 0)), (ad 8, a4 ca (0, 0, 0, 0)), (ad 9, a4 ca (0, 0, 0, 0)), (ad 10, a4 ca (0, 0, 0, 0)), (ad 11, a4 ca (0, 0, 0, 0)), (ad 12, a4 ca (0, 0, 0, 0)), (ad 13, a4 ca (0, 0, 0, 0)), (ad 14, a4 ca (0, 0, 0, 0)), (ad 15, a4 ca (0, 0, 0, 0)), (ad 16, a4 ca (0, 0, 0, 0))] H → va_D A [(o, mO ad 0 0), (ad 0, aI ca 6 kd0), (ad 1, aI ca 6 (fun _ => 0)), (ad 2, aL ca 96 (fun _ => 0)), (ad 3, aI ca 64 (fun _ => 0)), (ad 4, aI ca 96 un), (ad 6, aL ca 48 (fun _ => 0)), (ad 7, aL ca 16 (fun _ => 0)), (ad 8, a4 ca (0, 0, 0, 0)), (ad 9, a4 ca (0, 0, 0, 0)), (ad 10, a4 ca (0, 0, 0, 0)), (ad 11, a4 ca (0, 0, 0, 0)), (ad 12, a4 ca (0, 0, 0, 0)), (ad 13, a4 ca (0, 0, 0, 0)), (ad 14, a4 ca (0, 0, 0, 0)), (ad 15, a4 ca (0, 0, 0, 0)), (ad 16, a4 ca (0, 0, 0, 0))] → va_S A s.heap H locs → lv_has ls 6 [(0, .ref o), (1, .int (nI (4 * n9))), (2, .int (iZ ya)), (3, .int (iZ yb)), (4, .int (iZ yc)), (5, .int (iZ yd))] → W p l e ({ frames := 1, cells := 16, slots := 368, locals := 29 }) s m ([.ref o] : List Value).toArray below meth c H locs 16 368 (MQ below (qV D (fun (u : Nat → Nat) => True) (fun u => [(o, mO u 0 0), (u 0, aI ca 6 kd0), (u 1, aI ca 6 (fun _ => 0)), (u 2, aL ca 96 (fun _ => 0)), (u 3, aI ca 64 (fun _ => 0)), (u 4, aI ca 96 unC), (u 6, aL ca 48 (fun _ => 0)), (u 7, aL ca 16 (fun _ => 0)), (u 8, a4 ca (0, 0, 0, 0)), (u 9, a4 ca (0, 0, 0, 0)), (u 10, a4 ca (0, 0, 0, 0)), (u 11, a4 ca (0, 0, 0, 0)), (u 12, a4 ca (0, 0, 0, 0)), (u 13, a4 ca (0, 0, 0, 0)), (u 14, a4 ca (0, 0, 0, 0)), (u 15, a4 ca (0, 0, 0, 0)), (u 16, a4 ca (0, 0, 0, 0))]) (fun u H => True) A) ([.ref o] : List Value).toArray s 16 368 A) (F0 m 175 ls []) := by
  intro n
  induction n with
  | zero =>
    intro ya yb yc yd n9 un ha hb9 hc9 hd9 hF hfuel H locs ls hP hD hS hl 
    exact absurd hfuel (by omega)
  | succ n ih =>
    intro ya yb yc yd n9 un ha hb9 hc9 hd9 hF hfuel H locs ls hP hD hS hl 
    refine lv_iload hx hb dX5_init_175 (lv_at hl 5 rfl) ?_
    refine lv_bipush (v := (-2)) hx hb dX5_init_177 (by decide) ?_
    refine lv_icmp_lt (tgt := 266) hx hb dX5_init_179 (by decide) (fun c_1 => ?_) (fun c_1 => ?_)
    · have c_1 := ltz_y (a := yd) (b := (-2)) rfl (show (-2 : Int32) = iZ (-2) from by decide) (by omega) (by omega) c_1
      refine lv_iinc (v := iZ (yc - 1)) (lv' := [(4, .int (iZ (yc - 1))), (0, .ref o), (1, .int (nI (4 * n9))), (2, .int (iZ ya)), (3, .int (iZ yb)), (5, .int (iZ yd))]) hx hb dX5_init_266 hl (k := 4) rfl ((zadd rfl (b := -1) (by decide)).trans (congrArg iZ (by omega))) (by decide) rfl (fun ls hl => ?_)
      refine lv_goto (tgt := 165) hx hb dX5_init_269 (by decide) ?_
      refine lv_iload hx hb dX5_init_165 (lv_at hl 0 rfl) ?_
      refine lv_bipush (v := (-2)) hx hb dX5_init_167 (by decide) ?_
      refine lv_icmp_lt (tgt := 272) hx hb dX5_init_169 (by decide) (fun c_2 => ?_) (fun c_2 => ?_)
      · have c_2 := ltz_y (a := yc - 1) (b := (-2)) rfl (show (-2 : Int32) = iZ (-2) from by decide) (by omega) (by omega) c_2
        refine lv_iinc (v := iZ (yb - 1)) (lv' := [(3, .int (iZ (yb - 1))), (4, .int (iZ (yc - 1))), (0, .ref o), (1, .int (nI (4 * n9))), (2, .int (iZ ya)), (5, .int (iZ yd))]) hx hb dX5_init_272 hl (k := 4) rfl ((zadd rfl (b := -1) (by decide)).trans (congrArg iZ (by omega))) (by decide) rfl (fun ls hl => ?_)
        refine lv_goto (tgt := 156) hx hb dX5_init_275 (by decide) ?_
        refine lv_iload_n hx hb dX5_init_156 rfl (lv_at hl 0 rfl) ?_
        refine lv_bipush (v := (-2)) hx hb dX5_init_157 (by decide) ?_
        refine lv_icmp_lt (tgt := 278) hx hb dX5_init_159 (by decide) (fun c_3 => ?_) (fun c_3 => ?_)
        · have c_3 := ltz_y (a := yb - 1) (b := (-2)) rfl (show (-2 : Int32) = iZ (-2) from by decide) (by omega) (by omega) c_3
          refine lv_iinc (v := iZ (ya - 1)) (lv' := [(2, .int (iZ (ya - 1))), (3, .int (iZ (yb - 1))), (4, .int (iZ (yc - 1))), (0, .ref o), (1, .int (nI (4 * n9))), (5, .int (iZ yd))]) hx hb dX5_init_278 hl (k := 4) rfl ((zadd rfl (b := -1) (by decide)).trans (congrArg iZ (by omega))) (by decide) rfl (fun ls hl => ?_)
          refine lv_goto (tgt := 148) hx hb dX5_init_281 (by decide) ?_
          refine lv_iload_n hx hb dX5_init_148 rfl (lv_at hl 0 rfl) ?_
          refine lv_bipush (v := (-2)) hx hb dX5_init_149 (by decide) ?_
          refine lv_icmp_lt (tgt := 284) hx hb dX5_init_151 (by decide) (fun c_4 => ?_) (fun c_4 => ?_)
          · have c_4 := ltz_y (a := ya - 1) (b := (-2)) rfl (show (-2 : Int32) = iZ (-2) from by decide) (by omega) (by omega) c_4
            rw [VR_e (by omega) (by omega) (by omega) (by omega)] at hF
            have hF : (n9, un) = (24, unC) := hF
            obtain ⟨rfl, rfl⟩ := Prod.mk.inj hF
            exact k_vret ad hx hb hr hlocks (trivial) hP hD trivial hS (by omega) (by omega) dX5_init_284
          · have c_4 := ltz_no (a := ya - 1) (b := (-2)) rfl (show (-2 : Int32) = iZ (-2) from by decide) (by omega) (by omega) c_4
            refine lv_iconst (v := 2) hx hb dX5_init_154 (by decide) ?_
            refine lv_istore_n (lv' := [(3, .int 2), (2, .int (iZ (ya - 1))), (4, .int (iZ (yc - 1))), (0, .ref o), (1, .int (nI (4 * n9))), (5, .int (iZ yd))]) hx hb dX5_init_155 rfl hl (by decide) rfl (fun ls hl => ?_)
            refine lv_iload_n hx hb dX5_init_156 rfl (lv_at hl 0 rfl) ?_
            refine lv_bipush (v := (-2)) hx hb dX5_init_157 (by decide) ?_
            refine lv_icmp_lt (tgt := 278) hx hb dX5_init_159 (by decide) (fun c_5 => absurd c_5 (by decide)) (fun c_5 => ?_)
            refine lv_iconst (v := 2) hx hb dX5_init_162 (by decide) ?_
            refine lv_istore (lv' := [(4, .int 2), (3, .int 2), (2, .int (iZ (ya - 1))), (0, .ref o), (1, .int (nI (4 * n9))), (5, .int (iZ yd))]) hx hb dX5_init_163 hl (by decide) rfl (fun ls hl => ?_)
            refine lv_iload hx hb dX5_init_165 (lv_at hl 0 rfl) ?_
            refine lv_bipush (v := (-2)) hx hb dX5_init_167 (by decide) ?_
            refine lv_icmp_lt (tgt := 272) hx hb dX5_init_169 (by decide) (fun c_6 => absurd c_6 (by decide)) (fun c_6 => ?_)
            refine lv_iconst (v := 2) hx hb dX5_init_172 (by decide) ?_
            refine lv_istore (lv' := [(5, .int 2), (4, .int 2), (3, .int 2), (2, .int (iZ (ya - 1))), (0, .ref o), (1, .int (nI (4 * n9)))]) hx hb dX5_init_173 hl (by decide) rfl (fun ls hl => ?_)
            rw [VR_b (by omega) (by omega) (by omega) (by omega)] at hF
            exact ih (ya - 1) 2 2 2 n9 un (by omega) (by omega) (by omega) (by omega) hF (by omega) _ _ _ hP hD hS (lv_sub hl [4, 5, 3, 2, 1, 0] rfl) 
        · have c_3 := ltz_no (a := yb - 1) (b := (-2)) rfl (show (-2 : Int32) = iZ (-2) from by decide) (by omega) (by omega) c_3
          refine lv_iconst (v := 2) hx hb dX5_init_162 (by decide) ?_
          refine lv_istore (lv' := [(4, .int 2), (3, .int (iZ (yb - 1))), (0, .ref o), (1, .int (nI (4 * n9))), (2, .int (iZ ya)), (5, .int (iZ yd))]) hx hb dX5_init_163 hl (by decide) rfl (fun ls hl => ?_)
          refine lv_iload hx hb dX5_init_165 (lv_at hl 0 rfl) ?_
          refine lv_bipush (v := (-2)) hx hb dX5_init_167 (by decide) ?_
          refine lv_icmp_lt (tgt := 272) hx hb dX5_init_169 (by decide) (fun c_7 => absurd c_7 (by decide)) (fun c_7 => ?_)
          refine lv_iconst (v := 2) hx hb dX5_init_172 (by decide) ?_
          refine lv_istore (lv' := [(5, .int 2), (4, .int 2), (3, .int (iZ (yb - 1))), (0, .ref o), (1, .int (nI (4 * n9))), (2, .int (iZ ya))]) hx hb dX5_init_173 hl (by decide) rfl (fun ls hl => ?_)
          rw [VR_c (by omega) (by omega) (by omega)] at hF
          exact ih ya (yb - 1) 2 2 n9 un (by omega) (by omega) (by omega) (by omega) hF (by omega) _ _ _ hP hD hS (lv_sub hl [3, 4, 5, 2, 1, 0] rfl) 
      · have c_2 := ltz_no (a := yc - 1) (b := (-2)) rfl (show (-2 : Int32) = iZ (-2) from by decide) (by omega) (by omega) c_2
        refine lv_iconst (v := 2) hx hb dX5_init_172 (by decide) ?_
        refine lv_istore (lv' := [(5, .int 2), (4, .int (iZ (yc - 1))), (0, .ref o), (1, .int (nI (4 * n9))), (2, .int (iZ ya)), (3, .int (iZ yb))]) hx hb dX5_init_173 hl (by decide) rfl (fun ls hl => ?_)
        rw [VR_d (by omega) (by omega)] at hF
        exact ih ya yb (yc - 1) 2 n9 un (by omega) (by omega) (by omega) (by omega) hF (by omega) _ _ _ hP hD hS (lv_sub hl [2, 3, 4, 5, 1, 0] rfl) 
    · have c_1 := ltz_no (a := yd) (b := (-2)) rfl (show (-2 : Int32) = iZ (-2) from by decide) (by omega) (by omega) c_1
      rw [VR_s (by omega)] at hF
      have hqya := sqz (a := ya) (by omega) (by omega)
      have hqyb := sqz (a := yb) (by omega) (by omega)
      have hqyc := sqz (a := yc) (by omega) (by omega)
      have hqyd := sqz (a := yd) (by omega) (by omega)
      have hok9 := okU_z (a := ya) (b := yb) (c := yc) (d := yd) (by omega) (by omega) (by omega) (by omega)
      refine lv_iload_n hx hb dX5_init_182 rfl (lv_at hl 2 rfl) ?_
      refine lv_iload_n hx hb dX5_init_183 rfl (lv_at hl 2 rfl) ?_
      refine lv_imul hx hb dX5_init_184 ?_
      refine lv_topi (fun z_8 ez_8 => ?_)
      obtain rfl : z_8 = iZ (ya * ya) := ez_8.trans (zmul rfl rfl)
      refine lv_iload_n hx hb dX5_init_185 rfl (lv_at hl 3 rfl) ?_
      refine lv_iload_n hx hb dX5_init_186 rfl (lv_at hl 3 rfl) ?_
      refine lv_imul hx hb dX5_init_187 ?_
      refine lv_topi (fun z_9 ez_9 => ?_)
      obtain rfl : z_9 = iZ (yb * yb) := ez_9.trans (zmul rfl rfl)
      refine lv_iadd hx hb dX5_init_188 ?_
      refine lv_topi (fun z_10 ez_10 => ?_)
      obtain rfl : z_10 = iZ ((ya * ya) + (yb * yb)) := ez_10.trans (zadd rfl rfl)
      refine lv_iload hx hb dX5_init_189 (lv_at hl 4 rfl) ?_
      refine lv_iload hx hb dX5_init_191 (lv_at hl 4 rfl) ?_
      refine lv_imul hx hb dX5_init_193 ?_
      refine lv_topi (fun z_11 ez_11 => ?_)
      obtain rfl : z_11 = iZ (yc * yc) := ez_11.trans (zmul rfl rfl)
      refine lv_iadd hx hb dX5_init_194 ?_
      refine lv_topi (fun z_12 ez_12 => ?_)
      obtain rfl : z_12 = iZ (((ya * ya) + (yb * yb)) + (yc * yc)) := ez_12.trans (zadd rfl rfl)
      refine lv_iload hx hb dX5_init_195 (lv_at hl 5 rfl) ?_
      refine lv_iload hx hb dX5_init_197 (lv_at hl 5 rfl) ?_
      refine lv_imul hx hb dX5_init_199 ?_
      refine lv_topi (fun z_13 ez_13 => ?_)
      obtain rfl : z_13 = iZ (yd * yd) := ez_13.trans (zmul rfl rfl)
      refine lv_iadd hx hb dX5_init_200 ?_
      refine lv_topi (fun z_14 ez_14 => ?_)
      obtain rfl : z_14 = iZ ((((ya * ya) + (yb * yb)) + (yc * yc)) + (yd * yd)) := ez_14.trans (zadd rfl rfl)
      refine lv_iconst (v := 4) hx hb dX5_init_201 (by decide) ?_
      refine lv_icmp_ne (tgt := 260) hx hb dX5_init_202 (by decide) (fun c_15 => ?_) (fun c_15 => ?_)
      · have c_15 := eqz_no (a := (((ya * ya) + (yb * yb)) + (yc * yc)) + (yd * yd)) (b := 4) rfl (by decide) (by omega) (by omega) c_15
        have hok : okU (qz (ya, yb, yc, yd)) = false := by rw [hok9, decide_eq_false (by omega), Bool.false_and]
        rw [uF_n hok] at hF
        refine lv_iinc (v := iZ (yd - 1)) (lv' := [(5, .int (iZ (yd - 1))), (0, .ref o), (1, .int (nI (4 * n9))), (2, .int (iZ ya)), (3, .int (iZ yb)), (4, .int (iZ yc))]) hx hb dX5_init_260 hl (k := 5) rfl ((zadd rfl (b := -1) (by decide)).trans (congrArg iZ (by omega))) (by decide) rfl (fun ls hl => ?_)
        refine lv_goto (tgt := 175) hx hb dX5_init_263 (by decide) ?_
        exact ih ya yb yc (yd - 1) n9 un (by omega) (by omega) (by omega) (by omega) hF (by omega) _ _ _ hP hD hS (lv_sub hl [1, 2, 3, 4, 5, 0] rfl) 
      · have c_15 := eqz_y (a := (((ya * ya) + (yb * yb)) + (yc * yc)) + (yd * yd)) (b := 4) rfl (by decide) (by omega) (by omega) c_15
        refine lv_iload_n hx hb dX5_init_205 rfl (lv_at hl 2 rfl) ?_
        refine lv_i2l (v := (iZ ya).toInt64) hx hb dX5_init_206 rfl ?_
        refine lv_iload_n hx hb dX5_init_207 rfl (lv_at hl 3 rfl) ?_
        refine lv_i2l (v := (iZ yb).toInt64) hx hb dX5_init_208 rfl ?_
        refine lv_iload hx hb dX5_init_209 (lv_at hl 4 rfl) ?_
        refine lv_i2l (v := (iZ yc).toInt64) hx hb dX5_init_211 rfl ?_
        refine lv_iload hx hb dX5_init_212 (lv_at hl 5 rfl) ?_
        refine lv_i2l (v := (iZ yd).toInt64) hx hb dX5_init_214 rfl ?_
        refine k_calli (wr := [(o, mO ad 0 0), (ad 0, aI ca 6 kd0), (ad 1, aI ca 6 (fun _ => 0)), (ad 2, aL ca 96 (fun _ => 0)), (ad 3, aI ca 64 (fun _ => 0)), (ad 4, aI ca 96 un), (ad 6, aL ca 48 (fun _ => 0)), (ad 7, aL ca 16 (fun _ => 0)), (ad 8, a4 ca (0, 0, 0, 0)), (ad 9, a4 ca (0, 0, 0, 0)), (ad 10, a4 ca (0, 0, 0, 0)), (ad 11, a4 ca (0, 0, 0, 0)), (ad 12, a4 ca (0, 0, 0, 0)), (ad 13, a4 ca (0, 0, 0, 0)), (ad 14, a4 ca (0, 0, 0, 0)), (ad 15, a4 ca (0, 0, 0, 0)), (ad 16, a4 ca (0, 0, 0, 0))]) (va_runS (As := [.long ((iZ ya).toInt64), .long ((iZ yb).toInt64), .long ((iZ yc).toInt64), .long ((iZ yd).toInt64)]) (rest := []) ⟨hx, hb, hml, hown, hts⟩ (ct_X5_isOne hk l D ca H.size ((iZ ya).toInt64) ((iZ yb).toInt64) ((iZ yc).toInt64) ((iZ yd).toInt64)) (va_cwS 4 hts (lw_S q570 q571 q24 q572) rfl rfl rfl (by decide +kernel) ⟨Nat.le_of_ble_eq_true rfl, Nat.le_of_ble_eq_true rfl⟩) (k_pre hk hK hN hP hD [] (by decide) rfl trivial) rfl rfl hl.1 rfl (lv_room (Nat.le_of_ble_eq_true rfl)) dX5_init_215 ⟨by show _ ≤ 16; omega, by show _ ≤ 368; omega⟩) hP hD hS hA [] [0, 1, 2, 3, 4, 5, 6, 7, 8, 9, 10, 11, 12, 13, 14, 15, 16] rfl rfl (by decide) (by decide) (fun r_16 u_17 H locs w_18 hP hD hxw_18 hzw_18 hqw_18 hS => ?_)
        obtain rfl : r_16 = bI (p_one ((iZ ya).toInt64) ((iZ yb).toInt64) ((iZ yc).toInt64) ((iZ yd).toInt64)) := w_18
        refine lv_if_eq (tgt := 260) hx hb dX5_init_218 (by decide) (fun c_19 => ?_) (fun c_19 => ?_)
        · have c_19 := bI_z0 c_19
          have hok : okU (qz (ya, yb, yc, yd)) = false := by rw [hok9, c_19, Bool.and_false]
          rw [uF_n hok] at hF
          refine lv_iinc (v := iZ (yd - 1)) (lv' := [(5, .int (iZ (yd - 1))), (0, .ref o), (1, .int (nI (4 * n9))), (2, .int (iZ ya)), (3, .int (iZ yb)), (4, .int (iZ yc))]) hx hb dX5_init_260 hl (k := 5) rfl ((zadd rfl (b := -1) (by decide)).trans (congrArg iZ (by omega))) (by decide) rfl (fun ls hl => ?_)
          refine lv_goto (tgt := 175) hx hb dX5_init_263 (by decide) ?_
          exact ih ya yb yc (yd - 1) n9 un (by omega) (by omega) (by omega) (by omega) hF (by omega) _ _ _ hP hD hS (lv_sub hl [1, 2, 3, 4, 5, 0] rfl) 
        · have c_19 := bI_z1 c_19
          have hok : okU (qz (ya, yb, yc, yd)) = true := by rw [hok9, c_19]; simp only [Bool.and_true, decide_eq_true_eq]; omega
          rw [uF_y hok] at hF
          have hn24 : n9 < 24 := by have := uF_le (VR ya yb yc (yd - 1)) (n9 + 1) (wq un n9 (qz (ya, yb, yc, yd))); rw [hF] at this; exact this
          refine lv_aload_n hx hb dX5_init_221 rfl (lv_at hl 0 rfl) ?_
          refine va_get (D := D) (ci := 4) (v := .ref (ad 4)) (C := RX5) (T := TX5) (N := 18) hx hb hts in_X5 hown hK hP 0 rfl rfl 4 (by decide) (hts _ q577) (fun _ h9 => h9) rfl dX5_init_222 ?_
          refine lv_iload_n hx hb dX5_init_225 rfl (lv_at hl 1 rfl) ?_
          refine lv_iload_n hx hb dX5_init_226 rfl (lv_at hl 2 rfl) ?_
          refine va_iast hx hb hK hP hD hS 5 1 rfl rfl (vin_nI (a := (4 * n9)) rfl (by omega) (by omega)) dX5_init_227 (fun H locs hP hD hS => ?_)
          rw [cn_nI (i := nI (4 * n9)) (a := (4 * n9)) rfl (by omega)] at hP hD
          have hP : va_P D vwCl [(o, mO ad 0 0), (ad 0, aI ca 6 kd0), (ad 1, aI ca 6 (fun _ => 0)), (ad 2, aL ca 96 (fun _ => 0)), (ad 3, aI ca 64 (fun _ => 0)), (ad 4, aI ca 96 (upd un (4 * n9) (iZ ya))), (ad 6, aL ca 48 (fun _ => 0)), (ad 7, aL ca 16 (fun _ => 0)), (ad 8, a4 ca (0, 0, 0, 0)), (ad 9, a4 ca (0, 0, 0, 0)), (ad 10, a4 ca (0, 0, 0, 0)), (ad 11, a4 ca (0, 0, 0, 0)), (ad 12, a4 ca (0, 0, 0, 0)), (ad 13, a4 ca (0, 0, 0, 0)), (ad 14, a4 ca (0, 0, 0, 0)), (ad 15, a4 ca (0, 0, 0, 0)), (ad 16, a4 ca (0, 0, 0, 0))] H := hP
          have hD : va_D A [(o, mO ad 0 0), (ad 0, aI ca 6 kd0), (ad 1, aI ca 6 (fun _ => 0)), (ad 2, aL ca 96 (fun _ => 0)), (ad 3, aI ca 64 (fun _ => 0)), (ad 4, aI ca 96 (upd un (4 * n9) (iZ ya))), (ad 6, aL ca 48 (fun _ => 0)), (ad 7, aL ca 16 (fun _ => 0)), (ad 8, a4 ca (0, 0, 0, 0)), (ad 9, a4 ca (0, 0, 0, 0)), (ad 10, a4 ca (0, 0, 0, 0)), (ad 11, a4 ca (0, 0, 0, 0)), (ad 12, a4 ca (0, 0, 0, 0)), (ad 13, a4 ca (0, 0, 0, 0)), (ad 14, a4 ca (0, 0, 0, 0)), (ad 15, a4 ca (0, 0, 0, 0)), (ad 16, a4 ca (0, 0, 0, 0))] := hD
          refine lv_aload_n hx hb dX5_init_228 rfl (lv_at hl 0 rfl) ?_
          refine va_get (D := D) (ci := 4) (v := .ref (ad 4)) (C := RX5) (T := TX5) (N := 18) hx hb hts in_X5 hown hK hP 0 rfl rfl 4 (by decide) (hts _ q577) (fun _ h9 => h9) rfl dX5_init_229 ?_
          refine lv_iload_n hx hb dX5_init_232 rfl (lv_at hl 1 rfl) ?_
          refine lv_iconst (v := 1) hx hb dX5_init_233 (by decide) ?_
          refine lv_iadd hx hb dX5_init_234 ?_
          refine lv_iload_n hx hb dX5_init_235 rfl (lv_at hl 3 rfl) ?_
          refine va_iast hx hb hK hP hD hS 5 1 rfl rfl (vin_nI (a := (4 * n9) + 1) (eq_add rfl rfl) (by omega) (by omega)) dX5_init_236 (fun H locs hP hD hS => ?_)
          rw [cn_nI (i := (nI (4 * n9)) + 1) (a := (4 * n9) + 1) (eq_add rfl rfl) (by omega)] at hP hD
          have hP : va_P D vwCl [(o, mO ad 0 0), (ad 0, aI ca 6 kd0), (ad 1, aI ca 6 (fun _ => 0)), (ad 2, aL ca 96 (fun _ => 0)), (ad 3, aI ca 64 (fun _ => 0)), (ad 4, aI ca 96 (upd (upd un (4 * n9) (iZ ya)) ((4 * n9) + 1) (iZ yb))), (ad 6, aL ca 48 (fun _ => 0)), (ad 7, aL ca 16 (fun _ => 0)), (ad 8, a4 ca (0, 0, 0, 0)), (ad 9, a4 ca (0, 0, 0, 0)), (ad 10, a4 ca (0, 0, 0, 0)), (ad 11, a4 ca (0, 0, 0, 0)), (ad 12, a4 ca (0, 0, 0, 0)), (ad 13, a4 ca (0, 0, 0, 0)), (ad 14, a4 ca (0, 0, 0, 0)), (ad 15, a4 ca (0, 0, 0, 0)), (ad 16, a4 ca (0, 0, 0, 0))] H := hP
          have hD : va_D A [(o, mO ad 0 0), (ad 0, aI ca 6 kd0), (ad 1, aI ca 6 (fun _ => 0)), (ad 2, aL ca 96 (fun _ => 0)), (ad 3, aI ca 64 (fun _ => 0)), (ad 4, aI ca 96 (upd (upd un (4 * n9) (iZ ya)) ((4 * n9) + 1) (iZ yb))), (ad 6, aL ca 48 (fun _ => 0)), (ad 7, aL ca 16 (fun _ => 0)), (ad 8, a4 ca (0, 0, 0, 0)), (ad 9, a4 ca (0, 0, 0, 0)), (ad 10, a4 ca (0, 0, 0, 0)), (ad 11, a4 ca (0, 0, 0, 0)), (ad 12, a4 ca (0, 0, 0, 0)), (ad 13, a4 ca (0, 0, 0, 0)), (ad 14, a4 ca (0, 0, 0, 0)), (ad 15, a4 ca (0, 0, 0, 0)), (ad 16, a4 ca (0, 0, 0, 0))] := hD
          refine lv_aload_n hx hb dX5_init_237 rfl (lv_at hl 0 rfl) ?_
          refine va_get (D := D) (ci := 4) (v := .ref (ad 4)) (C := RX5) (T := TX5) (N := 18) hx hb hts in_X5 hown hK hP 0 rfl rfl 4 (by decide) (hts _ q577) (fun _ h9 => h9) rfl dX5_init_238 ?_
          refine lv_iload_n hx hb dX5_init_241 rfl (lv_at hl 1 rfl) ?_
          refine lv_iconst (v := 2) hx hb dX5_init_242 (by decide) ?_
          refine lv_iadd hx hb dX5_init_243 ?_
          refine lv_iload hx hb dX5_init_244 (lv_at hl 4 rfl) ?_
          refine va_iast hx hb hK hP hD hS 5 1 rfl rfl (vin_nI (a := (4 * n9) + 2) (eq_add rfl rfl) (by omega) (by omega)) dX5_init_246 (fun H locs hP hD hS => ?_)
          rw [cn_nI (i := (nI (4 * n9)) + 2) (a := (4 * n9) + 2) (eq_add rfl rfl) (by omega)] at hP hD
          have hP : va_P D vwCl [(o, mO ad 0 0), (ad 0, aI ca 6 kd0), (ad 1, aI ca 6 (fun _ => 0)), (ad 2, aL ca 96 (fun _ => 0)), (ad 3, aI ca 64 (fun _ => 0)), (ad 4, aI ca 96 (upd (upd (upd un (4 * n9) (iZ ya)) ((4 * n9) + 1) (iZ yb)) ((4 * n9) + 2) (iZ yc))), (ad 6, aL ca 48 (fun _ => 0)), (ad 7, aL ca 16 (fun _ => 0)), (ad 8, a4 ca (0, 0, 0, 0)), (ad 9, a4 ca (0, 0, 0, 0)), (ad 10, a4 ca (0, 0, 0, 0)), (ad 11, a4 ca (0, 0, 0, 0)), (ad 12, a4 ca (0, 0, 0, 0)), (ad 13, a4 ca (0, 0, 0, 0)), (ad 14, a4 ca (0, 0, 0, 0)), (ad 15, a4 ca (0, 0, 0, 0)), (ad 16, a4 ca (0, 0, 0, 0))] H := hP
          have hD : va_D A [(o, mO ad 0 0), (ad 0, aI ca 6 kd0), (ad 1, aI ca 6 (fun _ => 0)), (ad 2, aL ca 96 (fun _ => 0)), (ad 3, aI ca 64 (fun _ => 0)), (ad 4, aI ca 96 (upd (upd (upd un (4 * n9) (iZ ya)) ((4 * n9) + 1) (iZ yb)) ((4 * n9) + 2) (iZ yc))), (ad 6, aL ca 48 (fun _ => 0)), (ad 7, aL ca 16 (fun _ => 0)), (ad 8, a4 ca (0, 0, 0, 0)), (ad 9, a4 ca (0, 0, 0, 0)), (ad 10, a4 ca (0, 0, 0, 0)), (ad 11, a4 ca (0, 0, 0, 0)), (ad 12, a4 ca (0, 0, 0, 0)), (ad 13, a4 ca (0, 0, 0, 0)), (ad 14, a4 ca (0, 0, 0, 0)), (ad 15, a4 ca (0, 0, 0, 0)), (ad 16, a4 ca (0, 0, 0, 0))] := hD
          refine lv_aload_n hx hb dX5_init_247 rfl (lv_at hl 0 rfl) ?_
          refine va_get (D := D) (ci := 4) (v := .ref (ad 4)) (C := RX5) (T := TX5) (N := 18) hx hb hts in_X5 hown hK hP 0 rfl rfl 4 (by decide) (hts _ q577) (fun _ h9 => h9) rfl dX5_init_248 ?_
          refine lv_iload_n hx hb dX5_init_251 rfl (lv_at hl 1 rfl) ?_
          refine lv_iconst (v := 3) hx hb dX5_init_252 (by decide) ?_
          refine lv_iadd hx hb dX5_init_253 ?_
          refine lv_iload hx hb dX5_init_254 (lv_at hl 5 rfl) ?_
          refine va_iast hx hb hK hP hD hS 5 1 rfl rfl (vin_nI (a := (4 * n9) + 3) (eq_add rfl rfl) (by omega) (by omega)) dX5_init_256 (fun H locs hP hD hS => ?_)
          rw [cn_nI (i := (nI (4 * n9)) + 3) (a := (4 * n9) + 3) (eq_add rfl rfl) (by omega)] at hP hD
          have hP : va_P D vwCl [(o, mO ad 0 0), (ad 0, aI ca 6 kd0), (ad 1, aI ca 6 (fun _ => 0)), (ad 2, aL ca 96 (fun _ => 0)), (ad 3, aI ca 64 (fun _ => 0)), (ad 4, aI ca 96 (upd (upd (upd (upd un (4 * n9) (iZ ya)) ((4 * n9) + 1) (iZ yb)) ((4 * n9) + 2) (iZ yc)) ((4 * n9) + 3) (iZ yd))), (ad 6, aL ca 48 (fun _ => 0)), (ad 7, aL ca 16 (fun _ => 0)), (ad 8, a4 ca (0, 0, 0, 0)), (ad 9, a4 ca (0, 0, 0, 0)), (ad 10, a4 ca (0, 0, 0, 0)), (ad 11, a4 ca (0, 0, 0, 0)), (ad 12, a4 ca (0, 0, 0, 0)), (ad 13, a4 ca (0, 0, 0, 0)), (ad 14, a4 ca (0, 0, 0, 0)), (ad 15, a4 ca (0, 0, 0, 0)), (ad 16, a4 ca (0, 0, 0, 0))] H := hP
          have hD : va_D A [(o, mO ad 0 0), (ad 0, aI ca 6 kd0), (ad 1, aI ca 6 (fun _ => 0)), (ad 2, aL ca 96 (fun _ => 0)), (ad 3, aI ca 64 (fun _ => 0)), (ad 4, aI ca 96 (upd (upd (upd (upd un (4 * n9) (iZ ya)) ((4 * n9) + 1) (iZ yb)) ((4 * n9) + 2) (iZ yc)) ((4 * n9) + 3) (iZ yd))), (ad 6, aL ca 48 (fun _ => 0)), (ad 7, aL ca 16 (fun _ => 0)), (ad 8, a4 ca (0, 0, 0, 0)), (ad 9, a4 ca (0, 0, 0, 0)), (ad 10, a4 ca (0, 0, 0, 0)), (ad 11, a4 ca (0, 0, 0, 0)), (ad 12, a4 ca (0, 0, 0, 0)), (ad 13, a4 ca (0, 0, 0, 0)), (ad 14, a4 ca (0, 0, 0, 0)), (ad 15, a4 ca (0, 0, 0, 0)), (ad 16, a4 ca (0, 0, 0, 0))] := hD
          rw [wq_z] at hP hD
          have hP : va_P D vwCl [(o, mO ad 0 0), (ad 0, aI ca 6 kd0), (ad 1, aI ca 6 (fun _ => 0)), (ad 2, aL ca 96 (fun _ => 0)), (ad 3, aI ca 64 (fun _ => 0)), (ad 4, aI ca 96 (wq un n9 (qz (ya, yb, yc, yd)))), (ad 6, aL ca 48 (fun _ => 0)), (ad 7, aL ca 16 (fun _ => 0)), (ad 8, a4 ca (0, 0, 0, 0)), (ad 9, a4 ca (0, 0, 0, 0)), (ad 10, a4 ca (0, 0, 0, 0)), (ad 11, a4 ca (0, 0, 0, 0)), (ad 12, a4 ca (0, 0, 0, 0)), (ad 13, a4 ca (0, 0, 0, 0)), (ad 14, a4 ca (0, 0, 0, 0)), (ad 15, a4 ca (0, 0, 0, 0)), (ad 16, a4 ca (0, 0, 0, 0))] H := hP
          have hD : va_D A [(o, mO ad 0 0), (ad 0, aI ca 6 kd0), (ad 1, aI ca 6 (fun _ => 0)), (ad 2, aL ca 96 (fun _ => 0)), (ad 3, aI ca 64 (fun _ => 0)), (ad 4, aI ca 96 (wq un n9 (qz (ya, yb, yc, yd)))), (ad 6, aL ca 48 (fun _ => 0)), (ad 7, aL ca 16 (fun _ => 0)), (ad 8, a4 ca (0, 0, 0, 0)), (ad 9, a4 ca (0, 0, 0, 0)), (ad 10, a4 ca (0, 0, 0, 0)), (ad 11, a4 ca (0, 0, 0, 0)), (ad 12, a4 ca (0, 0, 0, 0)), (ad 13, a4 ca (0, 0, 0, 0)), (ad 14, a4 ca (0, 0, 0, 0)), (ad 15, a4 ca (0, 0, 0, 0)), (ad 16, a4 ca (0, 0, 0, 0))] := hD
          refine lv_iinc (v := nI ((4 * n9) + 4)) (lv' := [(1, .int (nI ((4 * n9) + 4))), (0, .ref o), (2, .int (iZ ya)), (3, .int (iZ yb)), (4, .int (iZ yc)), (5, .int (iZ yd))]) hx hb dX5_init_257 hl (k := 1) rfl (eq_add rfl rfl) (by decide) rfl (fun ls hl => ?_)
          refine lv_iinc (v := iZ (yd - 1)) (lv' := [(5, .int (iZ (yd - 1))), (1, .int (nI ((4 * n9) + 4))), (0, .ref o), (2, .int (iZ ya)), (3, .int (iZ yb)), (4, .int (iZ yc))]) hx hb dX5_init_260 hl (k := 5) rfl ((zadd rfl (b := -1) (by decide)).trans (congrArg iZ (by omega))) (by decide) rfl (fun ls hl => ?_)
          refine lv_goto (tgt := 175) hx hb dX5_init_263 (by decide) ?_
          rw [show 4 * n9 + 4 = 4 * (n9 + 1) by omega] at hl
          exact ih ya yb yc (yd - 1) (n9 + 1) (wq un n9 (qz (ya, yb, yc, yd))) (by omega) (by omega) (by omega) (by omega) hF (by omega) _ _ _ hP hD hS (lv_sub hl [2, 1, 3, 4, 5, 0] rfl) 
set_option maxHeartbeats 4000000 in
set_option maxRecDepth 100000 in
theorem ct_X5_init {KN : State → Prop} (hk : KNok KN) (l : Launch) (D : va_G) (ca : Nat → ClassId) (zH : Nat) (o : Nat)  : Met l yX5_init (ws_ yX5_init cX5_init 6 none) ({ frames := 1, cells := 16, slots := 368, locals := 29 }) (va_Pc [.ref o] (pr_ KN D ca [(o, .inr (4, [.null, .null, .null, .null, .null, .int 0, .null, .null, .null, .null, .null, .null, .null, .null, .null, .null, .null, .int 0]))] zH (fun _ => True))) (qV D (fun (u : Nat → Nat) => True) (fun u => [(o, mO u 0 0), (u 0, aI ca 6 kd0), (u 1, aI ca 6 (fun _ => 0)), (u 2, aL ca 96 (fun _ => 0)), (u 3, aI ca 64 (fun _ => 0)), (u 4, aI ca 96 unC), (u 6, aL ca 48 (fun _ => 0)), (u 7, aL ca 16 (fun _ => 0)), (u 8, a4 ca (0, 0, 0, 0)), (u 9, a4 ca (0, 0, 0, 0)), (u 10, a4 ca (0, 0, 0, 0)), (u 11, a4 ca (0, 0, 0, 0)), (u 12, a4 ca (0, 0, 0, 0)), (u 13, a4 ca (0, 0, 0, 0)), (u 14, a4 ca (0, 0, 0, 0)), (u 15, a4 ca (0, 0, 0, 0)), (u 16, a4 ca (0, 0, 0, 0))]) (fun u H => True) (va_A [(o, .inr (4, [.null, .null, .null, .null, .null, .int 0, .null, .null, .null, .null, .null, .null, .null, .null, .null, .null, .null, .int 0]))] zH)) 16 368 (va_A [(o, .inr (4, [.null, .null, .null, .null, .null, .int 0, .null, .null, .null, .null, .null, .null, .null, .null, .null, .null, .null, .int 0]))] zH) := by
  refine k_ofW (Qc := qV D (fun (u : Nat → Nat) => True) (fun u => [(o, mO u 0 0), (u 0, aI ca 6 kd0), (u 1, aI ca 6 (fun _ => 0)), (u 2, aL ca 96 (fun _ => 0)), (u 3, aI ca 64 (fun _ => 0)), (u 4, aI ca 96 unC), (u 6, aL ca 48 (fun _ => 0)), (u 7, aL ca 16 (fun _ => 0)), (u 8, a4 ca (0, 0, 0, 0)), (u 9, a4 ca (0, 0, 0, 0)), (u 10, a4 ca (0, 0, 0, 0)), (u 11, a4 ca (0, 0, 0, 0)), (u 12, a4 ca (0, 0, 0, 0)), (u 13, a4 ca (0, 0, 0, 0)), (u 14, a4 ca (0, 0, 0, 0)), (u 15, a4 ca (0, 0, 0, 0)), (u 16, a4 ca (0, 0, 0, 0))]) (fun u H => True)) (by decide) (Nat.le_of_ble_eq_true rfl) ?_
  intro p e s m below meth c ls A H hH hx hb hr hts hown hlocks hnm hml hsz hP hD hK hN hA hAn hS hro hl
  have hl : lv_has ls 6 [(0, .ref o)] := hl
  refine lv_aload_n hx hb dX5_init_0 rfl (lv_at hl 0 rfl) ?_
  refine W.objInit hx hb hown (hts _ q569) (hts _ q55) (hts _ q56) rfl (by rw [hml]; exact hl.1) rfl dX5_init_1 (Nat.le_of_ble_eq_true rfl) (Nat.le_of_ble_eq_true rfl) ?_
  refine W.eq (g2 := F0 m 4 ls []) rfl ?_
  refine lv_aload_n hx hb dX5_init_4 rfl (lv_at hl 0 rfl) ?_
  refine lv_bipush (v := 6) hx hb dX5_init_5 (by decide) ?_
  refine va_newa (atype := .int) (a0 := (6, .inl (fun _ => 0))) hx hb (hts _ q139) rfl hK hP hD hS hA (fun _ => rfl) (fun h => absurd h (by decide)) (by decide) (by decide) (Nat.le_of_ble_eq_true rfl) (Nat.le_of_ble_eq_true rfl) dX5_init_7 (fun x0 cA H hK9 hP hD hS => ?_)
  have ecA : cA = ca 1 := Option.some.inj (((hK9.2 6 _ rfl).2).symm.trans ((hK.2 1 _ rfl).2))
  subst ecA
  have hP : va_P D vwCl [(o, .inr (4, [.null, .null, .null, .null, .null, .int 0, .null, .null, .null, .null, .null, .null, .null, .null, .null, .null, .null, .int 0])), (x0, aI ca 6 (fun _ => 0))] H := hP
  have hD : va_D A [(o, .inr (4, [.null, .null, .null, .null, .null, .int 0, .null, .null, .null, .null, .null, .null, .null, .null, .null, .null, .null, .int 0])), (x0, aI ca 6 (fun _ => 0))] := hD
  refine va_putF (D := D) (ci := 4) (v := .ref x0) (ty := (.array .int)) (C := RX5) (T := TX5) (N := 18) hx hb hts in_X5 tyX5 tyX5_ok nmX5 hown hK hP hD hS 0 rfl rfl 0 (by decide) (hts _ q573) (fun _ h9 => h9) rfl hnm rfl (by decide +kernel) rfl rfl (Nat.le_of_ble_eq_true rfl) dX5_init_9 (fun H locs hP hD hS => ?_)
  have hP : va_P D vwCl [(o, .inr (4, [.ref x0, .null, .null, .null, .null, .int 0, .null, .null, .null, .null, .null, .null, .null, .null, .null, .null, .null, .int 0])), (x0, aI ca 6 (fun _ => 0))] H := hP
  have hD : va_D A [(o, .inr (4, [.ref x0, .null, .null, .null, .null, .int 0, .null, .null, .null, .null, .null, .null, .null, .null, .null, .null, .null, .int 0])), (x0, aI ca 6 (fun _ => 0))] := hD
  refine lv_aload_n hx hb dX5_init_12 rfl (lv_at hl 0 rfl) ?_
  refine lv_bipush (v := 6) hx hb dX5_init_13 (by decide) ?_
  refine va_newa (atype := .int) (a0 := (6, .inl (fun _ => 0))) hx hb (hts _ q139) rfl hK hP hD hS hA (fun _ => rfl) (fun h => absurd h (by decide)) (by decide) (by decide) (Nat.le_of_ble_eq_true rfl) (Nat.le_of_ble_eq_true rfl) dX5_init_15 (fun x1 cA H hK9 hP hD hS => ?_)
  have ecA : cA = ca 1 := Option.some.inj (((hK9.2 6 _ rfl).2).symm.trans ((hK.2 1 _ rfl).2))
  subst ecA
  have hP : va_P D vwCl [(o, .inr (4, [.ref x0, .null, .null, .null, .null, .int 0, .null, .null, .null, .null, .null, .null, .null, .null, .null, .null, .null, .int 0])), (x0, aI ca 6 (fun _ => 0)), (x1, aI ca 6 (fun _ => 0))] H := hP
  have hD : va_D A [(o, .inr (4, [.ref x0, .null, .null, .null, .null, .int 0, .null, .null, .null, .null, .null, .null, .null, .null, .null, .null, .null, .int 0])), (x0, aI ca 6 (fun _ => 0)), (x1, aI ca 6 (fun _ => 0))] := hD
  refine va_putF (D := D) (ci := 4) (v := .ref x1) (ty := (.array .int)) (C := RX5) (T := TX5) (N := 18) hx hb hts in_X5 tyX5 tyX5_ok nmX5 hown hK hP hD hS 0 rfl rfl 1 (by decide) (hts _ q574) (fun _ h9 => h9) rfl hnm rfl (by decide +kernel) rfl rfl (Nat.le_of_ble_eq_true rfl) dX5_init_17 (fun H locs hP hD hS => ?_)
  have hP : va_P D vwCl [(o, .inr (4, [.ref x0, .ref x1, .null, .null, .null, .int 0, .null, .null, .null, .null, .null, .null, .null, .null, .null, .null, .null, .int 0])), (x0, aI ca 6 (fun _ => 0)), (x1, aI ca 6 (fun _ => 0))] H := hP
  have hD : va_D A [(o, .inr (4, [.ref x0, .ref x1, .null, .null, .null, .int 0, .null, .null, .null, .null, .null, .null, .null, .null, .null, .null, .null, .int 0])), (x0, aI ca 6 (fun _ => 0)), (x1, aI ca 6 (fun _ => 0))] := hD
  refine lv_aload_n hx hb dX5_init_20 rfl (lv_at hl 0 rfl) ?_
  refine lv_bipush (v := 96) hx hb dX5_init_21 (by decide) ?_
  refine va_newa (atype := .long) (a0 := (96, .inr (.inl (fun _ => 0)))) hx hb (hts _ q140) rfl hK hP hD hS hA (fun _ => rfl) (fun h => absurd h (by decide)) (by decide) (by decide) (Nat.le_of_ble_eq_true rfl) (Nat.le_of_ble_eq_true rfl) dX5_init_23 (fun x2 cA H hK9 hP hD hS => ?_)
  have ecA : cA = ca 2 := Option.some.inj (((hK9.2 6 _ rfl).2).symm.trans ((hK.2 2 _ rfl).2))
  subst ecA
  have hP : va_P D vwCl [(o, .inr (4, [.ref x0, .ref x1, .null, .null, .null, .int 0, .null, .null, .null, .null, .null, .null, .null, .null, .null, .null, .null, .int 0])), (x0, aI ca 6 (fun _ => 0)), (x1, aI ca 6 (fun _ => 0)), (x2, aL ca 96 (fun _ => 0))] H := hP
  have hD : va_D A [(o, .inr (4, [.ref x0, .ref x1, .null, .null, .null, .int 0, .null, .null, .null, .null, .null, .null, .null, .null, .null, .null, .null, .int 0])), (x0, aI ca 6 (fun _ => 0)), (x1, aI ca 6 (fun _ => 0)), (x2, aL ca 96 (fun _ => 0))] := hD
  refine va_putF (D := D) (ci := 4) (v := .ref x2) (ty := (.array .long)) (C := RX5) (T := TX5) (N := 18) hx hb hts in_X5 tyX5 tyX5_ok nmX5 hown hK hP hD hS 0 rfl rfl 2 (by decide) (hts _ q575) (fun _ h9 => h9) rfl hnm rfl (by decide +kernel) rfl rfl (Nat.le_of_ble_eq_true rfl) dX5_init_25 (fun H locs hP hD hS => ?_)
  have hP : va_P D vwCl [(o, .inr (4, [.ref x0, .ref x1, .ref x2, .null, .null, .int 0, .null, .null, .null, .null, .null, .null, .null, .null, .null, .null, .null, .int 0])), (x0, aI ca 6 (fun _ => 0)), (x1, aI ca 6 (fun _ => 0)), (x2, aL ca 96 (fun _ => 0))] H := hP
  have hD : va_D A [(o, .inr (4, [.ref x0, .ref x1, .ref x2, .null, .null, .int 0, .null, .null, .null, .null, .null, .null, .null, .null, .null, .null, .null, .int 0])), (x0, aI ca 6 (fun _ => 0)), (x1, aI ca 6 (fun _ => 0)), (x2, aL ca 96 (fun _ => 0))] := hD
  refine lv_aload_n hx hb dX5_init_28 rfl (lv_at hl 0 rfl) ?_
  refine lv_bipush (v := 64) hx hb dX5_init_29 (by decide) ?_
  refine va_newa (atype := .int) (a0 := (64, .inl (fun _ => 0))) hx hb (hts _ q139) rfl hK hP hD hS hA (fun _ => rfl) (fun h => absurd h (by decide)) (by decide) (by decide) (Nat.le_of_ble_eq_true rfl) (Nat.le_of_ble_eq_true rfl) dX5_init_31 (fun x3 cA H hK9 hP hD hS => ?_)
  have ecA : cA = ca 1 := Option.some.inj (((hK9.2 6 _ rfl).2).symm.trans ((hK.2 1 _ rfl).2))
  subst ecA
  have hP : va_P D vwCl [(o, .inr (4, [.ref x0, .ref x1, .ref x2, .null, .null, .int 0, .null, .null, .null, .null, .null, .null, .null, .null, .null, .null, .null, .int 0])), (x0, aI ca 6 (fun _ => 0)), (x1, aI ca 6 (fun _ => 0)), (x2, aL ca 96 (fun _ => 0)), (x3, aI ca 64 (fun _ => 0))] H := hP
  have hD : va_D A [(o, .inr (4, [.ref x0, .ref x1, .ref x2, .null, .null, .int 0, .null, .null, .null, .null, .null, .null, .null, .null, .null, .null, .null, .int 0])), (x0, aI ca 6 (fun _ => 0)), (x1, aI ca 6 (fun _ => 0)), (x2, aL ca 96 (fun _ => 0)), (x3, aI ca 64 (fun _ => 0))] := hD
  refine va_putF (D := D) (ci := 4) (v := .ref x3) (ty := (.array .int)) (C := RX5) (T := TX5) (N := 18) hx hb hts in_X5 tyX5 tyX5_ok nmX5 hown hK hP hD hS 0 rfl rfl 3 (by decide) (hts _ q576) (fun _ h9 => h9) rfl hnm rfl (by decide +kernel) rfl rfl (Nat.le_of_ble_eq_true rfl) dX5_init_33 (fun H locs hP hD hS => ?_)
  have hP : va_P D vwCl [(o, .inr (4, [.ref x0, .ref x1, .ref x2, .ref x3, .null, .int 0, .null, .null, .null, .null, .null, .null, .null, .null, .null, .null, .null, .int 0])), (x0, aI ca 6 (fun _ => 0)), (x1, aI ca 6 (fun _ => 0)), (x2, aL ca 96 (fun _ => 0)), (x3, aI ca 64 (fun _ => 0))] H := hP
  have hD : va_D A [(o, .inr (4, [.ref x0, .ref x1, .ref x2, .ref x3, .null, .int 0, .null, .null, .null, .null, .null, .null, .null, .null, .null, .null, .null, .int 0])), (x0, aI ca 6 (fun _ => 0)), (x1, aI ca 6 (fun _ => 0)), (x2, aL ca 96 (fun _ => 0)), (x3, aI ca 64 (fun _ => 0))] := hD
  refine lv_aload_n hx hb dX5_init_36 rfl (lv_at hl 0 rfl) ?_
  refine lv_bipush (v := 96) hx hb dX5_init_37 (by decide) ?_
  refine va_newa (atype := .int) (a0 := (96, .inl (fun _ => 0))) hx hb (hts _ q139) rfl hK hP hD hS hA (fun _ => rfl) (fun h => absurd h (by decide)) (by decide) (by decide) (Nat.le_of_ble_eq_true rfl) (Nat.le_of_ble_eq_true rfl) dX5_init_39 (fun x4 cA H hK9 hP hD hS => ?_)
  have ecA : cA = ca 1 := Option.some.inj (((hK9.2 6 _ rfl).2).symm.trans ((hK.2 1 _ rfl).2))
  subst ecA
  have hP : va_P D vwCl [(o, .inr (4, [.ref x0, .ref x1, .ref x2, .ref x3, .null, .int 0, .null, .null, .null, .null, .null, .null, .null, .null, .null, .null, .null, .int 0])), (x0, aI ca 6 (fun _ => 0)), (x1, aI ca 6 (fun _ => 0)), (x2, aL ca 96 (fun _ => 0)), (x3, aI ca 64 (fun _ => 0)), (x4, aI ca 96 (fun _ => 0))] H := hP
  have hD : va_D A [(o, .inr (4, [.ref x0, .ref x1, .ref x2, .ref x3, .null, .int 0, .null, .null, .null, .null, .null, .null, .null, .null, .null, .null, .null, .int 0])), (x0, aI ca 6 (fun _ => 0)), (x1, aI ca 6 (fun _ => 0)), (x2, aL ca 96 (fun _ => 0)), (x3, aI ca 64 (fun _ => 0)), (x4, aI ca 96 (fun _ => 0))] := hD
  refine va_putF (D := D) (ci := 4) (v := .ref x4) (ty := (.array .int)) (C := RX5) (T := TX5) (N := 18) hx hb hts in_X5 tyX5 tyX5_ok nmX5 hown hK hP hD hS 0 rfl rfl 4 (by decide) (hts _ q577) (fun _ h9 => h9) rfl hnm rfl (by decide +kernel) rfl rfl (Nat.le_of_ble_eq_true rfl) dX5_init_41 (fun H locs hP hD hS => ?_)
  have hP : va_P D vwCl [(o, .inr (4, [.ref x0, .ref x1, .ref x2, .ref x3, .ref x4, .int 0, .null, .null, .null, .null, .null, .null, .null, .null, .null, .null, .null, .int 0])), (x0, aI ca 6 (fun _ => 0)), (x1, aI ca 6 (fun _ => 0)), (x2, aL ca 96 (fun _ => 0)), (x3, aI ca 64 (fun _ => 0)), (x4, aI ca 96 (fun _ => 0))] H := hP
  have hD : va_D A [(o, .inr (4, [.ref x0, .ref x1, .ref x2, .ref x3, .ref x4, .int 0, .null, .null, .null, .null, .null, .null, .null, .null, .null, .null, .null, .int 0])), (x0, aI ca 6 (fun _ => 0)), (x1, aI ca 6 (fun _ => 0)), (x2, aL ca 96 (fun _ => 0)), (x3, aI ca 64 (fun _ => 0)), (x4, aI ca 96 (fun _ => 0))] := hD
  refine lv_aload_n hx hb dX5_init_44 rfl (lv_at hl 0 rfl) ?_
  refine lv_bipush (v := 48) hx hb dX5_init_45 (by decide) ?_
  refine va_newa (atype := .long) (a0 := (48, .inr (.inl (fun _ => 0)))) hx hb (hts _ q140) rfl hK hP hD hS hA (fun _ => rfl) (fun h => absurd h (by decide)) (by decide) (by decide) (Nat.le_of_ble_eq_true rfl) (Nat.le_of_ble_eq_true rfl) dX5_init_47 (fun x6 cA H hK9 hP hD hS => ?_)
  have ecA : cA = ca 2 := Option.some.inj (((hK9.2 6 _ rfl).2).symm.trans ((hK.2 2 _ rfl).2))
  subst ecA
  have hP : va_P D vwCl [(o, .inr (4, [.ref x0, .ref x1, .ref x2, .ref x3, .ref x4, .int 0, .null, .null, .null, .null, .null, .null, .null, .null, .null, .null, .null, .int 0])), (x0, aI ca 6 (fun _ => 0)), (x1, aI ca 6 (fun _ => 0)), (x2, aL ca 96 (fun _ => 0)), (x3, aI ca 64 (fun _ => 0)), (x4, aI ca 96 (fun _ => 0)), (x6, aL ca 48 (fun _ => 0))] H := hP
  have hD : va_D A [(o, .inr (4, [.ref x0, .ref x1, .ref x2, .ref x3, .ref x4, .int 0, .null, .null, .null, .null, .null, .null, .null, .null, .null, .null, .null, .int 0])), (x0, aI ca 6 (fun _ => 0)), (x1, aI ca 6 (fun _ => 0)), (x2, aL ca 96 (fun _ => 0)), (x3, aI ca 64 (fun _ => 0)), (x4, aI ca 96 (fun _ => 0)), (x6, aL ca 48 (fun _ => 0))] := hD
  refine va_putF (D := D) (ci := 4) (v := .ref x6) (ty := (.array .long)) (C := RX5) (T := TX5) (N := 18) hx hb hts in_X5 tyX5 tyX5_ok nmX5 hown hK hP hD hS 0 rfl rfl 6 (by decide) (hts _ q579) (fun _ h9 => h9) rfl hnm rfl (by decide +kernel) rfl rfl (Nat.le_of_ble_eq_true rfl) dX5_init_49 (fun H locs hP hD hS => ?_)
  have hP : va_P D vwCl [(o, .inr (4, [.ref x0, .ref x1, .ref x2, .ref x3, .ref x4, .int 0, .ref x6, .null, .null, .null, .null, .null, .null, .null, .null, .null, .null, .int 0])), (x0, aI ca 6 (fun _ => 0)), (x1, aI ca 6 (fun _ => 0)), (x2, aL ca 96 (fun _ => 0)), (x3, aI ca 64 (fun _ => 0)), (x4, aI ca 96 (fun _ => 0)), (x6, aL ca 48 (fun _ => 0))] H := hP
  have hD : va_D A [(o, .inr (4, [.ref x0, .ref x1, .ref x2, .ref x3, .ref x4, .int 0, .ref x6, .null, .null, .null, .null, .null, .null, .null, .null, .null, .null, .int 0])), (x0, aI ca 6 (fun _ => 0)), (x1, aI ca 6 (fun _ => 0)), (x2, aL ca 96 (fun _ => 0)), (x3, aI ca 64 (fun _ => 0)), (x4, aI ca 96 (fun _ => 0)), (x6, aL ca 48 (fun _ => 0))] := hD
  refine lv_aload_n hx hb dX5_init_52 rfl (lv_at hl 0 rfl) ?_
  refine lv_bipush (v := 16) hx hb dX5_init_53 (by decide) ?_
  refine va_newa (atype := .long) (a0 := (16, .inr (.inl (fun _ => 0)))) hx hb (hts _ q140) rfl hK hP hD hS hA (fun _ => rfl) (fun h => absurd h (by decide)) (by decide) (by decide) (Nat.le_of_ble_eq_true rfl) (Nat.le_of_ble_eq_true rfl) dX5_init_55 (fun x7 cA H hK9 hP hD hS => ?_)
  have ecA : cA = ca 2 := Option.some.inj (((hK9.2 6 _ rfl).2).symm.trans ((hK.2 2 _ rfl).2))
  subst ecA
  have hP : va_P D vwCl [(o, .inr (4, [.ref x0, .ref x1, .ref x2, .ref x3, .ref x4, .int 0, .ref x6, .null, .null, .null, .null, .null, .null, .null, .null, .null, .null, .int 0])), (x0, aI ca 6 (fun _ => 0)), (x1, aI ca 6 (fun _ => 0)), (x2, aL ca 96 (fun _ => 0)), (x3, aI ca 64 (fun _ => 0)), (x4, aI ca 96 (fun _ => 0)), (x6, aL ca 48 (fun _ => 0)), (x7, aL ca 16 (fun _ => 0))] H := hP
  have hD : va_D A [(o, .inr (4, [.ref x0, .ref x1, .ref x2, .ref x3, .ref x4, .int 0, .ref x6, .null, .null, .null, .null, .null, .null, .null, .null, .null, .null, .int 0])), (x0, aI ca 6 (fun _ => 0)), (x1, aI ca 6 (fun _ => 0)), (x2, aL ca 96 (fun _ => 0)), (x3, aI ca 64 (fun _ => 0)), (x4, aI ca 96 (fun _ => 0)), (x6, aL ca 48 (fun _ => 0)), (x7, aL ca 16 (fun _ => 0))] := hD
  refine va_putF (D := D) (ci := 4) (v := .ref x7) (ty := (.array .long)) (C := RX5) (T := TX5) (N := 18) hx hb hts in_X5 tyX5 tyX5_ok nmX5 hown hK hP hD hS 0 rfl rfl 7 (by decide) (hts _ q580) (fun _ h9 => h9) rfl hnm rfl (by decide +kernel) rfl rfl (Nat.le_of_ble_eq_true rfl) dX5_init_57 (fun H locs hP hD hS => ?_)
  have hP : va_P D vwCl [(o, .inr (4, [.ref x0, .ref x1, .ref x2, .ref x3, .ref x4, .int 0, .ref x6, .ref x7, .null, .null, .null, .null, .null, .null, .null, .null, .null, .int 0])), (x0, aI ca 6 (fun _ => 0)), (x1, aI ca 6 (fun _ => 0)), (x2, aL ca 96 (fun _ => 0)), (x3, aI ca 64 (fun _ => 0)), (x4, aI ca 96 (fun _ => 0)), (x6, aL ca 48 (fun _ => 0)), (x7, aL ca 16 (fun _ => 0))] H := hP
  have hD : va_D A [(o, .inr (4, [.ref x0, .ref x1, .ref x2, .ref x3, .ref x4, .int 0, .ref x6, .ref x7, .null, .null, .null, .null, .null, .null, .null, .null, .null, .int 0])), (x0, aI ca 6 (fun _ => 0)), (x1, aI ca 6 (fun _ => 0)), (x2, aL ca 96 (fun _ => 0)), (x3, aI ca 64 (fun _ => 0)), (x4, aI ca 96 (fun _ => 0)), (x6, aL ca 48 (fun _ => 0)), (x7, aL ca 16 (fun _ => 0))] := hD
  refine lv_aload_n hx hb dX5_init_60 rfl (lv_at hl 0 rfl) ?_
  refine lv_iconst (v := 4) hx hb dX5_init_61 (by decide) ?_
  refine va_newa (atype := .long) (a0 := (4, .inr (.inl (fun _ => 0)))) hx hb (hts _ q140) rfl hK hP hD hS hA (fun _ => rfl) (fun h => absurd h (by decide)) (by decide) (by decide) (Nat.le_of_ble_eq_true rfl) (Nat.le_of_ble_eq_true rfl) dX5_init_62 (fun x8 cA H hK9 hP hD hS => ?_)
  have ecA : cA = ca 2 := Option.some.inj (((hK9.2 6 _ rfl).2).symm.trans ((hK.2 2 _ rfl).2))
  subst ecA
  have hP : va_P D vwCl [(o, .inr (4, [.ref x0, .ref x1, .ref x2, .ref x3, .ref x4, .int 0, .ref x6, .ref x7, .null, .null, .null, .null, .null, .null, .null, .null, .null, .int 0])), (x0, aI ca 6 (fun _ => 0)), (x1, aI ca 6 (fun _ => 0)), (x2, aL ca 96 (fun _ => 0)), (x3, aI ca 64 (fun _ => 0)), (x4, aI ca 96 (fun _ => 0)), (x6, aL ca 48 (fun _ => 0)), (x7, aL ca 16 (fun _ => 0)), (x8, aL ca 4 (fun _ => 0))] H := hP
  have hD : va_D A [(o, .inr (4, [.ref x0, .ref x1, .ref x2, .ref x3, .ref x4, .int 0, .ref x6, .ref x7, .null, .null, .null, .null, .null, .null, .null, .null, .null, .int 0])), (x0, aI ca 6 (fun _ => 0)), (x1, aI ca 6 (fun _ => 0)), (x2, aL ca 96 (fun _ => 0)), (x3, aI ca 64 (fun _ => 0)), (x4, aI ca 96 (fun _ => 0)), (x6, aL ca 48 (fun _ => 0)), (x7, aL ca 16 (fun _ => 0)), (x8, aL ca 4 (fun _ => 0))] := hD
  refine va_putF (D := D) (ci := 4) (v := .ref x8) (ty := (.array .long)) (C := RX5) (T := TX5) (N := 18) hx hb hts in_X5 tyX5 tyX5_ok nmX5 hown hK hP hD hS 0 rfl rfl 8 (by decide) (hts _ q581) (fun _ h9 => h9) rfl hnm rfl (by decide +kernel) rfl rfl (Nat.le_of_ble_eq_true rfl) dX5_init_64 (fun H locs hP hD hS => ?_)
  have hP : va_P D vwCl [(o, .inr (4, [.ref x0, .ref x1, .ref x2, .ref x3, .ref x4, .int 0, .ref x6, .ref x7, .ref x8, .null, .null, .null, .null, .null, .null, .null, .null, .int 0])), (x0, aI ca 6 (fun _ => 0)), (x1, aI ca 6 (fun _ => 0)), (x2, aL ca 96 (fun _ => 0)), (x3, aI ca 64 (fun _ => 0)), (x4, aI ca 96 (fun _ => 0)), (x6, aL ca 48 (fun _ => 0)), (x7, aL ca 16 (fun _ => 0)), (x8, aL ca 4 (fun _ => 0))] H := hP
  have hD : va_D A [(o, .inr (4, [.ref x0, .ref x1, .ref x2, .ref x3, .ref x4, .int 0, .ref x6, .ref x7, .ref x8, .null, .null, .null, .null, .null, .null, .null, .null, .int 0])), (x0, aI ca 6 (fun _ => 0)), (x1, aI ca 6 (fun _ => 0)), (x2, aL ca 96 (fun _ => 0)), (x3, aI ca 64 (fun _ => 0)), (x4, aI ca 96 (fun _ => 0)), (x6, aL ca 48 (fun _ => 0)), (x7, aL ca 16 (fun _ => 0)), (x8, aL ca 4 (fun _ => 0))] := hD
  refine lv_aload_n hx hb dX5_init_67 rfl (lv_at hl 0 rfl) ?_
  refine lv_iconst (v := 4) hx hb dX5_init_68 (by decide) ?_
  refine va_newa (atype := .long) (a0 := (4, .inr (.inl (fun _ => 0)))) hx hb (hts _ q140) rfl hK hP hD hS hA (fun _ => rfl) (fun h => absurd h (by decide)) (by decide) (by decide) (Nat.le_of_ble_eq_true rfl) (Nat.le_of_ble_eq_true rfl) dX5_init_69 (fun x9 cA H hK9 hP hD hS => ?_)
  have ecA : cA = ca 2 := Option.some.inj (((hK9.2 6 _ rfl).2).symm.trans ((hK.2 2 _ rfl).2))
  subst ecA
  have hP : va_P D vwCl [(o, .inr (4, [.ref x0, .ref x1, .ref x2, .ref x3, .ref x4, .int 0, .ref x6, .ref x7, .ref x8, .null, .null, .null, .null, .null, .null, .null, .null, .int 0])), (x0, aI ca 6 (fun _ => 0)), (x1, aI ca 6 (fun _ => 0)), (x2, aL ca 96 (fun _ => 0)), (x3, aI ca 64 (fun _ => 0)), (x4, aI ca 96 (fun _ => 0)), (x6, aL ca 48 (fun _ => 0)), (x7, aL ca 16 (fun _ => 0)), (x8, aL ca 4 (fun _ => 0)), (x9, aL ca 4 (fun _ => 0))] H := hP
  have hD : va_D A [(o, .inr (4, [.ref x0, .ref x1, .ref x2, .ref x3, .ref x4, .int 0, .ref x6, .ref x7, .ref x8, .null, .null, .null, .null, .null, .null, .null, .null, .int 0])), (x0, aI ca 6 (fun _ => 0)), (x1, aI ca 6 (fun _ => 0)), (x2, aL ca 96 (fun _ => 0)), (x3, aI ca 64 (fun _ => 0)), (x4, aI ca 96 (fun _ => 0)), (x6, aL ca 48 (fun _ => 0)), (x7, aL ca 16 (fun _ => 0)), (x8, aL ca 4 (fun _ => 0)), (x9, aL ca 4 (fun _ => 0))] := hD
  refine va_putF (D := D) (ci := 4) (v := .ref x9) (ty := (.array .long)) (C := RX5) (T := TX5) (N := 18) hx hb hts in_X5 tyX5 tyX5_ok nmX5 hown hK hP hD hS 0 rfl rfl 9 (by decide) (hts _ q582) (fun _ h9 => h9) rfl hnm rfl (by decide +kernel) rfl rfl (Nat.le_of_ble_eq_true rfl) dX5_init_71 (fun H locs hP hD hS => ?_)
  have hP : va_P D vwCl [(o, .inr (4, [.ref x0, .ref x1, .ref x2, .ref x3, .ref x4, .int 0, .ref x6, .ref x7, .ref x8, .ref x9, .null, .null, .null, .null, .null, .null, .null, .int 0])), (x0, aI ca 6 (fun _ => 0)), (x1, aI ca 6 (fun _ => 0)), (x2, aL ca 96 (fun _ => 0)), (x3, aI ca 64 (fun _ => 0)), (x4, aI ca 96 (fun _ => 0)), (x6, aL ca 48 (fun _ => 0)), (x7, aL ca 16 (fun _ => 0)), (x8, aL ca 4 (fun _ => 0)), (x9, aL ca 4 (fun _ => 0))] H := hP
  have hD : va_D A [(o, .inr (4, [.ref x0, .ref x1, .ref x2, .ref x3, .ref x4, .int 0, .ref x6, .ref x7, .ref x8, .ref x9, .null, .null, .null, .null, .null, .null, .null, .int 0])), (x0, aI ca 6 (fun _ => 0)), (x1, aI ca 6 (fun _ => 0)), (x2, aL ca 96 (fun _ => 0)), (x3, aI ca 64 (fun _ => 0)), (x4, aI ca 96 (fun _ => 0)), (x6, aL ca 48 (fun _ => 0)), (x7, aL ca 16 (fun _ => 0)), (x8, aL ca 4 (fun _ => 0)), (x9, aL ca 4 (fun _ => 0))] := hD
  refine lv_aload_n hx hb dX5_init_74 rfl (lv_at hl 0 rfl) ?_
  refine lv_iconst (v := 4) hx hb dX5_init_75 (by decide) ?_
  refine va_newa (atype := .long) (a0 := (4, .inr (.inl (fun _ => 0)))) hx hb (hts _ q140) rfl hK hP hD hS hA (fun _ => rfl) (fun h => absurd h (by decide)) (by decide) (by decide) (Nat.le_of_ble_eq_true rfl) (Nat.le_of_ble_eq_true rfl) dX5_init_76 (fun x10 cA H hK9 hP hD hS => ?_)
  have ecA : cA = ca 2 := Option.some.inj (((hK9.2 6 _ rfl).2).symm.trans ((hK.2 2 _ rfl).2))
  subst ecA
  have hP : va_P D vwCl [(o, .inr (4, [.ref x0, .ref x1, .ref x2, .ref x3, .ref x4, .int 0, .ref x6, .ref x7, .ref x8, .ref x9, .null, .null, .null, .null, .null, .null, .null, .int 0])), (x0, aI ca 6 (fun _ => 0)), (x1, aI ca 6 (fun _ => 0)), (x2, aL ca 96 (fun _ => 0)), (x3, aI ca 64 (fun _ => 0)), (x4, aI ca 96 (fun _ => 0)), (x6, aL ca 48 (fun _ => 0)), (x7, aL ca 16 (fun _ => 0)), (x8, aL ca 4 (fun _ => 0)), (x9, aL ca 4 (fun _ => 0)), (x10, aL ca 4 (fun _ => 0))] H := hP
  have hD : va_D A [(o, .inr (4, [.ref x0, .ref x1, .ref x2, .ref x3, .ref x4, .int 0, .ref x6, .ref x7, .ref x8, .ref x9, .null, .null, .null, .null, .null, .null, .null, .int 0])), (x0, aI ca 6 (fun _ => 0)), (x1, aI ca 6 (fun _ => 0)), (x2, aL ca 96 (fun _ => 0)), (x3, aI ca 64 (fun _ => 0)), (x4, aI ca 96 (fun _ => 0)), (x6, aL ca 48 (fun _ => 0)), (x7, aL ca 16 (fun _ => 0)), (x8, aL ca 4 (fun _ => 0)), (x9, aL ca 4 (fun _ => 0)), (x10, aL ca 4 (fun _ => 0))] := hD
  refine va_putF (D := D) (ci := 4) (v := .ref x10) (ty := (.array .long)) (C := RX5) (T := TX5) (N := 18) hx hb hts in_X5 tyX5 tyX5_ok nmX5 hown hK hP hD hS 0 rfl rfl 10 (by decide) (hts _ q583) (fun _ h9 => h9) rfl hnm rfl (by decide +kernel) rfl rfl (Nat.le_of_ble_eq_true rfl) dX5_init_78 (fun H locs hP hD hS => ?_)
  have hP : va_P D vwCl [(o, .inr (4, [.ref x0, .ref x1, .ref x2, .ref x3, .ref x4, .int 0, .ref x6, .ref x7, .ref x8, .ref x9, .ref x10, .null, .null, .null, .null, .null, .null, .int 0])), (x0, aI ca 6 (fun _ => 0)), (x1, aI ca 6 (fun _ => 0)), (x2, aL ca 96 (fun _ => 0)), (x3, aI ca 64 (fun _ => 0)), (x4, aI ca 96 (fun _ => 0)), (x6, aL ca 48 (fun _ => 0)), (x7, aL ca 16 (fun _ => 0)), (x8, aL ca 4 (fun _ => 0)), (x9, aL ca 4 (fun _ => 0)), (x10, aL ca 4 (fun _ => 0))] H := hP
  have hD : va_D A [(o, .inr (4, [.ref x0, .ref x1, .ref x2, .ref x3, .ref x4, .int 0, .ref x6, .ref x7, .ref x8, .ref x9, .ref x10, .null, .null, .null, .null, .null, .null, .int 0])), (x0, aI ca 6 (fun _ => 0)), (x1, aI ca 6 (fun _ => 0)), (x2, aL ca 96 (fun _ => 0)), (x3, aI ca 64 (fun _ => 0)), (x4, aI ca 96 (fun _ => 0)), (x6, aL ca 48 (fun _ => 0)), (x7, aL ca 16 (fun _ => 0)), (x8, aL ca 4 (fun _ => 0)), (x9, aL ca 4 (fun _ => 0)), (x10, aL ca 4 (fun _ => 0))] := hD
  refine lv_aload_n hx hb dX5_init_81 rfl (lv_at hl 0 rfl) ?_
  refine lv_iconst (v := 4) hx hb dX5_init_82 (by decide) ?_
  refine va_newa (atype := .long) (a0 := (4, .inr (.inl (fun _ => 0)))) hx hb (hts _ q140) rfl hK hP hD hS hA (fun _ => rfl) (fun h => absurd h (by decide)) (by decide) (by decide) (Nat.le_of_ble_eq_true rfl) (Nat.le_of_ble_eq_true rfl) dX5_init_83 (fun x11 cA H hK9 hP hD hS => ?_)
  have ecA : cA = ca 2 := Option.some.inj (((hK9.2 6 _ rfl).2).symm.trans ((hK.2 2 _ rfl).2))
  subst ecA
  have hP : va_P D vwCl [(o, .inr (4, [.ref x0, .ref x1, .ref x2, .ref x3, .ref x4, .int 0, .ref x6, .ref x7, .ref x8, .ref x9, .ref x10, .null, .null, .null, .null, .null, .null, .int 0])), (x0, aI ca 6 (fun _ => 0)), (x1, aI ca 6 (fun _ => 0)), (x2, aL ca 96 (fun _ => 0)), (x3, aI ca 64 (fun _ => 0)), (x4, aI ca 96 (fun _ => 0)), (x6, aL ca 48 (fun _ => 0)), (x7, aL ca 16 (fun _ => 0)), (x8, aL ca 4 (fun _ => 0)), (x9, aL ca 4 (fun _ => 0)), (x10, aL ca 4 (fun _ => 0)), (x11, aL ca 4 (fun _ => 0))] H := hP
  have hD : va_D A [(o, .inr (4, [.ref x0, .ref x1, .ref x2, .ref x3, .ref x4, .int 0, .ref x6, .ref x7, .ref x8, .ref x9, .ref x10, .null, .null, .null, .null, .null, .null, .int 0])), (x0, aI ca 6 (fun _ => 0)), (x1, aI ca 6 (fun _ => 0)), (x2, aL ca 96 (fun _ => 0)), (x3, aI ca 64 (fun _ => 0)), (x4, aI ca 96 (fun _ => 0)), (x6, aL ca 48 (fun _ => 0)), (x7, aL ca 16 (fun _ => 0)), (x8, aL ca 4 (fun _ => 0)), (x9, aL ca 4 (fun _ => 0)), (x10, aL ca 4 (fun _ => 0)), (x11, aL ca 4 (fun _ => 0))] := hD
  refine va_putF (D := D) (ci := 4) (v := .ref x11) (ty := (.array .long)) (C := RX5) (T := TX5) (N := 18) hx hb hts in_X5 tyX5 tyX5_ok nmX5 hown hK hP hD hS 0 rfl rfl 11 (by decide) (hts _ q584) (fun _ h9 => h9) rfl hnm rfl (by decide +kernel) rfl rfl (Nat.le_of_ble_eq_true rfl) dX5_init_85 (fun H locs hP hD hS => ?_)
  have hP : va_P D vwCl [(o, .inr (4, [.ref x0, .ref x1, .ref x2, .ref x3, .ref x4, .int 0, .ref x6, .ref x7, .ref x8, .ref x9, .ref x10, .ref x11, .null, .null, .null, .null, .null, .int 0])), (x0, aI ca 6 (fun _ => 0)), (x1, aI ca 6 (fun _ => 0)), (x2, aL ca 96 (fun _ => 0)), (x3, aI ca 64 (fun _ => 0)), (x4, aI ca 96 (fun _ => 0)), (x6, aL ca 48 (fun _ => 0)), (x7, aL ca 16 (fun _ => 0)), (x8, aL ca 4 (fun _ => 0)), (x9, aL ca 4 (fun _ => 0)), (x10, aL ca 4 (fun _ => 0)), (x11, aL ca 4 (fun _ => 0))] H := hP
  have hD : va_D A [(o, .inr (4, [.ref x0, .ref x1, .ref x2, .ref x3, .ref x4, .int 0, .ref x6, .ref x7, .ref x8, .ref x9, .ref x10, .ref x11, .null, .null, .null, .null, .null, .int 0])), (x0, aI ca 6 (fun _ => 0)), (x1, aI ca 6 (fun _ => 0)), (x2, aL ca 96 (fun _ => 0)), (x3, aI ca 64 (fun _ => 0)), (x4, aI ca 96 (fun _ => 0)), (x6, aL ca 48 (fun _ => 0)), (x7, aL ca 16 (fun _ => 0)), (x8, aL ca 4 (fun _ => 0)), (x9, aL ca 4 (fun _ => 0)), (x10, aL ca 4 (fun _ => 0)), (x11, aL ca 4 (fun _ => 0))] := hD
  refine lv_aload_n hx hb dX5_init_88 rfl (lv_at hl 0 rfl) ?_
  refine lv_iconst (v := 4) hx hb dX5_init_89 (by decide) ?_
  refine va_newa (atype := .long) (a0 := (4, .inr (.inl (fun _ => 0)))) hx hb (hts _ q140) rfl hK hP hD hS hA (fun _ => rfl) (fun h => absurd h (by decide)) (by decide) (by decide) (Nat.le_of_ble_eq_true rfl) (Nat.le_of_ble_eq_true rfl) dX5_init_90 (fun x12 cA H hK9 hP hD hS => ?_)
  have ecA : cA = ca 2 := Option.some.inj (((hK9.2 6 _ rfl).2).symm.trans ((hK.2 2 _ rfl).2))
  subst ecA
  have hP : va_P D vwCl [(o, .inr (4, [.ref x0, .ref x1, .ref x2, .ref x3, .ref x4, .int 0, .ref x6, .ref x7, .ref x8, .ref x9, .ref x10, .ref x11, .null, .null, .null, .null, .null, .int 0])), (x0, aI ca 6 (fun _ => 0)), (x1, aI ca 6 (fun _ => 0)), (x2, aL ca 96 (fun _ => 0)), (x3, aI ca 64 (fun _ => 0)), (x4, aI ca 96 (fun _ => 0)), (x6, aL ca 48 (fun _ => 0)), (x7, aL ca 16 (fun _ => 0)), (x8, aL ca 4 (fun _ => 0)), (x9, aL ca 4 (fun _ => 0)), (x10, aL ca 4 (fun _ => 0)), (x11, aL ca 4 (fun _ => 0)), (x12, aL ca 4 (fun _ => 0))] H := hP
  have hD : va_D A [(o, .inr (4, [.ref x0, .ref x1, .ref x2, .ref x3, .ref x4, .int 0, .ref x6, .ref x7, .ref x8, .ref x9, .ref x10, .ref x11, .null, .null, .null, .null, .null, .int 0])), (x0, aI ca 6 (fun _ => 0)), (x1, aI ca 6 (fun _ => 0)), (x2, aL ca 96 (fun _ => 0)), (x3, aI ca 64 (fun _ => 0)), (x4, aI ca 96 (fun _ => 0)), (x6, aL ca 48 (fun _ => 0)), (x7, aL ca 16 (fun _ => 0)), (x8, aL ca 4 (fun _ => 0)), (x9, aL ca 4 (fun _ => 0)), (x10, aL ca 4 (fun _ => 0)), (x11, aL ca 4 (fun _ => 0)), (x12, aL ca 4 (fun _ => 0))] := hD
  refine va_putF (D := D) (ci := 4) (v := .ref x12) (ty := (.array .long)) (C := RX5) (T := TX5) (N := 18) hx hb hts in_X5 tyX5 tyX5_ok nmX5 hown hK hP hD hS 0 rfl rfl 12 (by decide) (hts _ q585) (fun _ h9 => h9) rfl hnm rfl (by decide +kernel) rfl rfl (Nat.le_of_ble_eq_true rfl) dX5_init_92 (fun H locs hP hD hS => ?_)
  have hP : va_P D vwCl [(o, .inr (4, [.ref x0, .ref x1, .ref x2, .ref x3, .ref x4, .int 0, .ref x6, .ref x7, .ref x8, .ref x9, .ref x10, .ref x11, .ref x12, .null, .null, .null, .null, .int 0])), (x0, aI ca 6 (fun _ => 0)), (x1, aI ca 6 (fun _ => 0)), (x2, aL ca 96 (fun _ => 0)), (x3, aI ca 64 (fun _ => 0)), (x4, aI ca 96 (fun _ => 0)), (x6, aL ca 48 (fun _ => 0)), (x7, aL ca 16 (fun _ => 0)), (x8, aL ca 4 (fun _ => 0)), (x9, aL ca 4 (fun _ => 0)), (x10, aL ca 4 (fun _ => 0)), (x11, aL ca 4 (fun _ => 0)), (x12, aL ca 4 (fun _ => 0))] H := hP
  have hD : va_D A [(o, .inr (4, [.ref x0, .ref x1, .ref x2, .ref x3, .ref x4, .int 0, .ref x6, .ref x7, .ref x8, .ref x9, .ref x10, .ref x11, .ref x12, .null, .null, .null, .null, .int 0])), (x0, aI ca 6 (fun _ => 0)), (x1, aI ca 6 (fun _ => 0)), (x2, aL ca 96 (fun _ => 0)), (x3, aI ca 64 (fun _ => 0)), (x4, aI ca 96 (fun _ => 0)), (x6, aL ca 48 (fun _ => 0)), (x7, aL ca 16 (fun _ => 0)), (x8, aL ca 4 (fun _ => 0)), (x9, aL ca 4 (fun _ => 0)), (x10, aL ca 4 (fun _ => 0)), (x11, aL ca 4 (fun _ => 0)), (x12, aL ca 4 (fun _ => 0))] := hD
  refine lv_aload_n hx hb dX5_init_95 rfl (lv_at hl 0 rfl) ?_
  refine lv_iconst (v := 4) hx hb dX5_init_96 (by decide) ?_
  refine va_newa (atype := .long) (a0 := (4, .inr (.inl (fun _ => 0)))) hx hb (hts _ q140) rfl hK hP hD hS hA (fun _ => rfl) (fun h => absurd h (by decide)) (by decide) (by decide) (Nat.le_of_ble_eq_true rfl) (Nat.le_of_ble_eq_true rfl) dX5_init_97 (fun x13 cA H hK9 hP hD hS => ?_)
  have ecA : cA = ca 2 := Option.some.inj (((hK9.2 6 _ rfl).2).symm.trans ((hK.2 2 _ rfl).2))
  subst ecA
  have hP : va_P D vwCl [(o, .inr (4, [.ref x0, .ref x1, .ref x2, .ref x3, .ref x4, .int 0, .ref x6, .ref x7, .ref x8, .ref x9, .ref x10, .ref x11, .ref x12, .null, .null, .null, .null, .int 0])), (x0, aI ca 6 (fun _ => 0)), (x1, aI ca 6 (fun _ => 0)), (x2, aL ca 96 (fun _ => 0)), (x3, aI ca 64 (fun _ => 0)), (x4, aI ca 96 (fun _ => 0)), (x6, aL ca 48 (fun _ => 0)), (x7, aL ca 16 (fun _ => 0)), (x8, aL ca 4 (fun _ => 0)), (x9, aL ca 4 (fun _ => 0)), (x10, aL ca 4 (fun _ => 0)), (x11, aL ca 4 (fun _ => 0)), (x12, aL ca 4 (fun _ => 0)), (x13, aL ca 4 (fun _ => 0))] H := hP
  have hD : va_D A [(o, .inr (4, [.ref x0, .ref x1, .ref x2, .ref x3, .ref x4, .int 0, .ref x6, .ref x7, .ref x8, .ref x9, .ref x10, .ref x11, .ref x12, .null, .null, .null, .null, .int 0])), (x0, aI ca 6 (fun _ => 0)), (x1, aI ca 6 (fun _ => 0)), (x2, aL ca 96 (fun _ => 0)), (x3, aI ca 64 (fun _ => 0)), (x4, aI ca 96 (fun _ => 0)), (x6, aL ca 48 (fun _ => 0)), (x7, aL ca 16 (fun _ => 0)), (x8, aL ca 4 (fun _ => 0)), (x9, aL ca 4 (fun _ => 0)), (x10, aL ca 4 (fun _ => 0)), (x11, aL ca 4 (fun _ => 0)), (x12, aL ca 4 (fun _ => 0)), (x13, aL ca 4 (fun _ => 0))] := hD
  refine va_putF (D := D) (ci := 4) (v := .ref x13) (ty := (.array .long)) (C := RX5) (T := TX5) (N := 18) hx hb hts in_X5 tyX5 tyX5_ok nmX5 hown hK hP hD hS 0 rfl rfl 13 (by decide) (hts _ q586) (fun _ h9 => h9) rfl hnm rfl (by decide +kernel) rfl rfl (Nat.le_of_ble_eq_true rfl) dX5_init_99 (fun H locs hP hD hS => ?_)
  have hP : va_P D vwCl [(o, .inr (4, [.ref x0, .ref x1, .ref x2, .ref x3, .ref x4, .int 0, .ref x6, .ref x7, .ref x8, .ref x9, .ref x10, .ref x11, .ref x12, .ref x13, .null, .null, .null, .int 0])), (x0, aI ca 6 (fun _ => 0)), (x1, aI ca 6 (fun _ => 0)), (x2, aL ca 96 (fun _ => 0)), (x3, aI ca 64 (fun _ => 0)), (x4, aI ca 96 (fun _ => 0)), (x6, aL ca 48 (fun _ => 0)), (x7, aL ca 16 (fun _ => 0)), (x8, aL ca 4 (fun _ => 0)), (x9, aL ca 4 (fun _ => 0)), (x10, aL ca 4 (fun _ => 0)), (x11, aL ca 4 (fun _ => 0)), (x12, aL ca 4 (fun _ => 0)), (x13, aL ca 4 (fun _ => 0))] H := hP
  have hD : va_D A [(o, .inr (4, [.ref x0, .ref x1, .ref x2, .ref x3, .ref x4, .int 0, .ref x6, .ref x7, .ref x8, .ref x9, .ref x10, .ref x11, .ref x12, .ref x13, .null, .null, .null, .int 0])), (x0, aI ca 6 (fun _ => 0)), (x1, aI ca 6 (fun _ => 0)), (x2, aL ca 96 (fun _ => 0)), (x3, aI ca 64 (fun _ => 0)), (x4, aI ca 96 (fun _ => 0)), (x6, aL ca 48 (fun _ => 0)), (x7, aL ca 16 (fun _ => 0)), (x8, aL ca 4 (fun _ => 0)), (x9, aL ca 4 (fun _ => 0)), (x10, aL ca 4 (fun _ => 0)), (x11, aL ca 4 (fun _ => 0)), (x12, aL ca 4 (fun _ => 0)), (x13, aL ca 4 (fun _ => 0))] := hD
  refine lv_aload_n hx hb dX5_init_102 rfl (lv_at hl 0 rfl) ?_
  refine lv_iconst (v := 4) hx hb dX5_init_103 (by decide) ?_
  refine va_newa (atype := .long) (a0 := (4, .inr (.inl (fun _ => 0)))) hx hb (hts _ q140) rfl hK hP hD hS hA (fun _ => rfl) (fun h => absurd h (by decide)) (by decide) (by decide) (Nat.le_of_ble_eq_true rfl) (Nat.le_of_ble_eq_true rfl) dX5_init_104 (fun x14 cA H hK9 hP hD hS => ?_)
  have ecA : cA = ca 2 := Option.some.inj (((hK9.2 6 _ rfl).2).symm.trans ((hK.2 2 _ rfl).2))
  subst ecA
  have hP : va_P D vwCl [(o, .inr (4, [.ref x0, .ref x1, .ref x2, .ref x3, .ref x4, .int 0, .ref x6, .ref x7, .ref x8, .ref x9, .ref x10, .ref x11, .ref x12, .ref x13, .null, .null, .null, .int 0])), (x0, aI ca 6 (fun _ => 0)), (x1, aI ca 6 (fun _ => 0)), (x2, aL ca 96 (fun _ => 0)), (x3, aI ca 64 (fun _ => 0)), (x4, aI ca 96 (fun _ => 0)), (x6, aL ca 48 (fun _ => 0)), (x7, aL ca 16 (fun _ => 0)), (x8, aL ca 4 (fun _ => 0)), (x9, aL ca 4 (fun _ => 0)), (x10, aL ca 4 (fun _ => 0)), (x11, aL ca 4 (fun _ => 0)), (x12, aL ca 4 (fun _ => 0)), (x13, aL ca 4 (fun _ => 0)), (x14, aL ca 4 (fun _ => 0))] H := hP
  have hD : va_D A [(o, .inr (4, [.ref x0, .ref x1, .ref x2, .ref x3, .ref x4, .int 0, .ref x6, .ref x7, .ref x8, .ref x9, .ref x10, .ref x11, .ref x12, .ref x13, .null, .null, .null, .int 0])), (x0, aI ca 6 (fun _ => 0)), (x1, aI ca 6 (fun _ => 0)), (x2, aL ca 96 (fun _ => 0)), (x3, aI ca 64 (fun _ => 0)), (x4, aI ca 96 (fun _ => 0)), (x6, aL ca 48 (fun _ => 0)), (x7, aL ca 16 (fun _ => 0)), (x8, aL ca 4 (fun _ => 0)), (x9, aL ca 4 (fun _ => 0)), (x10, aL ca 4 (fun _ => 0)), (x11, aL ca 4 (fun _ => 0)), (x12, aL ca 4 (fun _ => 0)), (x13, aL ca 4 (fun _ => 0)), (x14, aL ca 4 (fun _ => 0))] := hD
  refine va_putF (D := D) (ci := 4) (v := .ref x14) (ty := (.array .long)) (C := RX5) (T := TX5) (N := 18) hx hb hts in_X5 tyX5 tyX5_ok nmX5 hown hK hP hD hS 0 rfl rfl 14 (by decide) (hts _ q587) (fun _ h9 => h9) rfl hnm rfl (by decide +kernel) rfl rfl (Nat.le_of_ble_eq_true rfl) dX5_init_106 (fun H locs hP hD hS => ?_)
  have hP : va_P D vwCl [(o, .inr (4, [.ref x0, .ref x1, .ref x2, .ref x3, .ref x4, .int 0, .ref x6, .ref x7, .ref x8, .ref x9, .ref x10, .ref x11, .ref x12, .ref x13, .ref x14, .null, .null, .int 0])), (x0, aI ca 6 (fun _ => 0)), (x1, aI ca 6 (fun _ => 0)), (x2, aL ca 96 (fun _ => 0)), (x3, aI ca 64 (fun _ => 0)), (x4, aI ca 96 (fun _ => 0)), (x6, aL ca 48 (fun _ => 0)), (x7, aL ca 16 (fun _ => 0)), (x8, aL ca 4 (fun _ => 0)), (x9, aL ca 4 (fun _ => 0)), (x10, aL ca 4 (fun _ => 0)), (x11, aL ca 4 (fun _ => 0)), (x12, aL ca 4 (fun _ => 0)), (x13, aL ca 4 (fun _ => 0)), (x14, aL ca 4 (fun _ => 0))] H := hP
  have hD : va_D A [(o, .inr (4, [.ref x0, .ref x1, .ref x2, .ref x3, .ref x4, .int 0, .ref x6, .ref x7, .ref x8, .ref x9, .ref x10, .ref x11, .ref x12, .ref x13, .ref x14, .null, .null, .int 0])), (x0, aI ca 6 (fun _ => 0)), (x1, aI ca 6 (fun _ => 0)), (x2, aL ca 96 (fun _ => 0)), (x3, aI ca 64 (fun _ => 0)), (x4, aI ca 96 (fun _ => 0)), (x6, aL ca 48 (fun _ => 0)), (x7, aL ca 16 (fun _ => 0)), (x8, aL ca 4 (fun _ => 0)), (x9, aL ca 4 (fun _ => 0)), (x10, aL ca 4 (fun _ => 0)), (x11, aL ca 4 (fun _ => 0)), (x12, aL ca 4 (fun _ => 0)), (x13, aL ca 4 (fun _ => 0)), (x14, aL ca 4 (fun _ => 0))] := hD
  refine lv_aload_n hx hb dX5_init_109 rfl (lv_at hl 0 rfl) ?_
  refine lv_iconst (v := 4) hx hb dX5_init_110 (by decide) ?_
  refine va_newa (atype := .long) (a0 := (4, .inr (.inl (fun _ => 0)))) hx hb (hts _ q140) rfl hK hP hD hS hA (fun _ => rfl) (fun h => absurd h (by decide)) (by decide) (by decide) (Nat.le_of_ble_eq_true rfl) (Nat.le_of_ble_eq_true rfl) dX5_init_111 (fun x15 cA H hK9 hP hD hS => ?_)
  have ecA : cA = ca 2 := Option.some.inj (((hK9.2 6 _ rfl).2).symm.trans ((hK.2 2 _ rfl).2))
  subst ecA
  have hP : va_P D vwCl [(o, .inr (4, [.ref x0, .ref x1, .ref x2, .ref x3, .ref x4, .int 0, .ref x6, .ref x7, .ref x8, .ref x9, .ref x10, .ref x11, .ref x12, .ref x13, .ref x14, .null, .null, .int 0])), (x0, aI ca 6 (fun _ => 0)), (x1, aI ca 6 (fun _ => 0)), (x2, aL ca 96 (fun _ => 0)), (x3, aI ca 64 (fun _ => 0)), (x4, aI ca 96 (fun _ => 0)), (x6, aL ca 48 (fun _ => 0)), (x7, aL ca 16 (fun _ => 0)), (x8, aL ca 4 (fun _ => 0)), (x9, aL ca 4 (fun _ => 0)), (x10, aL ca 4 (fun _ => 0)), (x11, aL ca 4 (fun _ => 0)), (x12, aL ca 4 (fun _ => 0)), (x13, aL ca 4 (fun _ => 0)), (x14, aL ca 4 (fun _ => 0)), (x15, aL ca 4 (fun _ => 0))] H := hP
  have hD : va_D A [(o, .inr (4, [.ref x0, .ref x1, .ref x2, .ref x3, .ref x4, .int 0, .ref x6, .ref x7, .ref x8, .ref x9, .ref x10, .ref x11, .ref x12, .ref x13, .ref x14, .null, .null, .int 0])), (x0, aI ca 6 (fun _ => 0)), (x1, aI ca 6 (fun _ => 0)), (x2, aL ca 96 (fun _ => 0)), (x3, aI ca 64 (fun _ => 0)), (x4, aI ca 96 (fun _ => 0)), (x6, aL ca 48 (fun _ => 0)), (x7, aL ca 16 (fun _ => 0)), (x8, aL ca 4 (fun _ => 0)), (x9, aL ca 4 (fun _ => 0)), (x10, aL ca 4 (fun _ => 0)), (x11, aL ca 4 (fun _ => 0)), (x12, aL ca 4 (fun _ => 0)), (x13, aL ca 4 (fun _ => 0)), (x14, aL ca 4 (fun _ => 0)), (x15, aL ca 4 (fun _ => 0))] := hD
  refine va_putF (D := D) (ci := 4) (v := .ref x15) (ty := (.array .long)) (C := RX5) (T := TX5) (N := 18) hx hb hts in_X5 tyX5 tyX5_ok nmX5 hown hK hP hD hS 0 rfl rfl 15 (by decide) (hts _ q588) (fun _ h9 => h9) rfl hnm rfl (by decide +kernel) rfl rfl (Nat.le_of_ble_eq_true rfl) dX5_init_113 (fun H locs hP hD hS => ?_)
  have hP : va_P D vwCl [(o, .inr (4, [.ref x0, .ref x1, .ref x2, .ref x3, .ref x4, .int 0, .ref x6, .ref x7, .ref x8, .ref x9, .ref x10, .ref x11, .ref x12, .ref x13, .ref x14, .ref x15, .null, .int 0])), (x0, aI ca 6 (fun _ => 0)), (x1, aI ca 6 (fun _ => 0)), (x2, aL ca 96 (fun _ => 0)), (x3, aI ca 64 (fun _ => 0)), (x4, aI ca 96 (fun _ => 0)), (x6, aL ca 48 (fun _ => 0)), (x7, aL ca 16 (fun _ => 0)), (x8, aL ca 4 (fun _ => 0)), (x9, aL ca 4 (fun _ => 0)), (x10, aL ca 4 (fun _ => 0)), (x11, aL ca 4 (fun _ => 0)), (x12, aL ca 4 (fun _ => 0)), (x13, aL ca 4 (fun _ => 0)), (x14, aL ca 4 (fun _ => 0)), (x15, aL ca 4 (fun _ => 0))] H := hP
  have hD : va_D A [(o, .inr (4, [.ref x0, .ref x1, .ref x2, .ref x3, .ref x4, .int 0, .ref x6, .ref x7, .ref x8, .ref x9, .ref x10, .ref x11, .ref x12, .ref x13, .ref x14, .ref x15, .null, .int 0])), (x0, aI ca 6 (fun _ => 0)), (x1, aI ca 6 (fun _ => 0)), (x2, aL ca 96 (fun _ => 0)), (x3, aI ca 64 (fun _ => 0)), (x4, aI ca 96 (fun _ => 0)), (x6, aL ca 48 (fun _ => 0)), (x7, aL ca 16 (fun _ => 0)), (x8, aL ca 4 (fun _ => 0)), (x9, aL ca 4 (fun _ => 0)), (x10, aL ca 4 (fun _ => 0)), (x11, aL ca 4 (fun _ => 0)), (x12, aL ca 4 (fun _ => 0)), (x13, aL ca 4 (fun _ => 0)), (x14, aL ca 4 (fun _ => 0)), (x15, aL ca 4 (fun _ => 0))] := hD
  refine lv_aload_n hx hb dX5_init_116 rfl (lv_at hl 0 rfl) ?_
  refine lv_iconst (v := 4) hx hb dX5_init_117 (by decide) ?_
  refine va_newa (atype := .long) (a0 := (4, .inr (.inl (fun _ => 0)))) hx hb (hts _ q140) rfl hK hP hD hS hA (fun _ => rfl) (fun h => absurd h (by decide)) (by decide) (by decide) (Nat.le_of_ble_eq_true rfl) (Nat.le_of_ble_eq_true rfl) dX5_init_118 (fun x16 cA H hK9 hP hD hS => ?_)
  have ecA : cA = ca 2 := Option.some.inj (((hK9.2 6 _ rfl).2).symm.trans ((hK.2 2 _ rfl).2))
  subst ecA
  have hP : va_P D vwCl [(o, .inr (4, [.ref x0, .ref x1, .ref x2, .ref x3, .ref x4, .int 0, .ref x6, .ref x7, .ref x8, .ref x9, .ref x10, .ref x11, .ref x12, .ref x13, .ref x14, .ref x15, .null, .int 0])), (x0, aI ca 6 (fun _ => 0)), (x1, aI ca 6 (fun _ => 0)), (x2, aL ca 96 (fun _ => 0)), (x3, aI ca 64 (fun _ => 0)), (x4, aI ca 96 (fun _ => 0)), (x6, aL ca 48 (fun _ => 0)), (x7, aL ca 16 (fun _ => 0)), (x8, aL ca 4 (fun _ => 0)), (x9, aL ca 4 (fun _ => 0)), (x10, aL ca 4 (fun _ => 0)), (x11, aL ca 4 (fun _ => 0)), (x12, aL ca 4 (fun _ => 0)), (x13, aL ca 4 (fun _ => 0)), (x14, aL ca 4 (fun _ => 0)), (x15, aL ca 4 (fun _ => 0)), (x16, aL ca 4 (fun _ => 0))] H := hP
  have hD : va_D A [(o, .inr (4, [.ref x0, .ref x1, .ref x2, .ref x3, .ref x4, .int 0, .ref x6, .ref x7, .ref x8, .ref x9, .ref x10, .ref x11, .ref x12, .ref x13, .ref x14, .ref x15, .null, .int 0])), (x0, aI ca 6 (fun _ => 0)), (x1, aI ca 6 (fun _ => 0)), (x2, aL ca 96 (fun _ => 0)), (x3, aI ca 64 (fun _ => 0)), (x4, aI ca 96 (fun _ => 0)), (x6, aL ca 48 (fun _ => 0)), (x7, aL ca 16 (fun _ => 0)), (x8, aL ca 4 (fun _ => 0)), (x9, aL ca 4 (fun _ => 0)), (x10, aL ca 4 (fun _ => 0)), (x11, aL ca 4 (fun _ => 0)), (x12, aL ca 4 (fun _ => 0)), (x13, aL ca 4 (fun _ => 0)), (x14, aL ca 4 (fun _ => 0)), (x15, aL ca 4 (fun _ => 0)), (x16, aL ca 4 (fun _ => 0))] := hD
  refine va_putF (D := D) (ci := 4) (v := .ref x16) (ty := (.array .long)) (C := RX5) (T := TX5) (N := 18) hx hb hts in_X5 tyX5 tyX5_ok nmX5 hown hK hP hD hS 0 rfl rfl 16 (by decide) (hts _ q589) (fun _ h9 => h9) rfl hnm rfl (by decide +kernel) rfl rfl (Nat.le_of_ble_eq_true rfl) dX5_init_120 (fun H locs hP hD hS => ?_)
  have hP : va_P D vwCl [(o, .inr (4, [.ref x0, .ref x1, .ref x2, .ref x3, .ref x4, .int 0, .ref x6, .ref x7, .ref x8, .ref x9, .ref x10, .ref x11, .ref x12, .ref x13, .ref x14, .ref x15, .ref x16, .int 0])), (x0, aI ca 6 (fun _ => 0)), (x1, aI ca 6 (fun _ => 0)), (x2, aL ca 96 (fun _ => 0)), (x3, aI ca 64 (fun _ => 0)), (x4, aI ca 96 (fun _ => 0)), (x6, aL ca 48 (fun _ => 0)), (x7, aL ca 16 (fun _ => 0)), (x8, aL ca 4 (fun _ => 0)), (x9, aL ca 4 (fun _ => 0)), (x10, aL ca 4 (fun _ => 0)), (x11, aL ca 4 (fun _ => 0)), (x12, aL ca 4 (fun _ => 0)), (x13, aL ca 4 (fun _ => 0)), (x14, aL ca 4 (fun _ => 0)), (x15, aL ca 4 (fun _ => 0)), (x16, aL ca 4 (fun _ => 0))] H := hP
  have hD : va_D A [(o, .inr (4, [.ref x0, .ref x1, .ref x2, .ref x3, .ref x4, .int 0, .ref x6, .ref x7, .ref x8, .ref x9, .ref x10, .ref x11, .ref x12, .ref x13, .ref x14, .ref x15, .ref x16, .int 0])), (x0, aI ca 6 (fun _ => 0)), (x1, aI ca 6 (fun _ => 0)), (x2, aL ca 96 (fun _ => 0)), (x3, aI ca 64 (fun _ => 0)), (x4, aI ca 96 (fun _ => 0)), (x6, aL ca 48 (fun _ => 0)), (x7, aL ca 16 (fun _ => 0)), (x8, aL ca 4 (fun _ => 0)), (x9, aL ca 4 (fun _ => 0)), (x10, aL ca 4 (fun _ => 0)), (x11, aL ca 4 (fun _ => 0)), (x12, aL ca 4 (fun _ => 0)), (x13, aL ca 4 (fun _ => 0)), (x14, aL ca 4 (fun _ => 0)), (x15, aL ca 4 (fun _ => 0)), (x16, aL ca 4 (fun _ => 0))] := hD
  obtain ⟨ad, hP, hD⟩ : ∃ ad : Nat → Nat, va_P D vwCl [(o, mO ad 0 0), (ad 0, aI ca 6 (fun _ => 0)), (ad 1, aI ca 6 (fun _ => 0)), (ad 2, aL ca 96 (fun _ => 0)), (ad 3, aI ca 64 (fun _ => 0)), (ad 4, aI ca 96 (fun _ => 0)), (ad 6, aL ca 48 (fun _ => 0)), (ad 7, aL ca 16 (fun _ => 0)), (ad 8, aL ca 4 (fun _ => 0)), (ad 9, aL ca 4 (fun _ => 0)), (ad 10, aL ca 4 (fun _ => 0)), (ad 11, aL ca 4 (fun _ => 0)), (ad 12, aL ca 4 (fun _ => 0)), (ad 13, aL ca 4 (fun _ => 0)), (ad 14, aL ca 4 (fun _ => 0)), (ad 15, aL ca 4 (fun _ => 0)), (ad 16, aL ca 4 (fun _ => 0))] H ∧ va_D A [(o, mO ad 0 0), (ad 0, aI ca 6 (fun _ => 0)), (ad 1, aI ca 6 (fun _ => 0)), (ad 2, aL ca 96 (fun _ => 0)), (ad 3, aI ca 64 (fun _ => 0)), (ad 4, aI ca 96 (fun _ => 0)), (ad 6, aL ca 48 (fun _ => 0)), (ad 7, aL ca 16 (fun _ => 0)), (ad 8, aL ca 4 (fun _ => 0)), (ad 9, aL ca 4 (fun _ => 0)), (ad 10, aL ca 4 (fun _ => 0)), (ad 11, aL ca 4 (fun _ => 0)), (ad 12, aL ca 4 (fun _ => 0)), (ad 13, aL ca 4 (fun _ => 0)), (ad 14, aL ca 4 (fun _ => 0)), (ad 15, aL ca 4 (fun _ => 0)), (ad 16, aL ca 4 (fun _ => 0))] := ⟨fun i => [x0, x1, x2, x3, x4, 0, x6, x7, x8, x9, x10, x11, x12, x13, x14, x15, x16].getD i 0, hP, hD⟩
  rw [a4_0] at hP hD
  refine lv_iconst (v := 0) hx hb dX5_init_123 (by decide) ?_
  refine lv_istore_n (lv' := [(1, .int 0), (0, .ref o)]) hx hb dX5_init_124 rfl hl (by decide) rfl (fun ls hl => ?_)
  refine lv_iload_n hx hb dX5_init_125 rfl (lv_at hl 0 rfl) ?_
  refine lv_bipush (v := 6) hx hb dX5_init_126 (by decide) ?_
  refine lv_icmp_ge (tgt := 144) hx hb dX5_init_128 (by decide) (fun c_1 => absurd c_1 (by decide)) (fun c_1 => ?_)
  refine lv_aload_n hx hb dX5_init_131 rfl (lv_at hl 1 rfl) ?_
  refine va_get (D := D) (ci := 4) (v := .ref (ad 0)) (C := RX5) (T := TX5) (N := 18) hx hb hts in_X5 hown hK hP 0 rfl rfl 0 (by decide) (hts _ q573) (fun _ h9 => h9) rfl dX5_init_132 ?_
  refine lv_iload_n hx hb dX5_init_135 rfl (lv_at hl 0 rfl) ?_
  refine lv_iconst (v := (-1)) hx hb dX5_init_136 (by decide) ?_
  refine va_iast hx hb hK hP hD hS 1 1 rfl rfl (vin (by decide)) dX5_init_137 (fun H locs hP hD hS => ?_)
  rw [cn_nI (i := 0) (a := 0) rfl (by omega)] at hP hD
  have hP : va_P D vwCl [(o, mO ad 0 0), (ad 0, aI ca 6 (upd (fun _ => 0) 0 (-1))), (ad 1, aI ca 6 (fun _ => 0)), (ad 2, aL ca 96 (fun _ => 0)), (ad 3, aI ca 64 (fun _ => 0)), (ad 4, aI ca 96 (fun _ => 0)), (ad 6, aL ca 48 (fun _ => 0)), (ad 7, aL ca 16 (fun _ => 0)), (ad 8, a4 ca (0, 0, 0, 0)), (ad 9, a4 ca (0, 0, 0, 0)), (ad 10, a4 ca (0, 0, 0, 0)), (ad 11, a4 ca (0, 0, 0, 0)), (ad 12, a4 ca (0, 0, 0, 0)), (ad 13, a4 ca (0, 0, 0, 0)), (ad 14, a4 ca (0, 0, 0, 0)), (ad 15, a4 ca (0, 0, 0, 0)), (ad 16, a4 ca (0, 0, 0, 0))] H := hP
  have hD : va_D A [(o, mO ad 0 0), (ad 0, aI ca 6 (upd (fun _ => 0) 0 (-1))), (ad 1, aI ca 6 (fun _ => 0)), (ad 2, aL ca 96 (fun _ => 0)), (ad 3, aI ca 64 (fun _ => 0)), (ad 4, aI ca 96 (fun _ => 0)), (ad 6, aL ca 48 (fun _ => 0)), (ad 7, aL ca 16 (fun _ => 0)), (ad 8, a4 ca (0, 0, 0, 0)), (ad 9, a4 ca (0, 0, 0, 0)), (ad 10, a4 ca (0, 0, 0, 0)), (ad 11, a4 ca (0, 0, 0, 0)), (ad 12, a4 ca (0, 0, 0, 0)), (ad 13, a4 ca (0, 0, 0, 0)), (ad 14, a4 ca (0, 0, 0, 0)), (ad 15, a4 ca (0, 0, 0, 0)), (ad 16, a4 ca (0, 0, 0, 0))] := hD
  refine lv_iinc (v := 1) (lv' := [(1, .int 1), (0, .ref o)]) hx hb dX5_init_138 hl (k := 0) rfl (by decide) (by decide) rfl (fun ls hl => ?_)
  refine lv_goto (tgt := 125) hx hb dX5_init_141 (by decide) ?_
  refine lv_iload_n hx hb dX5_init_125 rfl (lv_at hl 0 rfl) ?_
  refine lv_bipush (v := 6) hx hb dX5_init_126 (by decide) ?_
  refine lv_icmp_ge (tgt := 144) hx hb dX5_init_128 (by decide) (fun c_2 => absurd c_2 (by decide)) (fun c_2 => ?_)
  refine lv_aload_n hx hb dX5_init_131 rfl (lv_at hl 1 rfl) ?_
  refine va_get (D := D) (ci := 4) (v := .ref (ad 0)) (C := RX5) (T := TX5) (N := 18) hx hb hts in_X5 hown hK hP 0 rfl rfl 0 (by decide) (hts _ q573) (fun _ h9 => h9) rfl dX5_init_132 ?_
  refine lv_iload_n hx hb dX5_init_135 rfl (lv_at hl 0 rfl) ?_
  refine lv_iconst (v := (-1)) hx hb dX5_init_136 (by decide) ?_
  refine va_iast hx hb hK hP hD hS 1 1 rfl rfl (vin (by decide)) dX5_init_137 (fun H locs hP hD hS => ?_)
  rw [cn_nI (i := 1) (a := 1) rfl (by omega)] at hP hD
  have hP : va_P D vwCl [(o, mO ad 0 0), (ad 0, aI ca 6 (upd (upd (fun _ => 0) 0 (-1)) 1 (-1))), (ad 1, aI ca 6 (fun _ => 0)), (ad 2, aL ca 96 (fun _ => 0)), (ad 3, aI ca 64 (fun _ => 0)), (ad 4, aI ca 96 (fun _ => 0)), (ad 6, aL ca 48 (fun _ => 0)), (ad 7, aL ca 16 (fun _ => 0)), (ad 8, a4 ca (0, 0, 0, 0)), (ad 9, a4 ca (0, 0, 0, 0)), (ad 10, a4 ca (0, 0, 0, 0)), (ad 11, a4 ca (0, 0, 0, 0)), (ad 12, a4 ca (0, 0, 0, 0)), (ad 13, a4 ca (0, 0, 0, 0)), (ad 14, a4 ca (0, 0, 0, 0)), (ad 15, a4 ca (0, 0, 0, 0)), (ad 16, a4 ca (0, 0, 0, 0))] H := hP
  have hD : va_D A [(o, mO ad 0 0), (ad 0, aI ca 6 (upd (upd (fun _ => 0) 0 (-1)) 1 (-1))), (ad 1, aI ca 6 (fun _ => 0)), (ad 2, aL ca 96 (fun _ => 0)), (ad 3, aI ca 64 (fun _ => 0)), (ad 4, aI ca 96 (fun _ => 0)), (ad 6, aL ca 48 (fun _ => 0)), (ad 7, aL ca 16 (fun _ => 0)), (ad 8, a4 ca (0, 0, 0, 0)), (ad 9, a4 ca (0, 0, 0, 0)), (ad 10, a4 ca (0, 0, 0, 0)), (ad 11, a4 ca (0, 0, 0, 0)), (ad 12, a4 ca (0, 0, 0, 0)), (ad 13, a4 ca (0, 0, 0, 0)), (ad 14, a4 ca (0, 0, 0, 0)), (ad 15, a4 ca (0, 0, 0, 0)), (ad 16, a4 ca (0, 0, 0, 0))] := hD
  refine lv_iinc (v := 2) (lv' := [(1, .int 2), (0, .ref o)]) hx hb dX5_init_138 hl (k := 0) rfl (by decide) (by decide) rfl (fun ls hl => ?_)
  refine lv_goto (tgt := 125) hx hb dX5_init_141 (by decide) ?_
  refine lv_iload_n hx hb dX5_init_125 rfl (lv_at hl 0 rfl) ?_
  refine lv_bipush (v := 6) hx hb dX5_init_126 (by decide) ?_
  refine lv_icmp_ge (tgt := 144) hx hb dX5_init_128 (by decide) (fun c_3 => absurd c_3 (by decide)) (fun c_3 => ?_)
  refine lv_aload_n hx hb dX5_init_131 rfl (lv_at hl 1 rfl) ?_
  refine va_get (D := D) (ci := 4) (v := .ref (ad 0)) (C := RX5) (T := TX5) (N := 18) hx hb hts in_X5 hown hK hP 0 rfl rfl 0 (by decide) (hts _ q573) (fun _ h9 => h9) rfl dX5_init_132 ?_
  refine lv_iload_n hx hb dX5_init_135 rfl (lv_at hl 0 rfl) ?_
  refine lv_iconst (v := (-1)) hx hb dX5_init_136 (by decide) ?_
  refine va_iast hx hb hK hP hD hS 1 1 rfl rfl (vin (by decide)) dX5_init_137 (fun H locs hP hD hS => ?_)
  rw [cn_nI (i := 2) (a := 2) rfl (by omega)] at hP hD
  have hP : va_P D vwCl [(o, mO ad 0 0), (ad 0, aI ca 6 (upd (upd (upd (fun _ => 0) 0 (-1)) 1 (-1)) 2 (-1))), (ad 1, aI ca 6 (fun _ => 0)), (ad 2, aL ca 96 (fun _ => 0)), (ad 3, aI ca 64 (fun _ => 0)), (ad 4, aI ca 96 (fun _ => 0)), (ad 6, aL ca 48 (fun _ => 0)), (ad 7, aL ca 16 (fun _ => 0)), (ad 8, a4 ca (0, 0, 0, 0)), (ad 9, a4 ca (0, 0, 0, 0)), (ad 10, a4 ca (0, 0, 0, 0)), (ad 11, a4 ca (0, 0, 0, 0)), (ad 12, a4 ca (0, 0, 0, 0)), (ad 13, a4 ca (0, 0, 0, 0)), (ad 14, a4 ca (0, 0, 0, 0)), (ad 15, a4 ca (0, 0, 0, 0)), (ad 16, a4 ca (0, 0, 0, 0))] H := hP
  have hD : va_D A [(o, mO ad 0 0), (ad 0, aI ca 6 (upd (upd (upd (fun _ => 0) 0 (-1)) 1 (-1)) 2 (-1))), (ad 1, aI ca 6 (fun _ => 0)), (ad 2, aL ca 96 (fun _ => 0)), (ad 3, aI ca 64 (fun _ => 0)), (ad 4, aI ca 96 (fun _ => 0)), (ad 6, aL ca 48 (fun _ => 0)), (ad 7, aL ca 16 (fun _ => 0)), (ad 8, a4 ca (0, 0, 0, 0)), (ad 9, a4 ca (0, 0, 0, 0)), (ad 10, a4 ca (0, 0, 0, 0)), (ad 11, a4 ca (0, 0, 0, 0)), (ad 12, a4 ca (0, 0, 0, 0)), (ad 13, a4 ca (0, 0, 0, 0)), (ad 14, a4 ca (0, 0, 0, 0)), (ad 15, a4 ca (0, 0, 0, 0)), (ad 16, a4 ca (0, 0, 0, 0))] := hD
  refine lv_iinc (v := 3) (lv' := [(1, .int 3), (0, .ref o)]) hx hb dX5_init_138 hl (k := 0) rfl (by decide) (by decide) rfl (fun ls hl => ?_)
  refine lv_goto (tgt := 125) hx hb dX5_init_141 (by decide) ?_
  refine lv_iload_n hx hb dX5_init_125 rfl (lv_at hl 0 rfl) ?_
  refine lv_bipush (v := 6) hx hb dX5_init_126 (by decide) ?_
  refine lv_icmp_ge (tgt := 144) hx hb dX5_init_128 (by decide) (fun c_4 => absurd c_4 (by decide)) (fun c_4 => ?_)
  refine lv_aload_n hx hb dX5_init_131 rfl (lv_at hl 1 rfl) ?_
  refine va_get (D := D) (ci := 4) (v := .ref (ad 0)) (C := RX5) (T := TX5) (N := 18) hx hb hts in_X5 hown hK hP 0 rfl rfl 0 (by decide) (hts _ q573) (fun _ h9 => h9) rfl dX5_init_132 ?_
  refine lv_iload_n hx hb dX5_init_135 rfl (lv_at hl 0 rfl) ?_
  refine lv_iconst (v := (-1)) hx hb dX5_init_136 (by decide) ?_
  refine va_iast hx hb hK hP hD hS 1 1 rfl rfl (vin (by decide)) dX5_init_137 (fun H locs hP hD hS => ?_)
  rw [cn_nI (i := 3) (a := 3) rfl (by omega)] at hP hD
  have hP : va_P D vwCl [(o, mO ad 0 0), (ad 0, aI ca 6 (upd (upd (upd (upd (fun _ => 0) 0 (-1)) 1 (-1)) 2 (-1)) 3 (-1))), (ad 1, aI ca 6 (fun _ => 0)), (ad 2, aL ca 96 (fun _ => 0)), (ad 3, aI ca 64 (fun _ => 0)), (ad 4, aI ca 96 (fun _ => 0)), (ad 6, aL ca 48 (fun _ => 0)), (ad 7, aL ca 16 (fun _ => 0)), (ad 8, a4 ca (0, 0, 0, 0)), (ad 9, a4 ca (0, 0, 0, 0)), (ad 10, a4 ca (0, 0, 0, 0)), (ad 11, a4 ca (0, 0, 0, 0)), (ad 12, a4 ca (0, 0, 0, 0)), (ad 13, a4 ca (0, 0, 0, 0)), (ad 14, a4 ca (0, 0, 0, 0)), (ad 15, a4 ca (0, 0, 0, 0)), (ad 16, a4 ca (0, 0, 0, 0))] H := hP
  have hD : va_D A [(o, mO ad 0 0), (ad 0, aI ca 6 (upd (upd (upd (upd (fun _ => 0) 0 (-1)) 1 (-1)) 2 (-1)) 3 (-1))), (ad 1, aI ca 6 (fun _ => 0)), (ad 2, aL ca 96 (fun _ => 0)), (ad 3, aI ca 64 (fun _ => 0)), (ad 4, aI ca 96 (fun _ => 0)), (ad 6, aL ca 48 (fun _ => 0)), (ad 7, aL ca 16 (fun _ => 0)), (ad 8, a4 ca (0, 0, 0, 0)), (ad 9, a4 ca (0, 0, 0, 0)), (ad 10, a4 ca (0, 0, 0, 0)), (ad 11, a4 ca (0, 0, 0, 0)), (ad 12, a4 ca (0, 0, 0, 0)), (ad 13, a4 ca (0, 0, 0, 0)), (ad 14, a4 ca (0, 0, 0, 0)), (ad 15, a4 ca (0, 0, 0, 0)), (ad 16, a4 ca (0, 0, 0, 0))] := hD
  refine lv_iinc (v := 4) (lv' := [(1, .int 4), (0, .ref o)]) hx hb dX5_init_138 hl (k := 0) rfl (by decide) (by decide) rfl (fun ls hl => ?_)
  refine lv_goto (tgt := 125) hx hb dX5_init_141 (by decide) ?_
  refine lv_iload_n hx hb dX5_init_125 rfl (lv_at hl 0 rfl) ?_
  refine lv_bipush (v := 6) hx hb dX5_init_126 (by decide) ?_
  refine lv_icmp_ge (tgt := 144) hx hb dX5_init_128 (by decide) (fun c_5 => absurd c_5 (by decide)) (fun c_5 => ?_)
  refine lv_aload_n hx hb dX5_init_131 rfl (lv_at hl 1 rfl) ?_
  refine va_get (D := D) (ci := 4) (v := .ref (ad 0)) (C := RX5) (T := TX5) (N := 18) hx hb hts in_X5 hown hK hP 0 rfl rfl 0 (by decide) (hts _ q573) (fun _ h9 => h9) rfl dX5_init_132 ?_
  refine lv_iload_n hx hb dX5_init_135 rfl (lv_at hl 0 rfl) ?_
  refine lv_iconst (v := (-1)) hx hb dX5_init_136 (by decide) ?_
  refine va_iast hx hb hK hP hD hS 1 1 rfl rfl (vin (by decide)) dX5_init_137 (fun H locs hP hD hS => ?_)
  rw [cn_nI (i := 4) (a := 4) rfl (by omega)] at hP hD
  have hP : va_P D vwCl [(o, mO ad 0 0), (ad 0, aI ca 6 (upd (upd (upd (upd (upd (fun _ => 0) 0 (-1)) 1 (-1)) 2 (-1)) 3 (-1)) 4 (-1))), (ad 1, aI ca 6 (fun _ => 0)), (ad 2, aL ca 96 (fun _ => 0)), (ad 3, aI ca 64 (fun _ => 0)), (ad 4, aI ca 96 (fun _ => 0)), (ad 6, aL ca 48 (fun _ => 0)), (ad 7, aL ca 16 (fun _ => 0)), (ad 8, a4 ca (0, 0, 0, 0)), (ad 9, a4 ca (0, 0, 0, 0)), (ad 10, a4 ca (0, 0, 0, 0)), (ad 11, a4 ca (0, 0, 0, 0)), (ad 12, a4 ca (0, 0, 0, 0)), (ad 13, a4 ca (0, 0, 0, 0)), (ad 14, a4 ca (0, 0, 0, 0)), (ad 15, a4 ca (0, 0, 0, 0)), (ad 16, a4 ca (0, 0, 0, 0))] H := hP
  have hD : va_D A [(o, mO ad 0 0), (ad 0, aI ca 6 (upd (upd (upd (upd (upd (fun _ => 0) 0 (-1)) 1 (-1)) 2 (-1)) 3 (-1)) 4 (-1))), (ad 1, aI ca 6 (fun _ => 0)), (ad 2, aL ca 96 (fun _ => 0)), (ad 3, aI ca 64 (fun _ => 0)), (ad 4, aI ca 96 (fun _ => 0)), (ad 6, aL ca 48 (fun _ => 0)), (ad 7, aL ca 16 (fun _ => 0)), (ad 8, a4 ca (0, 0, 0, 0)), (ad 9, a4 ca (0, 0, 0, 0)), (ad 10, a4 ca (0, 0, 0, 0)), (ad 11, a4 ca (0, 0, 0, 0)), (ad 12, a4 ca (0, 0, 0, 0)), (ad 13, a4 ca (0, 0, 0, 0)), (ad 14, a4 ca (0, 0, 0, 0)), (ad 15, a4 ca (0, 0, 0, 0)), (ad 16, a4 ca (0, 0, 0, 0))] := hD
  refine lv_iinc (v := 5) (lv' := [(1, .int 5), (0, .ref o)]) hx hb dX5_init_138 hl (k := 0) rfl (by decide) (by decide) rfl (fun ls hl => ?_)
  refine lv_goto (tgt := 125) hx hb dX5_init_141 (by decide) ?_
  refine lv_iload_n hx hb dX5_init_125 rfl (lv_at hl 0 rfl) ?_
  refine lv_bipush (v := 6) hx hb dX5_init_126 (by decide) ?_
  refine lv_icmp_ge (tgt := 144) hx hb dX5_init_128 (by decide) (fun c_6 => absurd c_6 (by decide)) (fun c_6 => ?_)
  refine lv_aload_n hx hb dX5_init_131 rfl (lv_at hl 1 rfl) ?_
  refine va_get (D := D) (ci := 4) (v := .ref (ad 0)) (C := RX5) (T := TX5) (N := 18) hx hb hts in_X5 hown hK hP 0 rfl rfl 0 (by decide) (hts _ q573) (fun _ h9 => h9) rfl dX5_init_132 ?_
  refine lv_iload_n hx hb dX5_init_135 rfl (lv_at hl 0 rfl) ?_
  refine lv_iconst (v := (-1)) hx hb dX5_init_136 (by decide) ?_
  refine va_iast hx hb hK hP hD hS 1 1 rfl rfl (vin (by decide)) dX5_init_137 (fun H locs hP hD hS => ?_)
  rw [cn_nI (i := 5) (a := 5) rfl (by omega)] at hP hD
  have hP : va_P D vwCl [(o, mO ad 0 0), (ad 0, aI ca 6 (upd (upd (upd (upd (upd (upd (fun _ => 0) 0 (-1)) 1 (-1)) 2 (-1)) 3 (-1)) 4 (-1)) 5 (-1))), (ad 1, aI ca 6 (fun _ => 0)), (ad 2, aL ca 96 (fun _ => 0)), (ad 3, aI ca 64 (fun _ => 0)), (ad 4, aI ca 96 (fun _ => 0)), (ad 6, aL ca 48 (fun _ => 0)), (ad 7, aL ca 16 (fun _ => 0)), (ad 8, a4 ca (0, 0, 0, 0)), (ad 9, a4 ca (0, 0, 0, 0)), (ad 10, a4 ca (0, 0, 0, 0)), (ad 11, a4 ca (0, 0, 0, 0)), (ad 12, a4 ca (0, 0, 0, 0)), (ad 13, a4 ca (0, 0, 0, 0)), (ad 14, a4 ca (0, 0, 0, 0)), (ad 15, a4 ca (0, 0, 0, 0)), (ad 16, a4 ca (0, 0, 0, 0))] H := hP
  have hD : va_D A [(o, mO ad 0 0), (ad 0, aI ca 6 (upd (upd (upd (upd (upd (upd (fun _ => 0) 0 (-1)) 1 (-1)) 2 (-1)) 3 (-1)) 4 (-1)) 5 (-1))), (ad 1, aI ca 6 (fun _ => 0)), (ad 2, aL ca 96 (fun _ => 0)), (ad 3, aI ca 64 (fun _ => 0)), (ad 4, aI ca 96 (fun _ => 0)), (ad 6, aL ca 48 (fun _ => 0)), (ad 7, aL ca 16 (fun _ => 0)), (ad 8, a4 ca (0, 0, 0, 0)), (ad 9, a4 ca (0, 0, 0, 0)), (ad 10, a4 ca (0, 0, 0, 0)), (ad 11, a4 ca (0, 0, 0, 0)), (ad 12, a4 ca (0, 0, 0, 0)), (ad 13, a4 ca (0, 0, 0, 0)), (ad 14, a4 ca (0, 0, 0, 0)), (ad 15, a4 ca (0, 0, 0, 0)), (ad 16, a4 ca (0, 0, 0, 0))] := hD
  refine lv_iinc (v := 6) (lv' := [(1, .int 6), (0, .ref o)]) hx hb dX5_init_138 hl (k := 0) rfl (by decide) (by decide) rfl (fun ls hl => ?_)
  refine lv_goto (tgt := 125) hx hb dX5_init_141 (by decide) ?_
  refine lv_iload_n hx hb dX5_init_125 rfl (lv_at hl 0 rfl) ?_
  refine lv_bipush (v := 6) hx hb dX5_init_126 (by decide) ?_
  refine lv_icmp_ge (tgt := 144) hx hb dX5_init_128 (by decide) (fun c_7 => ?_) (fun c_7 => absurd (by decide) c_7)
  rw [kd0_up] at hP hD
  have hP : va_P D vwCl [(o, mO ad 0 0), (ad 0, aI ca 6 kd0), (ad 1, aI ca 6 (fun _ => 0)), (ad 2, aL ca 96 (fun _ => 0)), (ad 3, aI ca 64 (fun _ => 0)), (ad 4, aI ca 96 (fun _ => 0)), (ad 6, aL ca 48 (fun _ => 0)), (ad 7, aL ca 16 (fun _ => 0)), (ad 8, a4 ca (0, 0, 0, 0)), (ad 9, a4 ca (0, 0, 0, 0)), (ad 10, a4 ca (0, 0, 0, 0)), (ad 11, a4 ca (0, 0, 0, 0)), (ad 12, a4 ca (0, 0, 0, 0)), (ad 13, a4 ca (0, 0, 0, 0)), (ad 14, a4 ca (0, 0, 0, 0)), (ad 15, a4 ca (0, 0, 0, 0)), (ad 16, a4 ca (0, 0, 0, 0))] H := hP
  have hD : va_D A [(o, mO ad 0 0), (ad 0, aI ca 6 kd0), (ad 1, aI ca 6 (fun _ => 0)), (ad 2, aL ca 96 (fun _ => 0)), (ad 3, aI ca 64 (fun _ => 0)), (ad 4, aI ca 96 (fun _ => 0)), (ad 6, aL ca 48 (fun _ => 0)), (ad 7, aL ca 16 (fun _ => 0)), (ad 8, a4 ca (0, 0, 0, 0)), (ad 9, a4 ca (0, 0, 0, 0)), (ad 10, a4 ca (0, 0, 0, 0)), (ad 11, a4 ca (0, 0, 0, 0)), (ad 12, a4 ca (0, 0, 0, 0)), (ad 13, a4 ca (0, 0, 0, 0)), (ad 14, a4 ca (0, 0, 0, 0)), (ad 15, a4 ca (0, 0, 0, 0)), (ad 16, a4 ca (0, 0, 0, 0))] := hD
  refine lv_iconst (v := 0) hx hb dX5_init_144 (by decide) ?_
  refine lv_istore_n (lv' := [(1, .int 0), (0, .ref o)]) hx hb dX5_init_145 rfl hl (by decide) rfl (fun ls hl => ?_)
  refine lv_iconst (v := 2) hx hb dX5_init_146 (by decide) ?_
  refine lv_istore_n (lv' := [(2, .int 2), (1, .int 0), (0, .ref o)]) hx hb dX5_init_147 rfl hl (by decide) rfl (fun ls hl => ?_)
  refine lv_iload_n hx hb dX5_init_148 rfl (lv_at hl 0 rfl) ?_
  refine lv_bipush (v := (-2)) hx hb dX5_init_149 (by decide) ?_
  refine lv_icmp_lt (tgt := 284) hx hb dX5_init_151 (by decide) (fun c_8 => absurd c_8 (by decide)) (fun c_8 => ?_)
  refine lv_iconst (v := 2) hx hb dX5_init_154 (by decide) ?_
  refine lv_istore_n (lv' := [(3, .int 2), (2, .int 2), (1, .int 0), (0, .ref o)]) hx hb dX5_init_155 rfl hl (by decide) rfl (fun ls hl => ?_)
  refine lv_iload_n hx hb dX5_init_156 rfl (lv_at hl 0 rfl) ?_
  refine lv_bipush (v := (-2)) hx hb dX5_init_157 (by decide) ?_
  refine lv_icmp_lt (tgt := 278) hx hb dX5_init_159 (by decide) (fun c_9 => absurd c_9 (by decide)) (fun c_9 => ?_)
  refine lv_iconst (v := 2) hx hb dX5_init_162 (by decide) ?_
  refine lv_istore (lv' := [(4, .int 2), (3, .int 2), (2, .int 2), (1, .int 0), (0, .ref o)]) hx hb dX5_init_163 hl (by decide) rfl (fun ls hl => ?_)
  refine lv_iload hx hb dX5_init_165 (lv_at hl 0 rfl) ?_
  refine lv_bipush (v := (-2)) hx hb dX5_init_167 (by decide) ?_
  refine lv_icmp_lt (tgt := 272) hx hb dX5_init_169 (by decide) (fun c_10 => absurd c_10 (by decide)) (fun c_10 => ?_)
  refine lv_iconst (v := 2) hx hb dX5_init_172 (by decide) ?_
  refine lv_istore (lv' := [(5, .int 2), (4, .int 2), (3, .int 2), (2, .int 2), (1, .int 0), (0, .ref o)]) hx hb dX5_init_173 hl (by decide) rfl (fun ls hl => ?_)
  exact lp_X5_init hk o ad  hx hb hr hts hown hlocks hnm hml hK hN hA  2000 2 2 2 2 0 (fun _ => 0) (by omega) (by omega) (by omega) (by omega) (by rw [VR_0, ← uF_24]; rfl) (by omega) _ _ _ hP hD hS (lv_sub hl [5, 4, 3, 2, 1, 0] rfl) 
