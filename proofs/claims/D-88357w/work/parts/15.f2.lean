def badM (a b c d m : Int64) : Prop := (a - a / m * m = 0 ∧ b - b / m * m = 0 ∧ c - c / m * m = 0 ∧ d - d / m * m = 0) ∧ (b / m &&& 1 = a / m &&& 1 ∧ c / m &&& 1 = a / m &&& 1 ∧ d / m &&& 1 = a / m &&& 1)
/-- no whole from 2 on, its square at most P, divides all four with quotients alike -/
def isAl (a b c d : Int64) (P : Nat) : Prop := ∀ m : Nat, 2 ≤ m → m * m ≤ P → ¬ badM a b c d (lN m)
theorem al_ext {a b c d : Int64} {k : Nat} (h : ∀ m : Nat, 2 ≤ m → m < k → ¬ badM a b c d (lN m)) (hk : ¬ badM a b c d (lN k)) : ∀ m : Nat, 2 ≤ m → m < k + 1 → ¬ badM a b c d (lN m) := by
  intro m h1 h2
  rcases Nat.lt_or_ge m k with q | q
  · exact h m h1 q
  · have : m = k := by omega
    subst this
    exact hk
def c_off (n x : Int64) : Int64 := x - n * p_even x n
def c_oth (n x : Int64) : Int64 := x - n * p_odd x n
def c_whole (n : Int64) (w : Q4) : Int64 := 0 + c_off n w.1 * c_off n w.1 + c_off n w.2.1 * c_off n w.2.1 + c_off n w.2.2.1 * c_off n w.2.2.1 + c_off n w.2.2.2 * c_off n w.2.2.2
def c_half (n : Int64) (w : Q4) : Int64 := 0 + c_oth n w.1 * c_oth n w.1 + c_oth n w.2.1 * c_oth n w.2.1 + c_oth n w.2.2.1 * c_oth n w.2.2.1 + c_oth n w.2.2.2 * c_oth n w.2.2.2
def nearC (n : Int64) (w : Q4) : Q4 := if c_half n w < c_whole n w then (p_odd w.1 n, p_odd w.2.1 n, p_odd w.2.2.1 n, p_odd w.2.2.2 n) else (p_even w.1 n, p_even w.2.1 n, p_even w.2.2.1 n, p_even w.2.2.2 n)
set_option maxHeartbeats 4000000 in
set_option maxRecDepth 100000 in
theorem lp_X1_isAlone {KN : State → Prop} (hk : KNok KN) {l : Launch} {D : va_G} {ca : Nat → ClassId} (a0 : Int64) (b0 : Int64) (c0 : Int64) (d0 : Int64) (P : Nat) (hP0 : P < 2 ^ 40) {p : Program} {e : Env} {s : State} {m : MethodId} {below : List Frame} {meth : Method} {c : Code} {A : Nat → Prop}  (hx : p.tables.exec = Jvm.exec) (hb : c.code = cX1_isAlone) (hr : meth.sig.returnType = (some .boolean)) (hts : ∀ w ∈ lw_all, w.before ([.long a0, .long b0, .long c0, .long d0, .long (lN P)] : List Value).toArray s = true) (hown : s.vm.findClass yX1_isAlone.cls = some m.cls) (hlocks : meth.locks = false) (hnm : meth.name = yX1_isAlone.name) (hml : c.maxLocals = 16) (hK : va_K D vwCl (tysG ca) s) (hN : KN s) (hA : ∀ q, s.heap.size ≤ q → A q)  :
    ∀ (n : Nat) (d : Nat) (tb : Bool), (2 ≤ d) → (d ≤ 2 ^ 20 + 1) → (tb = true → ∀ m : Nat, 2 ≤ m → m < d → ¬ badM a0 b0 c0 d0 (lN m)) → (tb = false → ¬ isAl a0 b0 c0 d0 P) → (2 ^ 20 + 2 ≤ n + d) →  ∀ (H : Heap) (locs : List Loc) (ls : Array Slot), va_P D vwCl [] H → va_D A [] → va_S A s.heap H locs → lv_has ls 16 [(11, .long (lN d)), (10, .int (bI tb)), (0, .long a0), (2, .long b0), (4, .long c0), (6, .long d0), (8, .long (lN P))] → W p l e ({ frames := 0, cells := 0, slots := 0, locals := 0 }) s m ([.long a0, .long b0, .long c0, .long d0, .long (lN P)] : List Value).toArray below meth c H locs 0 0 (MQ below (qI D (fun (r : Int32) (u : Bool) => r = bI u ∧ (u = true ↔ isAl a0 b0 c0 d0 P)) (fun u => []) (fun u H => True) A) ([.long a0, .long b0, .long c0, .long d0, .long (lN P)] : List Value).toArray s 0 0 A) (F0 m 8 ls []) := by
  intro n
  induction n with
  | zero =>
    intro d tb hd hd2 hT hF hfuel H locs ls hP hD hS hl 
    exact absurd hfuel (by omega)
  | succ n ih =>
    intro d tb hd hd2 hT hF hfuel H locs ls hP hD hS hl 
    refine lv_iload hx hb dX1_isAlone_8 (lv_at hl 1 rfl) ?_
    refine lv_if_eq (tgt := 136) hx hb dX1_isAlone_10 (by decide) (fun c_1 => ?_) (fun c_1 => ?_)
    · have c_1 := bI_z0 c_1
      refine lv_iload hx hb dX1_isAlone_136 (lv_at hl 1 rfl) ?_
      exact k_zret tb hx hb hr hlocks (bI_nar _) (⟨rfl, ⟨fun z => absurd (z.symm.trans c_1) (by decide), fun z => absurd z (hF c_1)⟩⟩) hP hD trivial hS (Nat.le_of_ble_eq_true rfl) (Nat.le_of_ble_eq_true rfl) dX1_isAlone_138
    · have c_1 := bI_z1 c_1
      refine lv_lload hx hb dX1_isAlone_13 (lv_at hl 0 rfl) ?_
      refine lv_lload hx hb dX1_isAlone_15 (lv_at hl 0 rfl) ?_
      refine lv_lmul hx hb dX1_isAlone_17 ?_
      refine lv_lload hx hb dX1_isAlone_18 (lv_at hl 6 rfl) ?_
      refine k_lc_gt (tgt := 136) hx hb dX1_isAlone_20 dX1_isAlone_21 (by decide) (fun c_2 => ?_) (fun c_2 => ?_)
      · have c_2 := (lN_sqlt (by omega) (by omega)).mp c_2
        refine lv_iload hx hb dX1_isAlone_136 (lv_at hl 1 rfl) ?_
        exact k_zret tb hx hb hr hlocks (bI_nar _) (⟨rfl, ⟨fun z m h1 h2 => hT z m h1 (Nat.lt_of_not_le fun q => by have := sq_lt q; omega), fun z => by cases htb : tb with | false => exact absurd z (hF htb) | true => rfl⟩⟩) hP hD trivial hS (Nat.le_of_ble_eq_true rfl) (Nat.le_of_ble_eq_true rfl) dX1_isAlone_138
      · have c_2 : d * d ≤ P := Nat.le_of_not_lt fun z => c_2 ((lN_sqlt (by omega) (by omega)).mpr z)
        have hd3 : d ≤ 2 ^ 20 := root_le (b := 2 ^ 20) c_2 (by omega)
        have hdz : ¬ lN d = 0 := by intro z; have := lN_z (by omega) z; omega
        refine lv_lload_n hx hb dX1_isAlone_24 rfl (lv_at hl 2 rfl) ?_
        refine lv_lload hx hb dX1_isAlone_25 (lv_at hl 0 rfl) ?_
        refine lv_lrem hx hb dX1_isAlone_27 hdz ?_
        refine lv_lconst (v := 0) hx hb dX1_isAlone_28 (by decide) ?_
        refine k_lc_ne (tgt := 66) hx hb dX1_isAlone_29 dX1_isAlone_30 (by decide) (fun c_3 => ?_) (fun c_3 => ?_)
        · refine lv_iconst (v := 0) hx hb dX1_isAlone_66 (by decide) ?_
          refine lv_istore (lv' := [(13, .int 0), (11, .long (lN d)), (10, .int (bI tb)), (0, .long a0), (2, .long b0), (4, .long c0), (6, .long d0), (8, .long (lN P))]) hx hb dX1_isAlone_67 hl (by decide) rfl (fun ls hl => ?_)
          refine lv_lload_n hx hb dX1_isAlone_69 rfl (lv_at hl 3 rfl) ?_
          refine lv_lload hx hb dX1_isAlone_70 (lv_at hl 1 rfl) ?_
          refine lv_ldiv hx hb dX1_isAlone_72 hdz ?_
          refine lv_lconst (v := 1) hx hb dX1_isAlone_73 (by decide) ?_
          refine lv_land hx hb dX1_isAlone_74 ?_
          refine lv_lstore (lv' := [(14, .long ((a0 / (lN d)) &&& 1)), (13, .int 0), (11, .long (lN d)), (10, .int (bI tb)), (0, .long a0), (2, .long b0), (4, .long c0), (6, .long d0), (8, .long (lN P))]) hx hb dX1_isAlone_75 hl (by decide) rfl (fun ls hl => ?_)
          refine lv_iload hx hb dX1_isAlone_77 (lv_at hl 1 rfl) ?_
          refine lv_if_eq (tgt := 120) hx hb dX1_isAlone_79 (by decide) (fun c_4 => ?_) (fun c_4 => absurd (by decide) c_4)
          refine lv_iconst (v := 1) hx hb dX1_isAlone_120 (by decide) ?_
          refine lv_goto (tgt := 125) hx hb dX1_isAlone_121 (by decide) ?_
          refine lv_istore (lv' := [(10, .int 1), (14, .long ((a0 / (lN d)) &&& 1)), (13, .int 0), (11, .long (lN d)), (0, .long a0), (2, .long b0), (4, .long c0), (6, .long d0), (8, .long (lN P))]) hx hb dX1_isAlone_125 hl (by decide) rfl (fun ls hl => ?_)
          refine lv_lload hx hb dX1_isAlone_127 (lv_at hl 3 rfl) ?_
          refine lv_lconst (v := 1) hx hb dX1_isAlone_129 (by decide) ?_
          refine lv_ladd hx hb dX1_isAlone_130 ?_
          refine lv_topl (fun z_5 ez_5 => ?_)
          obtain rfl : z_5 = lN (d + 1) := ez_5.trans (lN_1 d)
          refine lv_lstore (lv' := [(11, .long (lN (d + 1))), (10, .int 1), (14, .long ((a0 / (lN d)) &&& 1)), (13, .int 0), (0, .long a0), (2, .long b0), (4, .long c0), (6, .long d0), (8, .long (lN P))]) hx hb dX1_isAlone_131 hl (by decide) rfl (fun ls hl => ?_)
          refine lv_goto (tgt := 8) hx hb dX1_isAlone_133 (by decide) ?_
          exact ih (d + 1) true (by omega) (by omega) (fun _ => al_ext (hT c_1) (by simp [badM, c_3])) (fun z => absurd z (by decide)) (by omega) _ _ _ hP hD hS (lv_sub hl [0, 1, 4, 5, 6, 7, 8] rfl) 
        · refine lv_lload_n hx hb dX1_isAlone_33 rfl (lv_at hl 3 rfl) ?_
          refine lv_lload hx hb dX1_isAlone_34 (lv_at hl 0 rfl) ?_
          refine lv_lrem hx hb dX1_isAlone_36 hdz ?_
          refine lv_lconst (v := 0) hx hb dX1_isAlone_37 (by decide) ?_
          refine k_lc_ne (tgt := 66) hx hb dX1_isAlone_38 dX1_isAlone_39 (by decide) (fun c_6 => ?_) (fun c_6 => ?_)
          · refine lv_iconst (v := 0) hx hb dX1_isAlone_66 (by decide) ?_
            refine lv_istore (lv' := [(13, .int 0), (11, .long (lN d)), (10, .int (bI tb)), (0, .long a0), (2, .long b0), (4, .long c0), (6, .long d0), (8, .long (lN P))]) hx hb dX1_isAlone_67 hl (by decide) rfl (fun ls hl => ?_)
            refine lv_lload_n hx hb dX1_isAlone_69 rfl (lv_at hl 3 rfl) ?_
            refine lv_lload hx hb dX1_isAlone_70 (lv_at hl 1 rfl) ?_
            refine lv_ldiv hx hb dX1_isAlone_72 hdz ?_
            refine lv_lconst (v := 1) hx hb dX1_isAlone_73 (by decide) ?_
            refine lv_land hx hb dX1_isAlone_74 ?_
            refine lv_lstore (lv' := [(14, .long ((a0 / (lN d)) &&& 1)), (13, .int 0), (11, .long (lN d)), (10, .int (bI tb)), (0, .long a0), (2, .long b0), (4, .long c0), (6, .long d0), (8, .long (lN P))]) hx hb dX1_isAlone_75 hl (by decide) rfl (fun ls hl => ?_)
            refine lv_iload hx hb dX1_isAlone_77 (lv_at hl 1 rfl) ?_
            refine lv_if_eq (tgt := 120) hx hb dX1_isAlone_79 (by decide) (fun c_7 => ?_) (fun c_7 => absurd (by decide) c_7)
            refine lv_iconst (v := 1) hx hb dX1_isAlone_120 (by decide) ?_
            refine lv_goto (tgt := 125) hx hb dX1_isAlone_121 (by decide) ?_
            refine lv_istore (lv' := [(10, .int 1), (14, .long ((a0 / (lN d)) &&& 1)), (13, .int 0), (11, .long (lN d)), (0, .long a0), (2, .long b0), (4, .long c0), (6, .long d0), (8, .long (lN P))]) hx hb dX1_isAlone_125 hl (by decide) rfl (fun ls hl => ?_)
            refine lv_lload hx hb dX1_isAlone_127 (lv_at hl 3 rfl) ?_
            refine lv_lconst (v := 1) hx hb dX1_isAlone_129 (by decide) ?_
            refine lv_ladd hx hb dX1_isAlone_130 ?_
            refine lv_topl (fun z_8 ez_8 => ?_)
            obtain rfl : z_8 = lN (d + 1) := ez_8.trans (lN_1 d)
            refine lv_lstore (lv' := [(11, .long (lN (d + 1))), (10, .int 1), (14, .long ((a0 / (lN d)) &&& 1)), (13, .int 0), (0, .long a0), (2, .long b0), (4, .long c0), (6, .long d0), (8, .long (lN P))]) hx hb dX1_isAlone_131 hl (by decide) rfl (fun ls hl => ?_)
            refine lv_goto (tgt := 8) hx hb dX1_isAlone_133 (by decide) ?_
            exact ih (d + 1) true (by omega) (by omega) (fun _ => al_ext (hT c_1) (by simp [badM, c_3, c_6])) (fun z => absurd z (by decide)) (by omega) _ _ _ hP hD hS (lv_sub hl [0, 1, 4, 5, 6, 7, 8] rfl) 
          · refine lv_lload hx hb dX1_isAlone_42 (lv_at hl 4 rfl) ?_
            refine lv_lload hx hb dX1_isAlone_44 (lv_at hl 0 rfl) ?_
            refine lv_lrem hx hb dX1_isAlone_46 hdz ?_
            refine lv_lconst (v := 0) hx hb dX1_isAlone_47 (by decide) ?_
            refine k_lc_ne (tgt := 66) hx hb dX1_isAlone_48 dX1_isAlone_49 (by decide) (fun c_9 => ?_) (fun c_9 => ?_)
            · refine lv_iconst (v := 0) hx hb dX1_isAlone_66 (by decide) ?_
              refine lv_istore (lv' := [(13, .int 0), (11, .long (lN d)), (10, .int (bI tb)), (0, .long a0), (2, .long b0), (4, .long c0), (6, .long d0), (8, .long (lN P))]) hx hb dX1_isAlone_67 hl (by decide) rfl (fun ls hl => ?_)
              refine lv_lload_n hx hb dX1_isAlone_69 rfl (lv_at hl 3 rfl) ?_
              refine lv_lload hx hb dX1_isAlone_70 (lv_at hl 1 rfl) ?_
              refine lv_ldiv hx hb dX1_isAlone_72 hdz ?_
              refine lv_lconst (v := 1) hx hb dX1_isAlone_73 (by decide) ?_
              refine lv_land hx hb dX1_isAlone_74 ?_
              refine lv_lstore (lv' := [(14, .long ((a0 / (lN d)) &&& 1)), (13, .int 0), (11, .long (lN d)), (10, .int (bI tb)), (0, .long a0), (2, .long b0), (4, .long c0), (6, .long d0), (8, .long (lN P))]) hx hb dX1_isAlone_75 hl (by decide) rfl (fun ls hl => ?_)
              refine lv_iload hx hb dX1_isAlone_77 (lv_at hl 1 rfl) ?_
              refine lv_if_eq (tgt := 120) hx hb dX1_isAlone_79 (by decide) (fun c_10 => ?_) (fun c_10 => absurd (by decide) c_10)
              refine lv_iconst (v := 1) hx hb dX1_isAlone_120 (by decide) ?_
              refine lv_goto (tgt := 125) hx hb dX1_isAlone_121 (by decide) ?_
              refine lv_istore (lv' := [(10, .int 1), (14, .long ((a0 / (lN d)) &&& 1)), (13, .int 0), (11, .long (lN d)), (0, .long a0), (2, .long b0), (4, .long c0), (6, .long d0), (8, .long (lN P))]) hx hb dX1_isAlone_125 hl (by decide) rfl (fun ls hl => ?_)
              refine lv_lload hx hb dX1_isAlone_127 (lv_at hl 3 rfl) ?_
              refine lv_lconst (v := 1) hx hb dX1_isAlone_129 (by decide) ?_
              refine lv_ladd hx hb dX1_isAlone_130 ?_
              refine lv_topl (fun z_11 ez_11 => ?_)
              obtain rfl : z_11 = lN (d + 1) := ez_11.trans (lN_1 d)
              refine lv_lstore (lv' := [(11, .long (lN (d + 1))), (10, .int 1), (14, .long ((a0 / (lN d)) &&& 1)), (13, .int 0), (0, .long a0), (2, .long b0), (4, .long c0), (6, .long d0), (8, .long (lN P))]) hx hb dX1_isAlone_131 hl (by decide) rfl (fun ls hl => ?_)
              refine lv_goto (tgt := 8) hx hb dX1_isAlone_133 (by decide) ?_
              exact ih (d + 1) true (by omega) (by omega) (fun _ => al_ext (hT c_1) (by simp [badM, c_3, c_6, c_9])) (fun z => absurd z (by decide)) (by omega) _ _ _ hP hD hS (lv_sub hl [0, 1, 4, 5, 6, 7, 8] rfl) 
            · refine lv_lload hx hb dX1_isAlone_52 (lv_at hl 5 rfl) ?_
              refine lv_lload hx hb dX1_isAlone_54 (lv_at hl 0 rfl) ?_
              refine lv_lrem hx hb dX1_isAlone_56 hdz ?_
              refine lv_lconst (v := 0) hx hb dX1_isAlone_57 (by decide) ?_
              refine k_lc_ne (tgt := 66) hx hb dX1_isAlone_58 dX1_isAlone_59 (by decide) (fun c_12 => ?_) (fun c_12 => ?_)
              · refine lv_iconst (v := 0) hx hb dX1_isAlone_66 (by decide) ?_
                refine lv_istore (lv' := [(13, .int 0), (11, .long (lN d)), (10, .int (bI tb)), (0, .long a0), (2, .long b0), (4, .long c0), (6, .long d0), (8, .long (lN P))]) hx hb dX1_isAlone_67 hl (by decide) rfl (fun ls hl => ?_)
                refine lv_lload_n hx hb dX1_isAlone_69 rfl (lv_at hl 3 rfl) ?_
                refine lv_lload hx hb dX1_isAlone_70 (lv_at hl 1 rfl) ?_
                refine lv_ldiv hx hb dX1_isAlone_72 hdz ?_
                refine lv_lconst (v := 1) hx hb dX1_isAlone_73 (by decide) ?_
                refine lv_land hx hb dX1_isAlone_74 ?_
                refine lv_lstore (lv' := [(14, .long ((a0 / (lN d)) &&& 1)), (13, .int 0), (11, .long (lN d)), (10, .int (bI tb)), (0, .long a0), (2, .long b0), (4, .long c0), (6, .long d0), (8, .long (lN P))]) hx hb dX1_isAlone_75 hl (by decide) rfl (fun ls hl => ?_)
                refine lv_iload hx hb dX1_isAlone_77 (lv_at hl 1 rfl) ?_
                refine lv_if_eq (tgt := 120) hx hb dX1_isAlone_79 (by decide) (fun c_13 => ?_) (fun c_13 => absurd (by decide) c_13)
                refine lv_iconst (v := 1) hx hb dX1_isAlone_120 (by decide) ?_
                refine lv_goto (tgt := 125) hx hb dX1_isAlone_121 (by decide) ?_
                refine lv_istore (lv' := [(10, .int 1), (14, .long ((a0 / (lN d)) &&& 1)), (13, .int 0), (11, .long (lN d)), (0, .long a0), (2, .long b0), (4, .long c0), (6, .long d0), (8, .long (lN P))]) hx hb dX1_isAlone_125 hl (by decide) rfl (fun ls hl => ?_)
                refine lv_lload hx hb dX1_isAlone_127 (lv_at hl 3 rfl) ?_
                refine lv_lconst (v := 1) hx hb dX1_isAlone_129 (by decide) ?_
                refine lv_ladd hx hb dX1_isAlone_130 ?_
                refine lv_topl (fun z_14 ez_14 => ?_)
                obtain rfl : z_14 = lN (d + 1) := ez_14.trans (lN_1 d)
                refine lv_lstore (lv' := [(11, .long (lN (d + 1))), (10, .int 1), (14, .long ((a0 / (lN d)) &&& 1)), (13, .int 0), (0, .long a0), (2, .long b0), (4, .long c0), (6, .long d0), (8, .long (lN P))]) hx hb dX1_isAlone_131 hl (by decide) rfl (fun ls hl => ?_)
                refine lv_goto (tgt := 8) hx hb dX1_isAlone_133 (by decide) ?_
                exact ih (d + 1) true (by omega) (by omega) (fun _ => al_ext (hT c_1) (by simp [badM, c_3, c_6, c_9, c_12])) (fun z => absurd z (by decide)) (by omega) _ _ _ hP hD hS (lv_sub hl [0, 1, 4, 5, 6, 7, 8] rfl) 
              · refine lv_iconst (v := 1) hx hb dX1_isAlone_62 (by decide) ?_
                refine lv_goto (tgt := 67) hx hb dX1_isAlone_63 (by decide) ?_
                refine lv_istore (lv' := [(13, .int 1), (11, .long (lN d)), (10, .int (bI tb)), (0, .long a0), (2, .long b0), (4, .long c0), (6, .long d0), (8, .long (lN P))]) hx hb dX1_isAlone_67 hl (by decide) rfl (fun ls hl => ?_)
                refine lv_lload_n hx hb dX1_isAlone_69 rfl (lv_at hl 3 rfl) ?_
                refine lv_lload hx hb dX1_isAlone_70 (lv_at hl 1 rfl) ?_
                refine lv_ldiv hx hb dX1_isAlone_72 hdz ?_
                refine lv_lconst (v := 1) hx hb dX1_isAlone_73 (by decide) ?_
                refine lv_land hx hb dX1_isAlone_74 ?_
                refine lv_lstore (lv' := [(14, .long ((a0 / (lN d)) &&& 1)), (13, .int 1), (11, .long (lN d)), (10, .int (bI tb)), (0, .long a0), (2, .long b0), (4, .long c0), (6, .long d0), (8, .long (lN P))]) hx hb dX1_isAlone_75 hl (by decide) rfl (fun ls hl => ?_)
                refine lv_iload hx hb dX1_isAlone_77 (lv_at hl 1 rfl) ?_
                refine lv_if_eq (tgt := 120) hx hb dX1_isAlone_79 (by decide) (fun c_15 => absurd c_15 (by decide)) (fun c_15 => ?_)
                refine lv_lload_n hx hb dX1_isAlone_82 rfl (lv_at hl 5 rfl) ?_
                refine lv_lload hx hb dX1_isAlone_83 (lv_at hl 2 rfl) ?_
                refine lv_ldiv hx hb dX1_isAlone_85 hdz ?_
                refine lv_lconst (v := 1) hx hb dX1_isAlone_86 (by decide) ?_
                refine lv_land hx hb dX1_isAlone_87 ?_
                refine lv_lload hx hb dX1_isAlone_88 (lv_at hl 0 rfl) ?_
                refine k_lc_ne (tgt := 120) hx hb dX1_isAlone_90 dX1_isAlone_91 (by decide) (fun c_16 => ?_) (fun c_16 => ?_)
                · refine lv_iconst (v := 1) hx hb dX1_isAlone_120 (by decide) ?_
                  refine lv_goto (tgt := 125) hx hb dX1_isAlone_121 (by decide) ?_
                  refine lv_istore (lv' := [(10, .int 1), (14, .long ((a0 / (lN d)) &&& 1)), (13, .int 1), (11, .long (lN d)), (0, .long a0), (2, .long b0), (4, .long c0), (6, .long d0), (8, .long (lN P))]) hx hb dX1_isAlone_125 hl (by decide) rfl (fun ls hl => ?_)
                  refine lv_lload hx hb dX1_isAlone_127 (lv_at hl 3 rfl) ?_
                  refine lv_lconst (v := 1) hx hb dX1_isAlone_129 (by decide) ?_
                  refine lv_ladd hx hb dX1_isAlone_130 ?_
                  refine lv_topl (fun z_17 ez_17 => ?_)
                  obtain rfl : z_17 = lN (d + 1) := ez_17.trans (lN_1 d)
                  refine lv_lstore (lv' := [(11, .long (lN (d + 1))), (10, .int 1), (14, .long ((a0 / (lN d)) &&& 1)), (13, .int 1), (0, .long a0), (2, .long b0), (4, .long c0), (6, .long d0), (8, .long (lN P))]) hx hb dX1_isAlone_131 hl (by decide) rfl (fun ls hl => ?_)
                  refine lv_goto (tgt := 8) hx hb dX1_isAlone_133 (by decide) ?_
                  exact ih (d + 1) true (by omega) (by omega) (fun _ => al_ext (hT c_1) (by simp [badM, c_3, c_6, c_9, c_12, c_16])) (fun z => absurd z (by decide)) (by omega) _ _ _ hP hD hS (lv_sub hl [0, 1, 4, 5, 6, 7, 8] rfl) 
                · refine lv_lload hx hb dX1_isAlone_94 (lv_at hl 6 rfl) ?_
                  refine lv_lload hx hb dX1_isAlone_96 (lv_at hl 2 rfl) ?_
                  refine lv_ldiv hx hb dX1_isAlone_98 hdz ?_
                  refine lv_lconst (v := 1) hx hb dX1_isAlone_99 (by decide) ?_
                  refine lv_land hx hb dX1_isAlone_100 ?_
                  refine lv_lload hx hb dX1_isAlone_101 (lv_at hl 0 rfl) ?_
                  refine k_lc_ne (tgt := 120) hx hb dX1_isAlone_103 dX1_isAlone_104 (by decide) (fun c_18 => ?_) (fun c_18 => ?_)
                  · refine lv_iconst (v := 1) hx hb dX1_isAlone_120 (by decide) ?_
                    refine lv_goto (tgt := 125) hx hb dX1_isAlone_121 (by decide) ?_
                    refine lv_istore (lv' := [(10, .int 1), (14, .long ((a0 / (lN d)) &&& 1)), (13, .int 1), (11, .long (lN d)), (0, .long a0), (2, .long b0), (4, .long c0), (6, .long d0), (8, .long (lN P))]) hx hb dX1_isAlone_125 hl (by decide) rfl (fun ls hl => ?_)
                    refine lv_lload hx hb dX1_isAlone_127 (lv_at hl 3 rfl) ?_
                    refine lv_lconst (v := 1) hx hb dX1_isAlone_129 (by decide) ?_
                    refine lv_ladd hx hb dX1_isAlone_130 ?_
                    refine lv_topl (fun z_19 ez_19 => ?_)
                    obtain rfl : z_19 = lN (d + 1) := ez_19.trans (lN_1 d)
                    refine lv_lstore (lv' := [(11, .long (lN (d + 1))), (10, .int 1), (14, .long ((a0 / (lN d)) &&& 1)), (13, .int 1), (0, .long a0), (2, .long b0), (4, .long c0), (6, .long d0), (8, .long (lN P))]) hx hb dX1_isAlone_131 hl (by decide) rfl (fun ls hl => ?_)
                    refine lv_goto (tgt := 8) hx hb dX1_isAlone_133 (by decide) ?_
                    exact ih (d + 1) true (by omega) (by omega) (fun _ => al_ext (hT c_1) (by simp [badM, c_3, c_6, c_9, c_12, c_16, c_18])) (fun z => absurd z (by decide)) (by omega) _ _ _ hP hD hS (lv_sub hl [0, 1, 4, 5, 6, 7, 8] rfl) 
                  · refine lv_lload hx hb dX1_isAlone_107 (lv_at hl 7 rfl) ?_
                    refine lv_lload hx hb dX1_isAlone_109 (lv_at hl 2 rfl) ?_
                    refine lv_ldiv hx hb dX1_isAlone_111 hdz ?_
                    refine lv_lconst (v := 1) hx hb dX1_isAlone_112 (by decide) ?_
                    refine lv_land hx hb dX1_isAlone_113 ?_
                    refine lv_lload hx hb dX1_isAlone_114 (lv_at hl 0 rfl) ?_
                    refine k_lc_eq (tgt := 124) hx hb dX1_isAlone_116 dX1_isAlone_117 (by decide) (fun c_20 => ?_) (fun c_20 => ?_)
                    · refine lv_iconst (v := 0) hx hb dX1_isAlone_124 (by decide) ?_
                      refine lv_istore (lv' := [(10, .int 0), (14, .long ((a0 / (lN d)) &&& 1)), (13, .int 1), (11, .long (lN d)), (0, .long a0), (2, .long b0), (4, .long c0), (6, .long d0), (8, .long (lN P))]) hx hb dX1_isAlone_125 hl (by decide) rfl (fun ls hl => ?_)
                      refine lv_lload hx hb dX1_isAlone_127 (lv_at hl 3 rfl) ?_
                      refine lv_lconst (v := 1) hx hb dX1_isAlone_129 (by decide) ?_
                      refine lv_ladd hx hb dX1_isAlone_130 ?_
                      refine lv_topl (fun z_21 ez_21 => ?_)
                      obtain rfl : z_21 = lN (d + 1) := ez_21.trans (lN_1 d)
                      refine lv_lstore (lv' := [(11, .long (lN (d + 1))), (10, .int 0), (14, .long ((a0 / (lN d)) &&& 1)), (13, .int 1), (0, .long a0), (2, .long b0), (4, .long c0), (6, .long d0), (8, .long (lN P))]) hx hb dX1_isAlone_131 hl (by decide) rfl (fun ls hl => ?_)
                      refine lv_goto (tgt := 8) hx hb dX1_isAlone_133 (by decide) ?_
                      exact ih (d + 1) false (by omega) (by omega) (fun z => absurd z (by decide)) (fun _ z => z d hd c_2 (by simp [badM, c_3, c_6, c_9, c_12, c_16, c_18, c_20])) (by omega) _ _ _ hP hD hS (lv_sub hl [0, 1, 4, 5, 6, 7, 8] rfl) 
                    · refine lv_iconst (v := 1) hx hb dX1_isAlone_120 (by decide) ?_
                      refine lv_goto (tgt := 125) hx hb dX1_isAlone_121 (by decide) ?_
                      refine lv_istore (lv' := [(10, .int 1), (14, .long ((a0 / (lN d)) &&& 1)), (13, .int 1), (11, .long (lN d)), (0, .long a0), (2, .long b0), (4, .long c0), (6, .long d0), (8, .long (lN P))]) hx hb dX1_isAlone_125 hl (by decide) rfl (fun ls hl => ?_)
                      refine lv_lload hx hb dX1_isAlone_127 (lv_at hl 3 rfl) ?_
                      refine lv_lconst (v := 1) hx hb dX1_isAlone_129 (by decide) ?_
                      refine lv_ladd hx hb dX1_isAlone_130 ?_
                      refine lv_topl (fun z_22 ez_22 => ?_)
                      obtain rfl : z_22 = lN (d + 1) := ez_22.trans (lN_1 d)
                      refine lv_lstore (lv' := [(11, .long (lN (d + 1))), (10, .int 1), (14, .long ((a0 / (lN d)) &&& 1)), (13, .int 1), (0, .long a0), (2, .long b0), (4, .long c0), (6, .long d0), (8, .long (lN P))]) hx hb dX1_isAlone_131 hl (by decide) rfl (fun ls hl => ?_)
                      refine lv_goto (tgt := 8) hx hb dX1_isAlone_133 (by decide) ?_
                      exact ih (d + 1) true (by omega) (by omega) (fun _ => al_ext (hT c_1) (by simp [badM, c_3, c_6, c_9, c_12, c_16, c_18, c_20])) (fun z => absurd z (by decide)) (by omega) _ _ _ hP hD hS (lv_sub hl [0, 1, 4, 5, 6, 7, 8] rfl) 
set_option maxHeartbeats 4000000 in
set_option maxRecDepth 100000 in
theorem ct_X1_isAlone {KN : State → Prop} (hk : KNok KN) (l : Launch) (D : va_G) (ca : Nat → ClassId) (zH : Nat) (a0 b0 c0 d0 : Int64) (P : Nat) (hP0 : P < 2 ^ 40) : Met l yX1_isAlone (ws_ yX1_isAlone cX1_isAlone 16 (some .boolean)) ({ frames := 0, cells := 0, slots := 0, locals := 0 }) (va_Pc [.long a0, .long b0, .long c0, .long d0, .long (lN P)] (pr_ KN D ca [] zH (fun _ => True))) (qI D (fun (r : Int32) (u : Bool) => r = bI u ∧ (u = true ↔ isAl a0 b0 c0 d0 P)) (fun u => []) (fun u H => True) (va_A [] zH)) 0 0 (va_A [] zH) := by
  refine k_ofW (Qc := qI D (fun (r : Int32) (u : Bool) => r = bI u ∧ (u = true ↔ isAl a0 b0 c0 d0 P)) (fun u => []) (fun u H => True)) (by decide) (Nat.le_of_ble_eq_true rfl) ?_
  intro p e s m below meth c ls A H hH hx hb hr hts hown hlocks hnm hml hsz hP hD hK hN hA hAn hS hro hl
  have hl : lv_has ls 16 [(0, .long a0), (2, .long b0), (4, .long c0), (6, .long d0), (8, .long (lN P))] := hl
  refine lv_iconst (v := 1) hx hb dX1_isAlone_0 (by decide) ?_
  refine lv_istore (lv' := [(10, .int 1), (0, .long a0), (2, .long b0), (4, .long c0), (6, .long d0), (8, .long (lN P))]) hx hb dX1_isAlone_1 hl (by decide) rfl (fun ls hl => ?_)
  refine lv_ldc2 hx hb hown (hts _ q371) dX1_isAlone_3 ?_
  refine lv_lstore (lv' := [(11, .long 2), (10, .int 1), (0, .long a0), (2, .long b0), (4, .long c0), (6, .long d0), (8, .long (lN P))]) hx hb dX1_isAlone_6 hl (by decide) rfl (fun ls hl => ?_)
  exact lp_X1_isAlone hk a0 b0 c0 d0 P hP0  hx hb hr hts hown hlocks hnm hml hK hN hA  (2 ^ 20) 2 true (by omega) (by omega) (fun _ m h1 h2 => by omega) (fun z => absurd z (by decide)) (by omega) _ _ _ hP hD hS (lv_sub hl [0, 1, 2, 3, 4, 5, 6] rfl) 
set_option maxHeartbeats 4000000 in
set_option maxRecDepth 100000 in
theorem ct_X1_isPrimitive (l : Launch) (D : va_G) (ca : Nat → ClassId) (zH : Nat) (h0 : Nat) (v : Q4) (P : Nat) (hn : q_norm v = lN P) (hP0 : P < 2 ^ 40) : Met l yX1_isPrimitive (ws_ yX1_isPrimitive cX1_isPrimitive 1 (some .boolean)) ({ frames := 3, cells := 0, slots := 0, locals := 61 }) (va_Pc [.ref h0] (pr_ NW D ca [] zH (fun H => Fo D H h0 v))) (qI D (fun (r : Int32) (u : Bool) => r = bI u ∧ (u = true ↔ (q_nz v = false ∧ isAl v.1 v.2.1 v.2.2.1 v.2.2.2 P))) (fun u => []) (fun u H => True) (va_A [] zH)) 0 0 (va_A [] zH) := by
  have hk := NW_ok
  refine k_ofW (Qc := qI D (fun (r : Int32) (u : Bool) => r = bI u ∧ (u = true ↔ (q_nz v = false ∧ isAl v.1 v.2.1 v.2.2.1 v.2.2.2 P))) (fun u => []) (fun u H => True)) (by decide) (Nat.le_of_ble_eq_true rfl) ?_
  intro p e s m below meth c ls A H hH hx hb hr hts hown hlocks hnm hml hsz hP hD hK hN hA hAn hS hro hl
  have hl : lv_has ls 1 [(0, .ref h0)] := hl
  have hF0 := hro
  have nF0 := k_new hAn hF0.lt
  refine lv_aload_n hx hb dX1_isPrimitive_0 rfl (lv_at hl 0 rfl) ?_
  refine k_calli (wr := []) (kd_runV (x := yF_isNought) (owner := "FourParts$Parts") (As := []) (rest := []) ⟨hx, hb, hml, hown, hts⟩ (ct_X7_isNought l D ca H.size h0 v) qI_ret rfl (lw_meth q363) rfl rfl rfl ⟨Nat.le_of_ble_eq_true rfl, Nat.le_of_ble_eq_true rfl⟩ (hN.1 _ (List.mem_of_getElem? (i := 2) rfl)) (hN.1 _ (List.mem_of_getElem? (i := 6) rfl)) (va_Decl.abs (hN.2.2.1 _ (List.mem_of_getElem? (i := 0) rfl))) ⟨by decide, by decide⟩ hN.2.2.2.2.2.2.2.2.2.1 (hts _ q361) (by decide +kernel) (k_preV hk hK hN hP hD [] (by decide) rfl (hF0.keep hS nF0) (hF0.keep hS nF0) rfl (q0 := 0) rfl) rfl rfl hl.1 rfl (lv_room (Nat.le_of_ble_eq_true rfl)) dX1_isPrimitive_1 ⟨Nat.le_of_ble_eq_true rfl, Nat.le_of_ble_eq_true rfl⟩) hP hD hS hA [] [] rfl rfl (by decide) (by decide) (fun r_1 u_2 H locs w_3 hP hD hxw_3 hzw_3 hqw_3 hS => ?_)
  obtain rfl : r_1 = bI (q_nz v) := w_3
  refine lv_if_ne (tgt := 37) hx hb dX1_isPrimitive_4 (by decide) (fun c_4 => ?_) (fun c_4 => ?_)
  · have c_4 := bI_z1 c_4
    refine lv_iconst (v := 0) hx hb dX1_isPrimitive_37 (by decide) ?_
    exact k_zret false hx hb hr hlocks (by decide) (⟨rfl, by simp [c_4]⟩) hP hD trivial hS (Nat.le_of_ble_eq_true rfl) (Nat.le_of_ble_eq_true rfl) dX1_isPrimitive_38
  · have c_4 := bI_z0 c_4
    refine lv_aload_n hx hb dX1_isPrimitive_7 rfl (lv_at hl 0 rfl) ?_
    refine va_get (D := D) (ci := 1) (v := .long v.1) (C := RX1) (T := TX1) (N := 4) hx hb hts in_X1 hown hK (hF0.keep hS nF0) 0 rfl rfl 0 (by decide) (hts _ q233) (fun _ h9 => h9) rfl dX1_isPrimitive_8 ?_
    refine lv_aload_n hx hb dX1_isPrimitive_11 rfl (lv_at hl 0 rfl) ?_
    refine va_get (D := D) (ci := 1) (v := .long v.2.1) (C := RX1) (T := TX1) (N := 4) hx hb hts in_X1 hown hK (hF0.keep hS nF0) 0 rfl rfl 1 (by decide) (hts _ q235) (fun _ h9 => h9) rfl dX1_isPrimitive_12 ?_
    refine lv_aload_n hx hb dX1_isPrimitive_15 rfl (lv_at hl 0 rfl) ?_
    refine va_get (D := D) (ci := 1) (v := .long v.2.2.1) (C := RX1) (T := TX1) (N := 4) hx hb hts in_X1 hown hK (hF0.keep hS nF0) 0 rfl rfl 2 (by decide) (hts _ q237) (fun _ h9 => h9) rfl dX1_isPrimitive_16 ?_
    refine lv_aload_n hx hb dX1_isPrimitive_19 rfl (lv_at hl 0 rfl) ?_
    refine va_get (D := D) (ci := 1) (v := .long v.2.2.2) (C := RX1) (T := TX1) (N := 4) hx hb hts in_X1 hown hK (hF0.keep hS nF0) 0 rfl rfl 3 (by decide) (hts _ q239) (fun _ h9 => h9) rfl dX1_isPrimitive_20 ?_
    refine lv_aload_n hx hb dX1_isPrimitive_23 rfl (lv_at hl 0 rfl) ?_
    refine k_calll (wr := []) (va_runV (As := []) (rest := [.long v.2.2.2, .long v.2.2.1, .long v.2.1, .long v.1]) ⟨hx, hb, hml, hown, hts⟩ (ct_X1_norm l D ca H.size h0 v) (cwV 0 hts (lw_V q367 q351 q352 q20 q353) rfl rfl rfl (by decide +kernel) ⟨Nat.le_of_ble_eq_true rfl, Nat.le_of_ble_eq_true rfl⟩) (k_preV hk hK hN hP hD [] (by decide) rfl (hF0.keep hS nF0) (hF0.keep hS nF0) rfl (q0 := 0) rfl) rfl rfl hl.1 rfl (lv_room (Nat.le_of_ble_eq_true rfl)) dX1_isPrimitive_24 ⟨Nat.le_of_ble_eq_true rfl, Nat.le_of_ble_eq_true rfl⟩) hP hD hS hA [] [] rfl rfl (by decide) (by decide) (fun r_5 u_6 H locs w_7 hP hD hxw_7 hzw_7 hqw_7 hS => ?_)
    obtain rfl : r_5 = q_norm v := w_7
    refine lv_topl (fun z_8 ez_8 => ?_)
    obtain rfl : z_8 = lN P := ez_8.trans hn
    refine k_calli (wr := []) (va_runS (As := [.long v.1, .long v.2.1, .long v.2.2.1, .long v.2.2.2, .long (lN P)]) (rest := []) ⟨hx, hb, hml, hown, hts⟩ (ct_X1_isAlone hk l D ca H.size v.1 v.2.1 v.2.2.1 v.2.2.2 P hP0) (va_cwS 5 hts (lw_S q368 q369 q20 q370) rfl rfl rfl (by decide +kernel) ⟨Nat.le_of_ble_eq_true rfl, Nat.le_of_ble_eq_true rfl⟩) (k_pre hk hK hN hP hD [] (by decide) rfl trivial) rfl rfl hl.1 rfl (lv_room (Nat.le_of_ble_eq_true rfl)) dX1_isPrimitive_27 ⟨Nat.le_of_ble_eq_true rfl, Nat.le_of_ble_eq_true rfl⟩) hP hD hS hA [] [] rfl rfl (by decide) (by decide) (fun r_9 u_10 H locs w_11 hP hD hxw_11 hzw_11 hqw_11 hS => ?_)
    obtain ⟨hrr_9, hur_9⟩ := w_11
    subst hrr_9
    refine lv_if_eq (tgt := 37) hx hb dX1_isPrimitive_30 (by decide) (fun c_12 => ?_) (fun c_12 => ?_)
    · have c_12 := bI_z0 c_12
      refine lv_iconst (v := 0) hx hb dX1_isPrimitive_37 (by decide) ?_
      exact k_zret false hx hb hr hlocks (by decide) (⟨rfl, by rw [← hur_9]; simp [c_4, c_12]⟩) hP hD trivial hS (Nat.le_of_ble_eq_true rfl) (Nat.le_of_ble_eq_true rfl) dX1_isPrimitive_38
    · have c_12 := bI_z1 c_12
      refine lv_iconst (v := 1) hx hb dX1_isPrimitive_33 (by decide) ?_
      refine lv_goto (tgt := 38) hx hb dX1_isPrimitive_34 (by decide) ?_
      exact k_zret true hx hb hr hlocks (by decide) (⟨rfl, by rw [← hur_9]; simp [c_4, c_12]⟩) hP hD trivial hS (Nat.le_of_ble_eq_true rfl) (Nat.le_of_ble_eq_true rfl) dX1_isPrimitive_38
set_option maxHeartbeats 4000000 in
set_option maxRecDepth 100000 in
theorem ct_X1_near {KN : State → Prop} (hk : KNok KN) (l : Launch) (D : va_G) (ca : Nat → ClassId) (zH : Nat) (h0 : Nat) (n : Int64) (v : Q4) (hn : ¬ 2 * n = 0) : Met l yX1_near (ws_ yX1_near cX1_near 8 (some (.object "FourParts$Four"))) ({ frames := 2, cells := 1, slots := 4, locals := 48 }) (va_Pc [.ref h0, .long n] (pr_ KN D ca [] zH (fun H => Fo D H h0 v))) (qR D (fun (u : Unit) => True) (fun u a => [(a, f4 (nearC n v))]) (fun u a H => True) (va_A [] zH)) 1 4 (va_A [] zH) := by
  refine k_ofW (Qc := qR D (fun (u : Unit) => True) (fun u a => [(a, f4 (nearC n v))]) (fun u a H => True)) (by decide) (Nat.le_of_ble_eq_true rfl) ?_
  intro p e s m below meth c ls A H hH hx hb hr hts hown hlocks hnm hml hsz hP hD hK hN hA hAn hS hro hl
  have hl : lv_has ls 8 [(0, .ref h0), (1, .long n)] := hl
  have hF0 := hro
  have nF0 := k_new hAn hF0.lt
  refine lv_lconst (v := 0) hx hb dX1_near_0 (by decide) ?_
  refine lv_lstore_n (lv' := [(3, .long 0), (0, .ref h0), (1, .long n)]) hx hb dX1_near_1 rfl hl (by decide) rfl (fun ls hl => ?_)
  refine lv_lconst (v := 0) hx hb dX1_near_2 (by decide) ?_
  refine lv_lstore (lv' := [(5, .long 0), (3, .long 0), (0, .ref h0), (1, .long n)]) hx hb dX1_near_3 hl (by decide) rfl (fun ls hl => ?_)
  refine lv_iconst (v := 0) hx hb dX1_near_5 (by decide) ?_
  refine lv_istore (lv' := [(7, .int 0), (5, .long 0), (3, .long 0), (0, .ref h0), (1, .long n)]) hx hb dX1_near_6 hl (by decide) rfl (fun ls hl => ?_)
  refine lv_iload hx hb dX1_near_8 (lv_at hl 0 rfl) ?_
  refine lv_iconst (v := 4) hx hb dX1_near_10 (by decide) ?_
  refine lv_icmp_ge (tgt := 72) hx hb dX1_near_11 (by decide) (fun c_1 => absurd c_1 (by decide)) (fun c_1 => ?_)
  refine lv_lload_n hx hb dX1_near_14 rfl (lv_at hl 2 rfl) ?_
  refine lv_aload_n hx hb dX1_near_15 rfl (lv_at hl 3 rfl) ?_
  refine lv_iload hx hb dX1_near_16 (lv_at hl 0 rfl) ?_
  refine k_calll (wr := []) (va_runV (As := [.int 0]) (rest := [.long 0]) ⟨hx, hb, hml, hown, hts⟩ (ct_X1_part hk l D ca H.size h0 0 v) (cwV 1 hts (lw_V q328 q262 q813 q20 q264) rfl rfl rfl (by decide +kernel) ⟨Nat.le_of_ble_eq_true rfl, Nat.le_of_ble_eq_true rfl⟩) (k_preV hk hK hN hP hD [] (by decide) rfl (hF0.keep hS nF0) (hF0.keep hS nF0) rfl (q0 := 0) rfl) rfl rfl hl.1 rfl (lv_room (Nat.le_of_ble_eq_true rfl)) dX1_near_18 ⟨Nat.le_of_ble_eq_true rfl, Nat.le_of_ble_eq_true rfl⟩) hP hD hS hA [] [] rfl rfl (by decide) (by decide) (fun r_2 u_3 H locs w_4 hP hD hxw_4 hzw_4 hqw_4 hS => ?_)
  obtain rfl : r_2 = v.1 := w_4
  refine lv_lload_n hx hb dX1_near_21 rfl (lv_at hl 4 rfl) ?_
  refine lv_aload_n hx hb dX1_near_22 rfl (lv_at hl 3 rfl) ?_
  refine lv_iload hx hb dX1_near_23 (lv_at hl 0 rfl) ?_
  refine k_calll (wr := []) (va_runV (As := [.int 0]) (rest := [.long n, .long v.1, .long 0]) ⟨hx, hb, hml, hown, hts⟩ (ct_X1_part hk l D ca H.size h0 0 v) (cwV 1 hts (lw_V q328 q262 q813 q20 q264) rfl rfl rfl (by decide +kernel) ⟨Nat.le_of_ble_eq_true rfl, Nat.le_of_ble_eq_true rfl⟩) (k_preV hk hK hN hP hD [] (by decide) rfl (hF0.keep hS nF0) (hF0.keep hS nF0) rfl (q0 := 0) rfl) rfl rfl hl.1 rfl (lv_room (Nat.le_of_ble_eq_true rfl)) dX1_near_25 ⟨Nat.le_of_ble_eq_true rfl, Nat.le_of_ble_eq_true rfl⟩) hP hD hS hA [] [] rfl rfl (by decide) (by decide) (fun r_5 u_6 H locs w_7 hP hD hxw_7 hzw_7 hqw_7 hS => ?_)
  obtain rfl : r_5 = v.1 := w_7
  refine lv_lload_n hx hb dX1_near_28 rfl (lv_at hl 4 rfl) ?_
  refine k_calll (wr := []) (va_runS (As := [.long v.1, .long n]) (rest := [.long n, .long v.1, .long 0]) ⟨hx, hb, hml, hown, hts⟩ (ct_X1_even hk l D ca H.size v.1 n hn) (va_cwS 2 hts (lw_S q435 q436 q20 q437) rfl rfl rfl (by decide +kernel) ⟨Nat.le_of_ble_eq_true rfl, Nat.le_of_ble_eq_true rfl⟩) (k_pre hk hK hN hP hD [] (by decide) rfl trivial) rfl rfl hl.1 rfl (lv_room (Nat.le_of_ble_eq_true rfl)) dX1_near_29 ⟨Nat.le_of_ble_eq_true rfl, Nat.le_of_ble_eq_true rfl⟩) hP hD hS hA [] [] rfl rfl (by decide) (by decide) (fun r_8 u_9 H locs w_10 hP hD hxw_10 hzw_10 hqw_10 hS => ?_)
  obtain rfl : r_8 = p_even v.1 n := w_10
  refine lv_lmul hx hb dX1_near_32 ?_
  refine lv_lsub hx hb dX1_near_33 ?_
  refine k_calll (wr := []) (va_runS (As := [.long (v.1 - (n * (p_even v.1 n)))]) (rest := [.long 0]) ⟨hx, hb, hml, hown, hts⟩ (ct_X1_squared hk l D ca H.size (v.1 - (n * (p_even v.1 n)))) (va_cwS 1 hts (lw_S q441 q442 q20 q443) rfl rfl rfl (by decide +kernel) ⟨Nat.le_of_ble_eq_true rfl, Nat.le_of_ble_eq_true rfl⟩) (k_pre hk hK hN hP hD [] (by decide) rfl trivial) rfl rfl hl.1 rfl (lv_room (Nat.le_of_ble_eq_true rfl)) dX1_near_34 ⟨Nat.le_of_ble_eq_true rfl, Nat.le_of_ble_eq_true rfl⟩) hP hD hS hA [] [] rfl rfl (by decide) (by decide) (fun r_11 u_12 H locs w_13 hP hD hxw_13 hzw_13 hqw_13 hS => ?_)
  obtain rfl : r_11 = (v.1 - (n * (p_even v.1 n))) * (v.1 - (n * (p_even v.1 n))) := w_13
  refine lv_ladd hx hb dX1_near_37 ?_
  refine lv_topl (fun wh_14 hwh_14 => ?_)
  refine lv_lstore_n (lv' := [(3, .long wh_14), (7, .int 0), (5, .long 0), (0, .ref h0), (1, .long n)]) hx hb dX1_near_38 rfl hl (by decide) rfl (fun ls hl => ?_)
  refine lv_lload hx hb dX1_near_39 (lv_at hl 2 rfl) ?_
  refine lv_aload_n hx hb dX1_near_41 rfl (lv_at hl 3 rfl) ?_
  refine lv_iload hx hb dX1_near_42 (lv_at hl 1 rfl) ?_
  refine k_calll (wr := []) (va_runV (As := [.int 0]) (rest := [.long 0]) ⟨hx, hb, hml, hown, hts⟩ (ct_X1_part hk l D ca H.size h0 0 v) (cwV 1 hts (lw_V q328 q262 q813 q20 q264) rfl rfl rfl (by decide +kernel) ⟨Nat.le_of_ble_eq_true rfl, Nat.le_of_ble_eq_true rfl⟩) (k_preV hk hK hN hP hD [] (by decide) rfl (hF0.keep hS nF0) (hF0.keep hS nF0) rfl (q0 := 0) rfl) rfl rfl hl.1 rfl (lv_room (Nat.le_of_ble_eq_true rfl)) dX1_near_44 ⟨Nat.le_of_ble_eq_true rfl, Nat.le_of_ble_eq_true rfl⟩) hP hD hS hA [] [] rfl rfl (by decide) (by decide) (fun r_15 u_16 H locs w_17 hP hD hxw_17 hzw_17 hqw_17 hS => ?_)
  obtain rfl : r_15 = v.1 := w_17
  refine lv_lload_n hx hb dX1_near_47 rfl (lv_at hl 4 rfl) ?_
  refine lv_aload_n hx hb dX1_near_48 rfl (lv_at hl 3 rfl) ?_
  refine lv_iload hx hb dX1_near_49 (lv_at hl 1 rfl) ?_
  refine k_calll (wr := []) (va_runV (As := [.int 0]) (rest := [.long n, .long v.1, .long 0]) ⟨hx, hb, hml, hown, hts⟩ (ct_X1_part hk l D ca H.size h0 0 v) (cwV 1 hts (lw_V q328 q262 q813 q20 q264) rfl rfl rfl (by decide +kernel) ⟨Nat.le_of_ble_eq_true rfl, Nat.le_of_ble_eq_true rfl⟩) (k_preV hk hK hN hP hD [] (by decide) rfl (hF0.keep hS nF0) (hF0.keep hS nF0) rfl (q0 := 0) rfl) rfl rfl hl.1 rfl (lv_room (Nat.le_of_ble_eq_true rfl)) dX1_near_51 ⟨Nat.le_of_ble_eq_true rfl, Nat.le_of_ble_eq_true rfl⟩) hP hD hS hA [] [] rfl rfl (by decide) (by decide) (fun r_18 u_19 H locs w_20 hP hD hxw_20 hzw_20 hqw_20 hS => ?_)
  obtain rfl : r_18 = v.1 := w_20
  refine lv_lload_n hx hb dX1_near_54 rfl (lv_at hl 4 rfl) ?_
  refine k_calll (wr := []) (va_runS (As := [.long v.1, .long n]) (rest := [.long n, .long v.1, .long 0]) ⟨hx, hb, hml, hown, hts⟩ (ct_X1_odd hk l D ca H.size v.1 n hn) (va_cwS 2 hts (lw_S q444 q445 q20 q446) rfl rfl rfl (by decide +kernel) ⟨Nat.le_of_ble_eq_true rfl, Nat.le_of_ble_eq_true rfl⟩) (k_pre hk hK hN hP hD [] (by decide) rfl trivial) rfl rfl hl.1 rfl (lv_room (Nat.le_of_ble_eq_true rfl)) dX1_near_55 ⟨Nat.le_of_ble_eq_true rfl, Nat.le_of_ble_eq_true rfl⟩) hP hD hS hA [] [] rfl rfl (by decide) (by decide) (fun r_21 u_22 H locs w_23 hP hD hxw_23 hzw_23 hqw_23 hS => ?_)
  obtain rfl : r_21 = p_odd v.1 n := w_23
  refine lv_lmul hx hb dX1_near_58 ?_
  refine lv_lsub hx hb dX1_near_59 ?_
  refine k_calll (wr := []) (va_runS (As := [.long (v.1 - (n * (p_odd v.1 n)))]) (rest := [.long 0]) ⟨hx, hb, hml, hown, hts⟩ (ct_X1_squared hk l D ca H.size (v.1 - (n * (p_odd v.1 n)))) (va_cwS 1 hts (lw_S q441 q442 q20 q443) rfl rfl rfl (by decide +kernel) ⟨Nat.le_of_ble_eq_true rfl, Nat.le_of_ble_eq_true rfl⟩) (k_pre hk hK hN hP hD [] (by decide) rfl trivial) rfl rfl hl.1 rfl (lv_room (Nat.le_of_ble_eq_true rfl)) dX1_near_60 ⟨Nat.le_of_ble_eq_true rfl, Nat.le_of_ble_eq_true rfl⟩) hP hD hS hA [] [] rfl rfl (by decide) (by decide) (fun r_24 u_25 H locs w_26 hP hD hxw_26 hzw_26 hqw_26 hS => ?_)
  obtain rfl : r_24 = (v.1 - (n * (p_odd v.1 n))) * (v.1 - (n * (p_odd v.1 n))) := w_26
  refine lv_ladd hx hb dX1_near_63 ?_
  refine lv_topl (fun ha_27 hha_27 => ?_)
  refine lv_lstore (lv' := [(5, .long ha_27), (3, .long wh_14), (7, .int 0), (0, .ref h0), (1, .long n)]) hx hb dX1_near_64 hl (by decide) rfl (fun ls hl => ?_)
  refine lv_iinc (v := 1) (lv' := [(7, .int 1), (5, .long ha_27), (3, .long wh_14), (0, .ref h0), (1, .long n)]) hx hb dX1_near_66 hl (k := 2) rfl (by decide) (by decide) rfl (fun ls hl => ?_)
  refine lv_goto (tgt := 8) hx hb dX1_near_69 (by decide) ?_
  refine lv_iload hx hb dX1_near_8 (lv_at hl 0 rfl) ?_
  refine lv_iconst (v := 4) hx hb dX1_near_10 (by decide) ?_
  refine lv_icmp_ge (tgt := 72) hx hb dX1_near_11 (by decide) (fun c_28 => absurd c_28 (by decide)) (fun c_28 => ?_)
  refine lv_lload_n hx hb dX1_near_14 rfl (lv_at hl 2 rfl) ?_
  refine lv_aload_n hx hb dX1_near_15 rfl (lv_at hl 3 rfl) ?_
  refine lv_iload hx hb dX1_near_16 (lv_at hl 0 rfl) ?_
  refine k_calll (wr := []) (va_runV (As := [.int 1]) (rest := [.long wh_14]) ⟨hx, hb, hml, hown, hts⟩ (ct_X1_part hk l D ca H.size h0 1 v) (cwV 1 hts (lw_V q328 q262 q813 q20 q264) rfl rfl rfl (by decide +kernel) ⟨Nat.le_of_ble_eq_true rfl, Nat.le_of_ble_eq_true rfl⟩) (k_preV hk hK hN hP hD [] (by decide) rfl (hF0.keep hS nF0) (hF0.keep hS nF0) rfl (q0 := 0) rfl) rfl rfl hl.1 rfl (lv_room (Nat.le_of_ble_eq_true rfl)) dX1_near_18 ⟨Nat.le_of_ble_eq_true rfl, Nat.le_of_ble_eq_true rfl⟩) hP hD hS hA [] [] rfl rfl (by decide) (by decide) (fun r_29 u_30 H locs w_31 hP hD hxw_31 hzw_31 hqw_31 hS => ?_)
  obtain rfl : r_29 = v.2.1 := w_31
  refine lv_lload_n hx hb dX1_near_21 rfl (lv_at hl 4 rfl) ?_
  refine lv_aload_n hx hb dX1_near_22 rfl (lv_at hl 3 rfl) ?_
  refine lv_iload hx hb dX1_near_23 (lv_at hl 0 rfl) ?_
  refine k_calll (wr := []) (va_runV (As := [.int 1]) (rest := [.long n, .long v.2.1, .long wh_14]) ⟨hx, hb, hml, hown, hts⟩ (ct_X1_part hk l D ca H.size h0 1 v) (cwV 1 hts (lw_V q328 q262 q813 q20 q264) rfl rfl rfl (by decide +kernel) ⟨Nat.le_of_ble_eq_true rfl, Nat.le_of_ble_eq_true rfl⟩) (k_preV hk hK hN hP hD [] (by decide) rfl (hF0.keep hS nF0) (hF0.keep hS nF0) rfl (q0 := 0) rfl) rfl rfl hl.1 rfl (lv_room (Nat.le_of_ble_eq_true rfl)) dX1_near_25 ⟨Nat.le_of_ble_eq_true rfl, Nat.le_of_ble_eq_true rfl⟩) hP hD hS hA [] [] rfl rfl (by decide) (by decide) (fun r_32 u_33 H locs w_34 hP hD hxw_34 hzw_34 hqw_34 hS => ?_)
  obtain rfl : r_32 = v.2.1 := w_34
  refine lv_lload_n hx hb dX1_near_28 rfl (lv_at hl 4 rfl) ?_
  refine k_calll (wr := []) (va_runS (As := [.long v.2.1, .long n]) (rest := [.long n, .long v.2.1, .long wh_14]) ⟨hx, hb, hml, hown, hts⟩ (ct_X1_even hk l D ca H.size v.2.1 n hn) (va_cwS 2 hts (lw_S q435 q436 q20 q437) rfl rfl rfl (by decide +kernel) ⟨Nat.le_of_ble_eq_true rfl, Nat.le_of_ble_eq_true rfl⟩) (k_pre hk hK hN hP hD [] (by decide) rfl trivial) rfl rfl hl.1 rfl (lv_room (Nat.le_of_ble_eq_true rfl)) dX1_near_29 ⟨Nat.le_of_ble_eq_true rfl, Nat.le_of_ble_eq_true rfl⟩) hP hD hS hA [] [] rfl rfl (by decide) (by decide) (fun r_35 u_36 H locs w_37 hP hD hxw_37 hzw_37 hqw_37 hS => ?_)
  obtain rfl : r_35 = p_even v.2.1 n := w_37
  refine lv_lmul hx hb dX1_near_32 ?_
  refine lv_lsub hx hb dX1_near_33 ?_
  refine k_calll (wr := []) (va_runS (As := [.long (v.2.1 - (n * (p_even v.2.1 n)))]) (rest := [.long wh_14]) ⟨hx, hb, hml, hown, hts⟩ (ct_X1_squared hk l D ca H.size (v.2.1 - (n * (p_even v.2.1 n)))) (va_cwS 1 hts (lw_S q441 q442 q20 q443) rfl rfl rfl (by decide +kernel) ⟨Nat.le_of_ble_eq_true rfl, Nat.le_of_ble_eq_true rfl⟩) (k_pre hk hK hN hP hD [] (by decide) rfl trivial) rfl rfl hl.1 rfl (lv_room (Nat.le_of_ble_eq_true rfl)) dX1_near_34 ⟨Nat.le_of_ble_eq_true rfl, Nat.le_of_ble_eq_true rfl⟩) hP hD hS hA [] [] rfl rfl (by decide) (by decide) (fun r_38 u_39 H locs w_40 hP hD hxw_40 hzw_40 hqw_40 hS => ?_)
  obtain rfl : r_38 = (v.2.1 - (n * (p_even v.2.1 n))) * (v.2.1 - (n * (p_even v.2.1 n))) := w_40
  refine lv_ladd hx hb dX1_near_37 ?_
  refine lv_topl (fun wh_41 hwh_41 => ?_)
  refine lv_lstore_n (lv' := [(3, .long wh_41), (7, .int 1), (5, .long ha_27), (0, .ref h0), (1, .long n)]) hx hb dX1_near_38 rfl hl (by decide) rfl (fun ls hl => ?_)
  refine lv_lload hx hb dX1_near_39 (lv_at hl 2 rfl) ?_
  refine lv_aload_n hx hb dX1_near_41 rfl (lv_at hl 3 rfl) ?_
  refine lv_iload hx hb dX1_near_42 (lv_at hl 1 rfl) ?_
  refine k_calll (wr := []) (va_runV (As := [.int 1]) (rest := [.long ha_27]) ⟨hx, hb, hml, hown, hts⟩ (ct_X1_part hk l D ca H.size h0 1 v) (cwV 1 hts (lw_V q328 q262 q813 q20 q264) rfl rfl rfl (by decide +kernel) ⟨Nat.le_of_ble_eq_true rfl, Nat.le_of_ble_eq_true rfl⟩) (k_preV hk hK hN hP hD [] (by decide) rfl (hF0.keep hS nF0) (hF0.keep hS nF0) rfl (q0 := 0) rfl) rfl rfl hl.1 rfl (lv_room (Nat.le_of_ble_eq_true rfl)) dX1_near_44 ⟨Nat.le_of_ble_eq_true rfl, Nat.le_of_ble_eq_true rfl⟩) hP hD hS hA [] [] rfl rfl (by decide) (by decide) (fun r_42 u_43 H locs w_44 hP hD hxw_44 hzw_44 hqw_44 hS => ?_)
  obtain rfl : r_42 = v.2.1 := w_44
  refine lv_lload_n hx hb dX1_near_47 rfl (lv_at hl 4 rfl) ?_
  refine lv_aload_n hx hb dX1_near_48 rfl (lv_at hl 3 rfl) ?_
  refine lv_iload hx hb dX1_near_49 (lv_at hl 1 rfl) ?_
  refine k_calll (wr := []) (va_runV (As := [.int 1]) (rest := [.long n, .long v.2.1, .long ha_27]) ⟨hx, hb, hml, hown, hts⟩ (ct_X1_part hk l D ca H.size h0 1 v) (cwV 1 hts (lw_V q328 q262 q813 q20 q264) rfl rfl rfl (by decide +kernel) ⟨Nat.le_of_ble_eq_true rfl, Nat.le_of_ble_eq_true rfl⟩) (k_preV hk hK hN hP hD [] (by decide) rfl (hF0.keep hS nF0) (hF0.keep hS nF0) rfl (q0 := 0) rfl) rfl rfl hl.1 rfl (lv_room (Nat.le_of_ble_eq_true rfl)) dX1_near_51 ⟨Nat.le_of_ble_eq_true rfl, Nat.le_of_ble_eq_true rfl⟩) hP hD hS hA [] [] rfl rfl (by decide) (by decide) (fun r_45 u_46 H locs w_47 hP hD hxw_47 hzw_47 hqw_47 hS => ?_)
  obtain rfl : r_45 = v.2.1 := w_47
  refine lv_lload_n hx hb dX1_near_54 rfl (lv_at hl 4 rfl) ?_
  refine k_calll (wr := []) (va_runS (As := [.long v.2.1, .long n]) (rest := [.long n, .long v.2.1, .long ha_27]) ⟨hx, hb, hml, hown, hts⟩ (ct_X1_odd hk l D ca H.size v.2.1 n hn) (va_cwS 2 hts (lw_S q444 q445 q20 q446) rfl rfl rfl (by decide +kernel) ⟨Nat.le_of_ble_eq_true rfl, Nat.le_of_ble_eq_true rfl⟩) (k_pre hk hK hN hP hD [] (by decide) rfl trivial) rfl rfl hl.1 rfl (lv_room (Nat.le_of_ble_eq_true rfl)) dX1_near_55 ⟨Nat.le_of_ble_eq_true rfl, Nat.le_of_ble_eq_true rfl⟩) hP hD hS hA [] [] rfl rfl (by decide) (by decide) (fun r_48 u_49 H locs w_50 hP hD hxw_50 hzw_50 hqw_50 hS => ?_)
  obtain rfl : r_48 = p_odd v.2.1 n := w_50
  refine lv_lmul hx hb dX1_near_58 ?_
  refine lv_lsub hx hb dX1_near_59 ?_
  refine k_calll (wr := []) (va_runS (As := [.long (v.2.1 - (n * (p_odd v.2.1 n)))]) (rest := [.long ha_27]) ⟨hx, hb, hml, hown, hts⟩ (ct_X1_squared hk l D ca H.size (v.2.1 - (n * (p_odd v.2.1 n)))) (va_cwS 1 hts (lw_S q441 q442 q20 q443) rfl rfl rfl (by decide +kernel) ⟨Nat.le_of_ble_eq_true rfl, Nat.le_of_ble_eq_true rfl⟩) (k_pre hk hK hN hP hD [] (by decide) rfl trivial) rfl rfl hl.1 rfl (lv_room (Nat.le_of_ble_eq_true rfl)) dX1_near_60 ⟨Nat.le_of_ble_eq_true rfl, Nat.le_of_ble_eq_true rfl⟩) hP hD hS hA [] [] rfl rfl (by decide) (by decide) (fun r_51 u_52 H locs w_53 hP hD hxw_53 hzw_53 hqw_53 hS => ?_)
  obtain rfl : r_51 = (v.2.1 - (n * (p_odd v.2.1 n))) * (v.2.1 - (n * (p_odd v.2.1 n))) := w_53
  refine lv_ladd hx hb dX1_near_63 ?_
  refine lv_topl (fun ha_54 hha_54 => ?_)
  refine lv_lstore (lv' := [(5, .long ha_54), (3, .long wh_41), (7, .int 1), (0, .ref h0), (1, .long n)]) hx hb dX1_near_64 hl (by decide) rfl (fun ls hl => ?_)
  refine lv_iinc (v := 2) (lv' := [(7, .int 2), (5, .long ha_54), (3, .long wh_41), (0, .ref h0), (1, .long n)]) hx hb dX1_near_66 hl (k := 2) rfl (by decide) (by decide) rfl (fun ls hl => ?_)
  refine lv_goto (tgt := 8) hx hb dX1_near_69 (by decide) ?_
  refine lv_iload hx hb dX1_near_8 (lv_at hl 0 rfl) ?_
  refine lv_iconst (v := 4) hx hb dX1_near_10 (by decide) ?_
  refine lv_icmp_ge (tgt := 72) hx hb dX1_near_11 (by decide) (fun c_55 => absurd c_55 (by decide)) (fun c_55 => ?_)
  refine lv_lload_n hx hb dX1_near_14 rfl (lv_at hl 2 rfl) ?_
  refine lv_aload_n hx hb dX1_near_15 rfl (lv_at hl 3 rfl) ?_
  refine lv_iload hx hb dX1_near_16 (lv_at hl 0 rfl) ?_
  refine k_calll (wr := []) (va_runV (As := [.int 2]) (rest := [.long wh_41]) ⟨hx, hb, hml, hown, hts⟩ (ct_X1_part hk l D ca H.size h0 2 v) (cwV 1 hts (lw_V q328 q262 q813 q20 q264) rfl rfl rfl (by decide +kernel) ⟨Nat.le_of_ble_eq_true rfl, Nat.le_of_ble_eq_true rfl⟩) (k_preV hk hK hN hP hD [] (by decide) rfl (hF0.keep hS nF0) (hF0.keep hS nF0) rfl (q0 := 0) rfl) rfl rfl hl.1 rfl (lv_room (Nat.le_of_ble_eq_true rfl)) dX1_near_18 ⟨Nat.le_of_ble_eq_true rfl, Nat.le_of_ble_eq_true rfl⟩) hP hD hS hA [] [] rfl rfl (by decide) (by decide) (fun r_56 u_57 H locs w_58 hP hD hxw_58 hzw_58 hqw_58 hS => ?_)
  obtain rfl : r_56 = v.2.2.1 := w_58
  refine lv_lload_n hx hb dX1_near_21 rfl (lv_at hl 4 rfl) ?_
  refine lv_aload_n hx hb dX1_near_22 rfl (lv_at hl 3 rfl) ?_
  refine lv_iload hx hb dX1_near_23 (lv_at hl 0 rfl) ?_
  refine k_calll (wr := []) (va_runV (As := [.int 2]) (rest := [.long n, .long v.2.2.1, .long wh_41]) ⟨hx, hb, hml, hown, hts⟩ (ct_X1_part hk l D ca H.size h0 2 v) (cwV 1 hts (lw_V q328 q262 q813 q20 q264) rfl rfl rfl (by decide +kernel) ⟨Nat.le_of_ble_eq_true rfl, Nat.le_of_ble_eq_true rfl⟩) (k_preV hk hK hN hP hD [] (by decide) rfl (hF0.keep hS nF0) (hF0.keep hS nF0) rfl (q0 := 0) rfl) rfl rfl hl.1 rfl (lv_room (Nat.le_of_ble_eq_true rfl)) dX1_near_25 ⟨Nat.le_of_ble_eq_true rfl, Nat.le_of_ble_eq_true rfl⟩) hP hD hS hA [] [] rfl rfl (by decide) (by decide) (fun r_59 u_60 H locs w_61 hP hD hxw_61 hzw_61 hqw_61 hS => ?_)
  obtain rfl : r_59 = v.2.2.1 := w_61
  refine lv_lload_n hx hb dX1_near_28 rfl (lv_at hl 4 rfl) ?_
  refine k_calll (wr := []) (va_runS (As := [.long v.2.2.1, .long n]) (rest := [.long n, .long v.2.2.1, .long wh_41]) ⟨hx, hb, hml, hown, hts⟩ (ct_X1_even hk l D ca H.size v.2.2.1 n hn) (va_cwS 2 hts (lw_S q435 q436 q20 q437) rfl rfl rfl (by decide +kernel) ⟨Nat.le_of_ble_eq_true rfl, Nat.le_of_ble_eq_true rfl⟩) (k_pre hk hK hN hP hD [] (by decide) rfl trivial) rfl rfl hl.1 rfl (lv_room (Nat.le_of_ble_eq_true rfl)) dX1_near_29 ⟨Nat.le_of_ble_eq_true rfl, Nat.le_of_ble_eq_true rfl⟩) hP hD hS hA [] [] rfl rfl (by decide) (by decide) (fun r_62 u_63 H locs w_64 hP hD hxw_64 hzw_64 hqw_64 hS => ?_)
  obtain rfl : r_62 = p_even v.2.2.1 n := w_64
  refine lv_lmul hx hb dX1_near_32 ?_
  refine lv_lsub hx hb dX1_near_33 ?_
  refine k_calll (wr := []) (va_runS (As := [.long (v.2.2.1 - (n * (p_even v.2.2.1 n)))]) (rest := [.long wh_41]) ⟨hx, hb, hml, hown, hts⟩ (ct_X1_squared hk l D ca H.size (v.2.2.1 - (n * (p_even v.2.2.1 n)))) (va_cwS 1 hts (lw_S q441 q442 q20 q443) rfl rfl rfl (by decide +kernel) ⟨Nat.le_of_ble_eq_true rfl, Nat.le_of_ble_eq_true rfl⟩) (k_pre hk hK hN hP hD [] (by decide) rfl trivial) rfl rfl hl.1 rfl (lv_room (Nat.le_of_ble_eq_true rfl)) dX1_near_34 ⟨Nat.le_of_ble_eq_true rfl, Nat.le_of_ble_eq_true rfl⟩) hP hD hS hA [] [] rfl rfl (by decide) (by decide) (fun r_65 u_66 H locs w_67 hP hD hxw_67 hzw_67 hqw_67 hS => ?_)
  obtain rfl : r_65 = (v.2.2.1 - (n * (p_even v.2.2.1 n))) * (v.2.2.1 - (n * (p_even v.2.2.1 n))) := w_67
  refine lv_ladd hx hb dX1_near_37 ?_
  refine lv_topl (fun wh_68 hwh_68 => ?_)
  refine lv_lstore_n (lv' := [(3, .long wh_68), (7, .int 2), (5, .long ha_54), (0, .ref h0), (1, .long n)]) hx hb dX1_near_38 rfl hl (by decide) rfl (fun ls hl => ?_)
  refine lv_lload hx hb dX1_near_39 (lv_at hl 2 rfl) ?_
  refine lv_aload_n hx hb dX1_near_41 rfl (lv_at hl 3 rfl) ?_
  refine lv_iload hx hb dX1_near_42 (lv_at hl 1 rfl) ?_
  refine k_calll (wr := []) (va_runV (As := [.int 2]) (rest := [.long ha_54]) ⟨hx, hb, hml, hown, hts⟩ (ct_X1_part hk l D ca H.size h0 2 v) (cwV 1 hts (lw_V q328 q262 q813 q20 q264) rfl rfl rfl (by decide +kernel) ⟨Nat.le_of_ble_eq_true rfl, Nat.le_of_ble_eq_true rfl⟩) (k_preV hk hK hN hP hD [] (by decide) rfl (hF0.keep hS nF0) (hF0.keep hS nF0) rfl (q0 := 0) rfl) rfl rfl hl.1 rfl (lv_room (Nat.le_of_ble_eq_true rfl)) dX1_near_44 ⟨Nat.le_of_ble_eq_true rfl, Nat.le_of_ble_eq_true rfl⟩) hP hD hS hA [] [] rfl rfl (by decide) (by decide) (fun r_69 u_70 H locs w_71 hP hD hxw_71 hzw_71 hqw_71 hS => ?_)
  obtain rfl : r_69 = v.2.2.1 := w_71
  refine lv_lload_n hx hb dX1_near_47 rfl (lv_at hl 4 rfl) ?_
  refine lv_aload_n hx hb dX1_near_48 rfl (lv_at hl 3 rfl) ?_
  refine lv_iload hx hb dX1_near_49 (lv_at hl 1 rfl) ?_
  refine k_calll (wr := []) (va_runV (As := [.int 2]) (rest := [.long n, .long v.2.2.1, .long ha_54]) ⟨hx, hb, hml, hown, hts⟩ (ct_X1_part hk l D ca H.size h0 2 v) (cwV 1 hts (lw_V q328 q262 q813 q20 q264) rfl rfl rfl (by decide +kernel) ⟨Nat.le_of_ble_eq_true rfl, Nat.le_of_ble_eq_true rfl⟩) (k_preV hk hK hN hP hD [] (by decide) rfl (hF0.keep hS nF0) (hF0.keep hS nF0) rfl (q0 := 0) rfl) rfl rfl hl.1 rfl (lv_room (Nat.le_of_ble_eq_true rfl)) dX1_near_51 ⟨Nat.le_of_ble_eq_true rfl, Nat.le_of_ble_eq_true rfl⟩) hP hD hS hA [] [] rfl rfl (by decide) (by decide) (fun r_72 u_73 H locs w_74 hP hD hxw_74 hzw_74 hqw_74 hS => ?_)
  obtain rfl : r_72 = v.2.2.1 := w_74
  refine lv_lload_n hx hb dX1_near_54 rfl (lv_at hl 4 rfl) ?_
  refine k_calll (wr := []) (va_runS (As := [.long v.2.2.1, .long n]) (rest := [.long n, .long v.2.2.1, .long ha_54]) ⟨hx, hb, hml, hown, hts⟩ (ct_X1_odd hk l D ca H.size v.2.2.1 n hn) (va_cwS 2 hts (lw_S q444 q445 q20 q446) rfl rfl rfl (by decide +kernel) ⟨Nat.le_of_ble_eq_true rfl, Nat.le_of_ble_eq_true rfl⟩) (k_pre hk hK hN hP hD [] (by decide) rfl trivial) rfl rfl hl.1 rfl (lv_room (Nat.le_of_ble_eq_true rfl)) dX1_near_55 ⟨Nat.le_of_ble_eq_true rfl, Nat.le_of_ble_eq_true rfl⟩) hP hD hS hA [] [] rfl rfl (by decide) (by decide) (fun r_75 u_76 H locs w_77 hP hD hxw_77 hzw_77 hqw_77 hS => ?_)
  obtain rfl : r_75 = p_odd v.2.2.1 n := w_77
  refine lv_lmul hx hb dX1_near_58 ?_
  refine lv_lsub hx hb dX1_near_59 ?_
  refine k_calll (wr := []) (va_runS (As := [.long (v.2.2.1 - (n * (p_odd v.2.2.1 n)))]) (rest := [.long ha_54]) ⟨hx, hb, hml, hown, hts⟩ (ct_X1_squared hk l D ca H.size (v.2.2.1 - (n * (p_odd v.2.2.1 n)))) (va_cwS 1 hts (lw_S q441 q442 q20 q443) rfl rfl rfl (by decide +kernel) ⟨Nat.le_of_ble_eq_true rfl, Nat.le_of_ble_eq_true rfl⟩) (k_pre hk hK hN hP hD [] (by decide) rfl trivial) rfl rfl hl.1 rfl (lv_room (Nat.le_of_ble_eq_true rfl)) dX1_near_60 ⟨Nat.le_of_ble_eq_true rfl, Nat.le_of_ble_eq_true rfl⟩) hP hD hS hA [] [] rfl rfl (by decide) (by decide) (fun r_78 u_79 H locs w_80 hP hD hxw_80 hzw_80 hqw_80 hS => ?_)
  obtain rfl : r_78 = (v.2.2.1 - (n * (p_odd v.2.2.1 n))) * (v.2.2.1 - (n * (p_odd v.2.2.1 n))) := w_80
  refine lv_ladd hx hb dX1_near_63 ?_
  refine lv_topl (fun ha_81 hha_81 => ?_)
  refine lv_lstore (lv' := [(5, .long ha_81), (3, .long wh_68), (7, .int 2), (0, .ref h0), (1, .long n)]) hx hb dX1_near_64 hl (by decide) rfl (fun ls hl => ?_)
  refine lv_iinc (v := 3) (lv' := [(7, .int 3), (5, .long ha_81), (3, .long wh_68), (0, .ref h0), (1, .long n)]) hx hb dX1_near_66 hl (k := 2) rfl (by decide) (by decide) rfl (fun ls hl => ?_)
  refine lv_goto (tgt := 8) hx hb dX1_near_69 (by decide) ?_
  refine lv_iload hx hb dX1_near_8 (lv_at hl 0 rfl) ?_
  refine lv_iconst (v := 4) hx hb dX1_near_10 (by decide) ?_
  refine lv_icmp_ge (tgt := 72) hx hb dX1_near_11 (by decide) (fun c_82 => absurd c_82 (by decide)) (fun c_82 => ?_)
  refine lv_lload_n hx hb dX1_near_14 rfl (lv_at hl 2 rfl) ?_
  refine lv_aload_n hx hb dX1_near_15 rfl (lv_at hl 3 rfl) ?_
  refine lv_iload hx hb dX1_near_16 (lv_at hl 0 rfl) ?_
  refine k_calll (wr := []) (va_runV (As := [.int 3]) (rest := [.long wh_68]) ⟨hx, hb, hml, hown, hts⟩ (ct_X1_part hk l D ca H.size h0 3 v) (cwV 1 hts (lw_V q328 q262 q813 q20 q264) rfl rfl rfl (by decide +kernel) ⟨Nat.le_of_ble_eq_true rfl, Nat.le_of_ble_eq_true rfl⟩) (k_preV hk hK hN hP hD [] (by decide) rfl (hF0.keep hS nF0) (hF0.keep hS nF0) rfl (q0 := 0) rfl) rfl rfl hl.1 rfl (lv_room (Nat.le_of_ble_eq_true rfl)) dX1_near_18 ⟨Nat.le_of_ble_eq_true rfl, Nat.le_of_ble_eq_true rfl⟩) hP hD hS hA [] [] rfl rfl (by decide) (by decide) (fun r_83 u_84 H locs w_85 hP hD hxw_85 hzw_85 hqw_85 hS => ?_)
  obtain rfl : r_83 = v.2.2.2 := w_85
  refine lv_lload_n hx hb dX1_near_21 rfl (lv_at hl 4 rfl) ?_
  refine lv_aload_n hx hb dX1_near_22 rfl (lv_at hl 3 rfl) ?_
  refine lv_iload hx hb dX1_near_23 (lv_at hl 0 rfl) ?_
  refine k_calll (wr := []) (va_runV (As := [.int 3]) (rest := [.long n, .long v.2.2.2, .long wh_68]) ⟨hx, hb, hml, hown, hts⟩ (ct_X1_part hk l D ca H.size h0 3 v) (cwV 1 hts (lw_V q328 q262 q813 q20 q264) rfl rfl rfl (by decide +kernel) ⟨Nat.le_of_ble_eq_true rfl, Nat.le_of_ble_eq_true rfl⟩) (k_preV hk hK hN hP hD [] (by decide) rfl (hF0.keep hS nF0) (hF0.keep hS nF0) rfl (q0 := 0) rfl) rfl rfl hl.1 rfl (lv_room (Nat.le_of_ble_eq_true rfl)) dX1_near_25 ⟨Nat.le_of_ble_eq_true rfl, Nat.le_of_ble_eq_true rfl⟩) hP hD hS hA [] [] rfl rfl (by decide) (by decide) (fun r_86 u_87 H locs w_88 hP hD hxw_88 hzw_88 hqw_88 hS => ?_)
  obtain rfl : r_86 = v.2.2.2 := w_88
  refine lv_lload_n hx hb dX1_near_28 rfl (lv_at hl 4 rfl) ?_
  refine k_calll (wr := []) (va_runS (As := [.long v.2.2.2, .long n]) (rest := [.long n, .long v.2.2.2, .long wh_68]) ⟨hx, hb, hml, hown, hts⟩ (ct_X1_even hk l D ca H.size v.2.2.2 n hn) (va_cwS 2 hts (lw_S q435 q436 q20 q437) rfl rfl rfl (by decide +kernel) ⟨Nat.le_of_ble_eq_true rfl, Nat.le_of_ble_eq_true rfl⟩) (k_pre hk hK hN hP hD [] (by decide) rfl trivial) rfl rfl hl.1 rfl (lv_room (Nat.le_of_ble_eq_true rfl)) dX1_near_29 ⟨Nat.le_of_ble_eq_true rfl, Nat.le_of_ble_eq_true rfl⟩) hP hD hS hA [] [] rfl rfl (by decide) (by decide) (fun r_89 u_90 H locs w_91 hP hD hxw_91 hzw_91 hqw_91 hS => ?_)
  obtain rfl : r_89 = p_even v.2.2.2 n := w_91
  refine lv_lmul hx hb dX1_near_32 ?_
  refine lv_lsub hx hb dX1_near_33 ?_
  refine k_calll (wr := []) (va_runS (As := [.long (v.2.2.2 - (n * (p_even v.2.2.2 n)))]) (rest := [.long wh_68]) ⟨hx, hb, hml, hown, hts⟩ (ct_X1_squared hk l D ca H.size (v.2.2.2 - (n * (p_even v.2.2.2 n)))) (va_cwS 1 hts (lw_S q441 q442 q20 q443) rfl rfl rfl (by decide +kernel) ⟨Nat.le_of_ble_eq_true rfl, Nat.le_of_ble_eq_true rfl⟩) (k_pre hk hK hN hP hD [] (by decide) rfl trivial) rfl rfl hl.1 rfl (lv_room (Nat.le_of_ble_eq_true rfl)) dX1_near_34 ⟨Nat.le_of_ble_eq_true rfl, Nat.le_of_ble_eq_true rfl⟩) hP hD hS hA [] [] rfl rfl (by decide) (by decide) (fun r_92 u_93 H locs w_94 hP hD hxw_94 hzw_94 hqw_94 hS => ?_)
  obtain rfl : r_92 = (v.2.2.2 - (n * (p_even v.2.2.2 n))) * (v.2.2.2 - (n * (p_even v.2.2.2 n))) := w_94
  refine lv_ladd hx hb dX1_near_37 ?_
  refine lv_topl (fun wh_95 hwh_95 => ?_)
  refine lv_lstore_n (lv' := [(3, .long wh_95), (7, .int 3), (5, .long ha_81), (0, .ref h0), (1, .long n)]) hx hb dX1_near_38 rfl hl (by decide) rfl (fun ls hl => ?_)
  refine lv_lload hx hb dX1_near_39 (lv_at hl 2 rfl) ?_
  refine lv_aload_n hx hb dX1_near_41 rfl (lv_at hl 3 rfl) ?_
  refine lv_iload hx hb dX1_near_42 (lv_at hl 1 rfl) ?_
  refine k_calll (wr := []) (va_runV (As := [.int 3]) (rest := [.long ha_81]) ⟨hx, hb, hml, hown, hts⟩ (ct_X1_part hk l D ca H.size h0 3 v) (cwV 1 hts (lw_V q328 q262 q813 q20 q264) rfl rfl rfl (by decide +kernel) ⟨Nat.le_of_ble_eq_true rfl, Nat.le_of_ble_eq_true rfl⟩) (k_preV hk hK hN hP hD [] (by decide) rfl (hF0.keep hS nF0) (hF0.keep hS nF0) rfl (q0 := 0) rfl) rfl rfl hl.1 rfl (lv_room (Nat.le_of_ble_eq_true rfl)) dX1_near_44 ⟨Nat.le_of_ble_eq_true rfl, Nat.le_of_ble_eq_true rfl⟩) hP hD hS hA [] [] rfl rfl (by decide) (by decide) (fun r_96 u_97 H locs w_98 hP hD hxw_98 hzw_98 hqw_98 hS => ?_)
  obtain rfl : r_96 = v.2.2.2 := w_98
  refine lv_lload_n hx hb dX1_near_47 rfl (lv_at hl 4 rfl) ?_
  refine lv_aload_n hx hb dX1_near_48 rfl (lv_at hl 3 rfl) ?_
  refine lv_iload hx hb dX1_near_49 (lv_at hl 1 rfl) ?_
  refine k_calll (wr := []) (va_runV (As := [.int 3]) (rest := [.long n, .long v.2.2.2, .long ha_81]) ⟨hx, hb, hml, hown, hts⟩ (ct_X1_part hk l D ca H.size h0 3 v) (cwV 1 hts (lw_V q328 q262 q813 q20 q264) rfl rfl rfl (by decide +kernel) ⟨Nat.le_of_ble_eq_true rfl, Nat.le_of_ble_eq_true rfl⟩) (k_preV hk hK hN hP hD [] (by decide) rfl (hF0.keep hS nF0) (hF0.keep hS nF0) rfl (q0 := 0) rfl) rfl rfl hl.1 rfl (lv_room (Nat.le_of_ble_eq_true rfl)) dX1_near_51 ⟨Nat.le_of_ble_eq_true rfl, Nat.le_of_ble_eq_true rfl⟩) hP hD hS hA [] [] rfl rfl (by decide) (by decide) (fun r_99 u_100 H locs w_101 hP hD hxw_101 hzw_101 hqw_101 hS => ?_)
  obtain rfl : r_99 = v.2.2.2 := w_101
  refine lv_lload_n hx hb dX1_near_54 rfl (lv_at hl 4 rfl) ?_
  refine k_calll (wr := []) (va_runS (As := [.long v.2.2.2, .long n]) (rest := [.long n, .long v.2.2.2, .long ha_81]) ⟨hx, hb, hml, hown, hts⟩ (ct_X1_odd hk l D ca H.size v.2.2.2 n hn) (va_cwS 2 hts (lw_S q444 q445 q20 q446) rfl rfl rfl (by decide +kernel) ⟨Nat.le_of_ble_eq_true rfl, Nat.le_of_ble_eq_true rfl⟩) (k_pre hk hK hN hP hD [] (by decide) rfl trivial) rfl rfl hl.1 rfl (lv_room (Nat.le_of_ble_eq_true rfl)) dX1_near_55 ⟨Nat.le_of_ble_eq_true rfl, Nat.le_of_ble_eq_true rfl⟩) hP hD hS hA [] [] rfl rfl (by decide) (by decide) (fun r_102 u_103 H locs w_104 hP hD hxw_104 hzw_104 hqw_104 hS => ?_)
  obtain rfl : r_102 = p_odd v.2.2.2 n := w_104
  refine lv_lmul hx hb dX1_near_58 ?_
  refine lv_lsub hx hb dX1_near_59 ?_
  refine k_calll (wr := []) (va_runS (As := [.long (v.2.2.2 - (n * (p_odd v.2.2.2 n)))]) (rest := [.long ha_81]) ⟨hx, hb, hml, hown, hts⟩ (ct_X1_squared hk l D ca H.size (v.2.2.2 - (n * (p_odd v.2.2.2 n)))) (va_cwS 1 hts (lw_S q441 q442 q20 q443) rfl rfl rfl (by decide +kernel) ⟨Nat.le_of_ble_eq_true rfl, Nat.le_of_ble_eq_true rfl⟩) (k_pre hk hK hN hP hD [] (by decide) rfl trivial) rfl rfl hl.1 rfl (lv_room (Nat.le_of_ble_eq_true rfl)) dX1_near_60 ⟨Nat.le_of_ble_eq_true rfl, Nat.le_of_ble_eq_true rfl⟩) hP hD hS hA [] [] rfl rfl (by decide) (by decide) (fun r_105 u_106 H locs w_107 hP hD hxw_107 hzw_107 hqw_107 hS => ?_)
  obtain rfl : r_105 = (v.2.2.2 - (n * (p_odd v.2.2.2 n))) * (v.2.2.2 - (n * (p_odd v.2.2.2 n))) := w_107
  refine lv_ladd hx hb dX1_near_63 ?_
  refine lv_topl (fun ha_108 hha_108 => ?_)
  refine lv_lstore (lv' := [(5, .long ha_108), (3, .long wh_95), (7, .int 3), (0, .ref h0), (1, .long n)]) hx hb dX1_near_64 hl (by decide) rfl (fun ls hl => ?_)
  refine lv_iinc (v := 4) (lv' := [(7, .int 4), (5, .long ha_108), (3, .long wh_95), (0, .ref h0), (1, .long n)]) hx hb dX1_near_66 hl (k := 2) rfl (by decide) (by decide) rfl (fun ls hl => ?_)
  refine lv_goto (tgt := 8) hx hb dX1_near_69 (by decide) ?_
  refine lv_iload hx hb dX1_near_8 (lv_at hl 0 rfl) ?_
  refine lv_iconst (v := 4) hx hb dX1_near_10 (by decide) ?_
  refine lv_icmp_ge (tgt := 72) hx hb dX1_near_11 (by decide) (fun c_109 => ?_) (fun c_109 => absurd (by decide) c_109)
  refine lv_lload_n hx hb dX1_near_72 rfl (lv_at hl 2 rfl) ?_
  refine lv_lload hx hb dX1_near_73 (lv_at hl 1 rfl) ?_
  refine k_lc_gt (tgt := 121) hx hb dX1_near_75 dX1_near_76 (by decide) (fun c_110 => ?_) (fun c_110 => ?_)
  · refine va_new (ci := 1) (fs := [.long 0, .long 0, .long 0, .long 0]) (C := RX1) (T := TX1) (N := 4) hx hb hts in_X1 tyX1 tyX1_ok hown (hts _ q389) (hts _ q228) (hts _ q20) hK hP hD hS hA rfl (fun j hj => by rcases (show j = 0 ∨ j = 1 ∨ j = 2 ∨ j = 3 by omega) with rfl | rfl | rfl | rfl <;> rfl) (Nat.le_of_ble_eq_true rfl) (Nat.le_of_ble_eq_true rfl) dX1_near_121 (fun q_111 H hP hD hS => ?_)
    have hP : va_P D vwCl [(q_111, .inr (1, [.long 0, .long 0, .long 0, .long 0]))] H := hP
    have hD : va_D A [(q_111, .inr (1, [.long 0, .long 0, .long 0, .long 0]))] := hD
    refine lv_dup hx hb dX1_near_124 rfl ?_
    refine lv_aload_n hx hb dX1_near_125 rfl (lv_at hl 3 rfl) ?_
    refine va_get (D := D) (ci := 1) (v := .long v.1) (C := RX1) (T := TX1) (N := 4) hx hb hts in_X1 hown hK (hF0.keep hS nF0) 0 rfl rfl 0 (by decide) (hts _ q233) (fun _ h9 => h9) rfl dX1_near_126 ?_
    refine lv_lload_n hx hb dX1_near_129 rfl (lv_at hl 4 rfl) ?_
    refine k_calll (wr := [(q_111, .inr (1, [.long 0, .long 0, .long 0, .long 0]))]) (va_runS (As := [.long v.1, .long n]) (rest := [.ref q_111, .ref q_111]) ⟨hx, hb, hml, hown, hts⟩ (ct_X1_odd hk l D ca H.size v.1 n hn) (va_cwS 2 hts (lw_S q444 q445 q20 q446) rfl rfl rfl (by decide +kernel) ⟨Nat.le_of_ble_eq_true rfl, Nat.le_of_ble_eq_true rfl⟩) (k_pre hk hK hN hP hD [] (by decide) rfl trivial) rfl rfl hl.1 rfl (lv_room (Nat.le_of_ble_eq_true rfl)) dX1_near_130 ⟨Nat.le_of_ble_eq_true rfl, Nat.le_of_ble_eq_true rfl⟩) hP hD hS hA [] [0] rfl rfl (by decide) (by decide) (fun r_112 u_113 H locs w_114 hP hD hxw_114 hzw_114 hqw_114 hS => ?_)
    obtain rfl : r_112 = p_odd v.1 n := w_114
    refine lv_aload_n hx hb dX1_near_133 rfl (lv_at hl 3 rfl) ?_
    refine va_get (D := D) (ci := 1) (v := .long v.2.1) (C := RX1) (T := TX1) (N := 4) hx hb hts in_X1 hown hK (hF0.keep hS nF0) 0 rfl rfl 1 (by decide) (hts _ q235) (fun _ h9 => h9) rfl dX1_near_134 ?_
    refine lv_lload_n hx hb dX1_near_137 rfl (lv_at hl 4 rfl) ?_
    refine k_calll (wr := [(q_111, .inr (1, [.long 0, .long 0, .long 0, .long 0]))]) (va_runS (As := [.long v.2.1, .long n]) (rest := [.long (p_odd v.1 n), .ref q_111, .ref q_111]) ⟨hx, hb, hml, hown, hts⟩ (ct_X1_odd hk l D ca H.size v.2.1 n hn) (va_cwS 2 hts (lw_S q444 q445 q20 q446) rfl rfl rfl (by decide +kernel) ⟨Nat.le_of_ble_eq_true rfl, Nat.le_of_ble_eq_true rfl⟩) (k_pre hk hK hN hP hD [] (by decide) rfl trivial) rfl rfl hl.1 rfl (lv_room (Nat.le_of_ble_eq_true rfl)) dX1_near_138 ⟨Nat.le_of_ble_eq_true rfl, Nat.le_of_ble_eq_true rfl⟩) hP hD hS hA [] [0] rfl rfl (by decide) (by decide) (fun r_115 u_116 H locs w_117 hP hD hxw_117 hzw_117 hqw_117 hS => ?_)
    obtain rfl : r_115 = p_odd v.2.1 n := w_117
    refine lv_aload_n hx hb dX1_near_141 rfl (lv_at hl 3 rfl) ?_
    refine va_get (D := D) (ci := 1) (v := .long v.2.2.1) (C := RX1) (T := TX1) (N := 4) hx hb hts in_X1 hown hK (hF0.keep hS nF0) 0 rfl rfl 2 (by decide) (hts _ q237) (fun _ h9 => h9) rfl dX1_near_142 ?_
    refine lv_lload_n hx hb dX1_near_145 rfl (lv_at hl 4 rfl) ?_
    refine k_calll (wr := [(q_111, .inr (1, [.long 0, .long 0, .long 0, .long 0]))]) (va_runS (As := [.long v.2.2.1, .long n]) (rest := [.long (p_odd v.2.1 n), .long (p_odd v.1 n), .ref q_111, .ref q_111]) ⟨hx, hb, hml, hown, hts⟩ (ct_X1_odd hk l D ca H.size v.2.2.1 n hn) (va_cwS 2 hts (lw_S q444 q445 q20 q446) rfl rfl rfl (by decide +kernel) ⟨Nat.le_of_ble_eq_true rfl, Nat.le_of_ble_eq_true rfl⟩) (k_pre hk hK hN hP hD [] (by decide) rfl trivial) rfl rfl hl.1 rfl (lv_room (Nat.le_of_ble_eq_true rfl)) dX1_near_146 ⟨Nat.le_of_ble_eq_true rfl, Nat.le_of_ble_eq_true rfl⟩) hP hD hS hA [] [0] rfl rfl (by decide) (by decide) (fun r_118 u_119 H locs w_120 hP hD hxw_120 hzw_120 hqw_120 hS => ?_)
    obtain rfl : r_118 = p_odd v.2.2.1 n := w_120
    refine lv_aload_n hx hb dX1_near_149 rfl (lv_at hl 3 rfl) ?_
    refine va_get (D := D) (ci := 1) (v := .long v.2.2.2) (C := RX1) (T := TX1) (N := 4) hx hb hts in_X1 hown hK (hF0.keep hS nF0) 0 rfl rfl 3 (by decide) (hts _ q239) (fun _ h9 => h9) rfl dX1_near_150 ?_
    refine lv_lload_n hx hb dX1_near_153 rfl (lv_at hl 4 rfl) ?_
    refine k_calll (wr := [(q_111, .inr (1, [.long 0, .long 0, .long 0, .long 0]))]) (va_runS (As := [.long v.2.2.2, .long n]) (rest := [.long (p_odd v.2.2.1 n), .long (p_odd v.2.1 n), .long (p_odd v.1 n), .ref q_111, .ref q_111]) ⟨hx, hb, hml, hown, hts⟩ (ct_X1_odd hk l D ca H.size v.2.2.2 n hn) (va_cwS 2 hts (lw_S q444 q445 q20 q446) rfl rfl rfl (by decide +kernel) ⟨Nat.le_of_ble_eq_true rfl, Nat.le_of_ble_eq_true rfl⟩) (k_pre hk hK hN hP hD [] (by decide) rfl trivial) rfl rfl hl.1 rfl (lv_room (Nat.le_of_ble_eq_true rfl)) dX1_near_154 ⟨Nat.le_of_ble_eq_true rfl, Nat.le_of_ble_eq_true rfl⟩) hP hD hS hA [] [0] rfl rfl (by decide) (by decide) (fun r_121 u_122 H locs w_123 hP hD hxw_123 hzw_123 hqw_123 hS => ?_)
    obtain rfl : r_121 = p_odd v.2.2.2 n := w_123
    refine k_callv (wr := []) (va_runI (As := [.long (p_odd v.1 n), .long (p_odd v.2.1 n), .long (p_odd v.2.2.1 n), .long (p_odd v.2.2.2 n)]) (rest := [.ref q_111]) ⟨hx, hb, hml, hown, hts⟩ (ct_X1_init hk l D ca H.size q_111 (p_odd v.1 n) (p_odd v.2.1 n) (p_odd v.2.2.1 n) (p_odd v.2.2.2 n) (0, 0, 0, 0)) (cwI 4 hts (lw_meth q231) rfl rfl rfl (hts _ q20) (hts _ q390) (hts _ q230) rfl (by decide +kernel) ⟨Nat.le_of_ble_eq_true rfl, Nat.le_of_ble_eq_true rfl⟩) (k_pre hk hK hN hP hD [0] (by decide) rfl trivial) rfl rfl hl.1 rfl (lv_room (Nat.le_of_ble_eq_true rfl)) dX1_near_157 ⟨Nat.le_of_ble_eq_true rfl, Nat.le_of_ble_eq_true rfl⟩) hP hD hS hA [0] [] rfl rfl (by decide) (by decide) (fun u_125 H locs w_126 hP hD hxw_126 hzw_126 hqw_126 hS => ?_)
    have hP : va_P D vwCl [(q_111, f4 (p_odd v.1 n, p_odd v.2.1 n, p_odd v.2.2.1 n, p_odd v.2.2.2 n))] H := hP
    have hD : va_D A [(q_111, f4 (p_odd v.1 n, p_odd v.2.1 n, p_odd v.2.2.1 n, p_odd v.2.2.2 n))] := hD
    have hre : nearC n v = (p_odd v.1 n, p_odd v.2.1 n, p_odd v.2.2.1 n, p_odd v.2.2.2 n) := by
      have hz := c_110
      rw [hha_108, hwh_95, hha_81, hwh_68, hha_54, hwh_41, hha_27, hwh_14] at hz
      exact if_pos hz
    have hP : va_P D vwCl [(q_111, f4 (nearC n v))] H := by rw [hre]; exact hP
    have hD : va_D A [(q_111, f4 (nearC n v))] := by rw [hre]; exact hD
    exact k_aret () hx hb hr (Or.inl ⟨_, rfl⟩) hlocks (trivial) hP hD trivial hS (Nat.le_of_ble_eq_true rfl) (Nat.le_of_ble_eq_true rfl) dX1_near_160
  · refine va_new (ci := 1) (fs := [.long 0, .long 0, .long 0, .long 0]) (C := RX1) (T := TX1) (N := 4) hx hb hts in_X1 tyX1 tyX1_ok hown (hts _ q389) (hts _ q228) (hts _ q20) hK hP hD hS hA rfl (fun j hj => by rcases (show j = 0 ∨ j = 1 ∨ j = 2 ∨ j = 3 by omega) with rfl | rfl | rfl | rfl <;> rfl) (Nat.le_of_ble_eq_true rfl) (Nat.le_of_ble_eq_true rfl) dX1_near_79 (fun q_127 H hP hD hS => ?_)
    have hP : va_P D vwCl [(q_127, .inr (1, [.long 0, .long 0, .long 0, .long 0]))] H := hP
    have hD : va_D A [(q_127, .inr (1, [.long 0, .long 0, .long 0, .long 0]))] := hD
    refine lv_dup hx hb dX1_near_82 rfl ?_
    refine lv_aload_n hx hb dX1_near_83 rfl (lv_at hl 3 rfl) ?_
    refine va_get (D := D) (ci := 1) (v := .long v.1) (C := RX1) (T := TX1) (N := 4) hx hb hts in_X1 hown hK (hF0.keep hS nF0) 0 rfl rfl 0 (by decide) (hts _ q233) (fun _ h9 => h9) rfl dX1_near_84 ?_
    refine lv_lload_n hx hb dX1_near_87 rfl (lv_at hl 4 rfl) ?_
    refine k_calll (wr := [(q_127, .inr (1, [.long 0, .long 0, .long 0, .long 0]))]) (va_runS (As := [.long v.1, .long n]) (rest := [.ref q_127, .ref q_127]) ⟨hx, hb, hml, hown, hts⟩ (ct_X1_even hk l D ca H.size v.1 n hn) (va_cwS 2 hts (lw_S q435 q436 q20 q437) rfl rfl rfl (by decide +kernel) ⟨Nat.le_of_ble_eq_true rfl, Nat.le_of_ble_eq_true rfl⟩) (k_pre hk hK hN hP hD [] (by decide) rfl trivial) rfl rfl hl.1 rfl (lv_room (Nat.le_of_ble_eq_true rfl)) dX1_near_88 ⟨Nat.le_of_ble_eq_true rfl, Nat.le_of_ble_eq_true rfl⟩) hP hD hS hA [] [0] rfl rfl (by decide) (by decide) (fun r_128 u_129 H locs w_130 hP hD hxw_130 hzw_130 hqw_130 hS => ?_)
    obtain rfl : r_128 = p_even v.1 n := w_130
    refine lv_aload_n hx hb dX1_near_91 rfl (lv_at hl 3 rfl) ?_
    refine va_get (D := D) (ci := 1) (v := .long v.2.1) (C := RX1) (T := TX1) (N := 4) hx hb hts in_X1 hown hK (hF0.keep hS nF0) 0 rfl rfl 1 (by decide) (hts _ q235) (fun _ h9 => h9) rfl dX1_near_92 ?_
    refine lv_lload_n hx hb dX1_near_95 rfl (lv_at hl 4 rfl) ?_
    refine k_calll (wr := [(q_127, .inr (1, [.long 0, .long 0, .long 0, .long 0]))]) (va_runS (As := [.long v.2.1, .long n]) (rest := [.long (p_even v.1 n), .ref q_127, .ref q_127]) ⟨hx, hb, hml, hown, hts⟩ (ct_X1_even hk l D ca H.size v.2.1 n hn) (va_cwS 2 hts (lw_S q435 q436 q20 q437) rfl rfl rfl (by decide +kernel) ⟨Nat.le_of_ble_eq_true rfl, Nat.le_of_ble_eq_true rfl⟩) (k_pre hk hK hN hP hD [] (by decide) rfl trivial) rfl rfl hl.1 rfl (lv_room (Nat.le_of_ble_eq_true rfl)) dX1_near_96 ⟨Nat.le_of_ble_eq_true rfl, Nat.le_of_ble_eq_true rfl⟩) hP hD hS hA [] [0] rfl rfl (by decide) (by decide) (fun r_131 u_132 H locs w_133 hP hD hxw_133 hzw_133 hqw_133 hS => ?_)
    obtain rfl : r_131 = p_even v.2.1 n := w_133
    refine lv_aload_n hx hb dX1_near_99 rfl (lv_at hl 3 rfl) ?_
    refine va_get (D := D) (ci := 1) (v := .long v.2.2.1) (C := RX1) (T := TX1) (N := 4) hx hb hts in_X1 hown hK (hF0.keep hS nF0) 0 rfl rfl 2 (by decide) (hts _ q237) (fun _ h9 => h9) rfl dX1_near_100 ?_
    refine lv_lload_n hx hb dX1_near_103 rfl (lv_at hl 4 rfl) ?_
    refine k_calll (wr := [(q_127, .inr (1, [.long 0, .long 0, .long 0, .long 0]))]) (va_runS (As := [.long v.2.2.1, .long n]) (rest := [.long (p_even v.2.1 n), .long (p_even v.1 n), .ref q_127, .ref q_127]) ⟨hx, hb, hml, hown, hts⟩ (ct_X1_even hk l D ca H.size v.2.2.1 n hn) (va_cwS 2 hts (lw_S q435 q436 q20 q437) rfl rfl rfl (by decide +kernel) ⟨Nat.le_of_ble_eq_true rfl, Nat.le_of_ble_eq_true rfl⟩) (k_pre hk hK hN hP hD [] (by decide) rfl trivial) rfl rfl hl.1 rfl (lv_room (Nat.le_of_ble_eq_true rfl)) dX1_near_104 ⟨Nat.le_of_ble_eq_true rfl, Nat.le_of_ble_eq_true rfl⟩) hP hD hS hA [] [0] rfl rfl (by decide) (by decide) (fun r_134 u_135 H locs w_136 hP hD hxw_136 hzw_136 hqw_136 hS => ?_)
    obtain rfl : r_134 = p_even v.2.2.1 n := w_136
    refine lv_aload_n hx hb dX1_near_107 rfl (lv_at hl 3 rfl) ?_
    refine va_get (D := D) (ci := 1) (v := .long v.2.2.2) (C := RX1) (T := TX1) (N := 4) hx hb hts in_X1 hown hK (hF0.keep hS nF0) 0 rfl rfl 3 (by decide) (hts _ q239) (fun _ h9 => h9) rfl dX1_near_108 ?_
    refine lv_lload_n hx hb dX1_near_111 rfl (lv_at hl 4 rfl) ?_
    refine k_calll (wr := [(q_127, .inr (1, [.long 0, .long 0, .long 0, .long 0]))]) (va_runS (As := [.long v.2.2.2, .long n]) (rest := [.long (p_even v.2.2.1 n), .long (p_even v.2.1 n), .long (p_even v.1 n), .ref q_127, .ref q_127]) ⟨hx, hb, hml, hown, hts⟩ (ct_X1_even hk l D ca H.size v.2.2.2 n hn) (va_cwS 2 hts (lw_S q435 q436 q20 q437) rfl rfl rfl (by decide +kernel) ⟨Nat.le_of_ble_eq_true rfl, Nat.le_of_ble_eq_true rfl⟩) (k_pre hk hK hN hP hD [] (by decide) rfl trivial) rfl rfl hl.1 rfl (lv_room (Nat.le_of_ble_eq_true rfl)) dX1_near_112 ⟨Nat.le_of_ble_eq_true rfl, Nat.le_of_ble_eq_true rfl⟩) hP hD hS hA [] [0] rfl rfl (by decide) (by decide) (fun r_137 u_138 H locs w_139 hP hD hxw_139 hzw_139 hqw_139 hS => ?_)
    obtain rfl : r_137 = p_even v.2.2.2 n := w_139
    refine k_callv (wr := []) (va_runI (As := [.long (p_even v.1 n), .long (p_even v.2.1 n), .long (p_even v.2.2.1 n), .long (p_even v.2.2.2 n)]) (rest := [.ref q_127]) ⟨hx, hb, hml, hown, hts⟩ (ct_X1_init hk l D ca H.size q_127 (p_even v.1 n) (p_even v.2.1 n) (p_even v.2.2.1 n) (p_even v.2.2.2 n) (0, 0, 0, 0)) (cwI 4 hts (lw_meth q231) rfl rfl rfl (hts _ q20) (hts _ q390) (hts _ q230) rfl (by decide +kernel) ⟨Nat.le_of_ble_eq_true rfl, Nat.le_of_ble_eq_true rfl⟩) (k_pre hk hK hN hP hD [0] (by decide) rfl trivial) rfl rfl hl.1 rfl (lv_room (Nat.le_of_ble_eq_true rfl)) dX1_near_115 ⟨Nat.le_of_ble_eq_true rfl, Nat.le_of_ble_eq_true rfl⟩) hP hD hS hA [0] [] rfl rfl (by decide) (by decide) (fun u_141 H locs w_142 hP hD hxw_142 hzw_142 hqw_142 hS => ?_)
    have hP : va_P D vwCl [(q_127, f4 (p_even v.1 n, p_even v.2.1 n, p_even v.2.2.1 n, p_even v.2.2.2 n))] H := hP
    have hD : va_D A [(q_127, f4 (p_even v.1 n, p_even v.2.1 n, p_even v.2.2.1 n, p_even v.2.2.2 n))] := hD
    refine lv_goto (tgt := 160) hx hb dX1_near_118 (by decide) ?_
    have hre : nearC n v = (p_even v.1 n, p_even v.2.1 n, p_even v.2.2.1 n, p_even v.2.2.2 n) := by
      have hz := c_110
      rw [hha_108, hwh_95, hha_81, hwh_68, hha_54, hwh_41, hha_27, hwh_14] at hz
      exact if_neg hz
    have hP : va_P D vwCl [(q_127, f4 (nearC n v))] H := by rw [hre]; exact hP
    have hD : va_D A [(q_127, f4 (nearC n v))] := by rw [hre]; exact hD
    exact k_aret () hx hb hr (Or.inl ⟨_, rfl⟩) hlocks (trivial) hP hD trivial hS (Nat.le_of_ble_eq_true rfl) (Nat.le_of_ble_eq_true rfl) dX1_near_160
