section WAYS
variable {p : Program} {l : Launch} {e : Env} {R : Room} {s : State} {m : MethodId} {args : Array Value} {below : List Frame} {meth : Method} {c : Code} {H H0 : Heap} {locs : List Loc} {cells slots : Nat} {Q : State → Prop} {A : Nat → Prop}
variable {cc : ByteArray} {pc : Nat} {ls : Array Slot} {rest : List Value} {D : va_G} {cl : List vw_C} {tys : List (ClassId × FieldType)} {ws : va_W} {a : Nat}
/-- new, and what it leaves as it is -/
theorem k_newF {c0 : Code} (hexec : p.tables.exec = Jvm.exec) (hb : c0.code = cc) {own C : String} {T : u_T} {N ci index : Nat} {Ts : List Cond} (hts : ∀ w ∈ Ts, w.before args s = true) (hin : ∀ w ∈ u_ws C T N, w ∈ Ts) (ty : Nat → FieldType) (hty : ∀ k, k < N → parseFieldDescriptor (T k).2.2.1 = some (ty k)) (hown : s.vm.findClass own = some m.cls) (hcl : (Cond.classLink own index C).before args s = true) (hinst : (Cond.instantiable C N).before args s = true) (hini : (Cond.initialized C).before args s = true)
    (hK : va_K D cl tys s) (hP : va_P D cl ws H) (hD : va_D A ws) (hS : va_S A H0 H locs) (hA : ∀ q, H0.size ≤ q → A q) (hc : cl[ci]? = some (C, T, N)) {fs : List Value} (hfs : ∀ j, j < N → defaultValue (ty j) = vp_V fs j) (hcells : cells + 1 ≤ R.cells) (hslots : slots + N ≤ R.slots) (hdg : decode cc pc = .ok (.new index, 3))
    (kk : ∀ (q : Nat) (H1 : Heap), q = H.size → (∀ x : Nat, x < H.size → H1[x]? = H[x]?) → va_P D cl (ws ++ [(q, .inr (ci, fs))]) H1 → va_D A (ws ++ [(q, .inr (ci, fs))]) → va_S A H0 H1 locs →
      W p l e R s m args below meth c0 H1 locs (cells + 1) (slots + N) Q (F0 m (pc + 3) ls (.ref q :: rest))) : W p l e R s m args below meth c0 H locs cells slots Q (F0 m pc ls rest) := by
  have hKn := hK.1 ci _ hc
  refine W.newcK hexec hb hown hcl hinst hini rfl hdg hcells hslots hKn.2.1 rfl fun H1 kC hkC e1 z1 o1 => ?_
  have hk : ∀ (k : Nat) (x : Nat × va_E), ws[k]? = some x → H1[x.1]? = H[x.1]? := fun k x hx => o1 x.1 ((hP k x hx).lt)
  refine kk H.size H1 rfl o1 ((hP.kept hk).app (fun k x hx => ?_)) (hD.push hP rfl (hA _ hS.1)) ⟨Nat.le_trans hS.1 (by omega), fun x h1 h2 => (o1 x (Nat.lt_of_lt_of_le h1 hS.1)).trans (hS.2.1 x h1 h2), hS.2.2⟩
  have hz : k < 1 := (List.getElem?_eq_some_iff.mp hx).1
  rw [show k = 0 by omega] at hx
  cases hx
  exact ⟨_, hc, (u_born ty hts hin hKn hkC e1 hty).to hfs⟩
/-- a reference into an array, and what that leaves as it is -/
theorem k_astF (hexec : p.tables.exec = Jvm.exec) (hb : c.code = cc) (hK : va_K D cl tys s) (hP : va_P D cl ws H) (hD : va_D A ws) (hS : va_S A H0 H locs) (q0 t0 : Nat) {E : String} {cA : ClassId} {n v : Nat} {f : Nat → Option Nat} (ha : ws[q0]? = some (a, .inl (cA, n, .inr (.inr (.inr (.inr f)))))) (ht : tys[t0]? = some (cA, .object E)) (hr : va_Any E s H v) {i : Int32} (hin : vp_in i n) (hdg : decode cc pc = .ok (.aastore, 1))
    (kk : ∀ (H1 : Heap) (locs1 : List Loc), (∀ q : Nat, q ≠ a → H1[q]? = H[q]?) → va_P D cl (ws.set q0 (a, .inl (cA, n, .inr (.inr (.inr (.inr (va_up f i.toNatClampNeg (some v)))))))) H1 → va_D A (ws.set q0 (a, .inl (cA, n, .inr (.inr (.inr (.inr (va_up f i.toNatClampNeg (some v)))))))) → va_S A H0 H1 locs1 → W p l e R s m args below meth c H1 locs1 cells slots Q (F0 m (pc + 1) ls rest)) : W p l e R s m args below meth c H locs cells slots Q (F0 m pc ls (.ref v :: .int i :: .ref a :: rest)) := by
  have hlt : i.toNatClampNeg < n := Nat.not_le.mp fun q => hin (Or.inr q)
  have h0 : ¬ i < 0 := fun q => hin (Or.inl q)
  obtain ⟨cellV, g1, g3, ⟨kC, hkC⟩, hasg⟩ := hr
  obtain ⟨kA, comp, k1, k2, k3, -⟩ := (hK.2 t0 _ ht).2
  obtain ⟨kE, hkE, -⟩ := Vm.findClass_spec k3
  refine W.aast hexec hb (hP q0 _ ha) (fun q h => by cases h) (fun h => by cases h) k1 k2 rfl hkE ⟨h0, by show _ < (arrV _ _ _).slots.size; rw [arrV_size]; exact hlt⟩ g1 (fun q h => by rw [h] at g3; cases g3) hkC (hasg _ k3) rfl rfl hdg fun H1 e z oq => ?_
  refine kk H1 _ oq (hP.set hD ha ?_ oq) (hD.set ha) (hS.put z oq (hD.2 q0 _ ha))
  show H1[a]? = some (vp_cell _ _)
  rw [e]
  rw [vp_cell_q, vp_cell_q, arrV_store]
  congr 2
  funext q
  by_cases hq : q = i.toNatClampNeg
  · subst hq
    simp [updV, va_up, va_rf]
  · simp [updV, va_up, hq]
end WAYS
theorem va_A1 {a nm sz : Nat} {e : va_E} (h : a ≠ nm) (h2 : a < sz) : ¬ va_A [(nm, e)] sz a := by
  rintro (⟨k, e', hk⟩ | h3)
  · match k, hk with
    | 0, hk => cases hk; exact h rfl
    | k + 1, hk => simp at hk
  · omega
/-- the factors found -/
def Fw (D : va_G) (H : Heap) (fb : Nat → Nat) (un : AI) (F : AL) (v : Q4) (k : Nat) : Prop := ∀ i, i < k → Fo D H (fb i) (w_f un (F i) (lfW un F v i))
theorem Fw.mov {D : va_G} {H H1 : Heap} {fb : Nat → Nat} {un : AI} {F : AL} {v : Q4} {k : Nat} (h : Fw D H fb un F v k) (hq : ∀ (q : Nat) (w : Q4), Fo D H q w → H1[q]? = H[q]?) : Fw D H1 fb un F v k := fun i hi => (h i hi).mov (hq _ _ (h i hi))
theorem Fw.snoc {D : va_G} {H : Heap} {fb : Nat → Nat} {un : AI} {F : AL} {v : Q4} {k r : Nat} (h : Fw D H fb un F v k) (hr : Fo D H r (w_f un (F k) (lfW un F v k))) : Fw D H (va_up fb k r) un F v (k + 1) := by
  intro i hi
  by_cases e : i = k
  · rw [e, va_up_self]; exact hr
  · rw [va_up_ne _ _ e]; exact h i (by omega)
theorem Fw.all {D : va_G} {H : Heap} {fb : Nat → Nat} {un : AI} {F : AL} {v : Q4} {fc : AL} {k q nn : Nat} (h : Fw D H fb un F v k) (hq : Fo D H q (lfW un F v k)) (hn : nn = k + 1) : Fg D H (va_up fb k q) (fq (w4L (fcW un F v fc k) k (lfW un F v k))) nn := by
  intro i hi
  by_cases e : i = k
  · rw [e, va_up_self, fq_w4]; exact hq
  · rw [va_up_ne _ _ e, fq_w4n _ _ e, fcW_k (by omega)]; exact h i (by omega)
theorem uAr_at {fb : Nat → Nat} {k r : Nat} : uAr (va_up fb k r) (k + 1) k = some r := by
  simp only [uAr, va_up_self, if_pos (Nat.lt_succ_self k)]
def prm (f : AL) (ai k : Nat) : AL := fun i => if i < k then f (ai + i) else 0
theorem prm_s {f : AL} {ai k : Nat} : vp_updL (prm f ai k) k (f (ai + k)) = prm f ai (k + 1) := by
  funext i
  simp only [vp_updL, prm]
  by_cases h : i = k
  · rw [if_pos h, if_pos (by omega), h]
  · rw [if_neg h]
    by_cases h2 : i < k
    · rw [if_pos h2, if_pos (by omega)]
    · rw [if_neg h2, if_neg (by omega)]
abbrev wF (f : AL) (ai : Nat) : AL := fun i => f (ai + i)
theorem vp_cellL {D : va_G} {H : Heap} {x n : Nat} {cA : ClassId} {f g : AL} {pl : va_W} (hP : va_P D vwCl ([(x, .inl (cA, n, .inr (.inl f)))] ++ pl) H) (hfg : ∀ i, i < n → f i = g i) : va_P D vwCl ([(x, .inl (cA, n, .inr (.inl g)))] ++ pl) H := by
  have h0 := vp_mem.mp hP
  refine vp_mem.mpr (fun q hq => ?_)
  rcases List.mem_append.mp hq with hq | hq
  · rw [List.mem_singleton.mp hq]
    have h : H[x]? = some (vp_cell cA (n, .inr (.inl f))) := h0 (x, .inl (cA, n, .inr (.inl f))) (List.mem_append_left _ List.mem_cons_self)
    have e : vp_cell cA (n, .inr (.inl f)) = vp_cell cA (n, .inr (.inl g)) := by
      show arrV cA n (fun j => .long (f j)) = arrV cA n (fun j => .long (g j))
      exact arrV_eq (fun j hj => by rw [hfg j hj])
    exact h.trans (congrArg some e)
  · exact h0 q (List.mem_append_right _ hq)
/-- what the component's steps need -/
def wayS (un : AI) (F : AL) (v : Q4) (nn : Nat) : Prop := ∀ k, k < nn → eucBoth 1 40 (2 * F k, 0, 0, 0) (lfW un F v k) ∧ 0 < 2 * q_norm (w_f un (F k) (lfW un F v k)) ∧ lfW un F v (k + 1) = d_q 1 (lfW un F v k) (w_f un (F k) (lfW un F v k))
theorem wayS_of {g un : AI} {f : AL} {j nn : Nat} (hR : okR g) (hU : UnOk un) (hj : j < 16) (h1 : m_prim (rq g j)) (h2 : wR f 0 nn (wP (rq g j))) : wayS un f (rq g j) nn := by
  obtain ⟨-, hP, -⟩ := norm_P hR hj
  have hp : ∀ i, i < nn → 0 ≤ (f i).toInt ∧ (f i).toInt < 2 ^ 29 := fun i hi => by
    have := wR_all h2 i hi
    rw [Nat.zero_add] at this
    omega
  intro k hk
  obtain ⟨a1, a2, a3⟩ := lfW_z hU (hR.hz hj) (hR.sq hj) (prim_pos hR hj h1) hp k (by omega)
  obtain ⟨b1, b2, b3, -, b5, -⟩ := way_z hU a1 a2 a3 (hp k hk).1 (hp k hk).2
  exact ⟨b1, n_pos b2 b3, b5⟩
theorem low2_ge {b : Bool} (h : (0 : Int32) ≤ if b = true then 0 else -2) : b = true := by
  cases b
  · exact absurd h (by decide)
  · rfl
theorem low2_lt {b : Bool} (h : ¬ (0 : Int32) ≤ if b = true then 0 else -2) : b = false := by
  cases b
  · rfl
  · exact absurd (by decide) h
theorem subn_le {a n k : Nat} (hn : n ≤ 16) (hk : k ≤ 12) (ha : a < 2 ^ 31) : nI a ≤ nI n - nI k ↔ a + k ≤ n := by
  rw [Int32.le_iff_toInt_le, nI_toInt ha, show (nI n - nI k).toInt = (n : Int) - k from pk_sub_toInt (a := n) (b := k) (by omega) (by omega)]
  omega
set_option maxHeartbeats 4000000 in
set_option maxRecDepth 100000 in
theorem ct_X0_way_0 (l : Launch) (hl0 : l.stackTraces = false) (D : va_G) (ca : Nat → ClassId) (zH : Nat) (xo : Nat) (s0 r0 i0 n0 : Int32) (h1 : p_in s0.toInt64 0 15 = false) : vx_Met l yX0_way (wsH_ yX0_way cX0_way 8 (some .int) [((28 : Nat), (60 : Nat), (98 : Nat), (37 : Nat)), ((61 : Nat), (95 : Nat), (98 : Nat), (37 : Nat)), ((28 : Nat), (60 : Nat), (103 : Nat), (25 : Nat)), ((61 : Nat), (95 : Nat), (103 : Nat), (25 : Nat))]) ({ frames := 2, cells := 0, slots := 0, locals := 45 }) (va_Pc [.ref xo, .int s0, .int r0, .int i0, .int n0] (prX NW D ca [] zH (fun _ => True))) (qI D (fun (r : Int32) (u : Unit) => r = -1) (fun u => []) (fun u H => True) (va_A [] zH)) noX 0 0 (va_A [] zH) := by
  have hk := NW_ok
  refine k_ofH (Qc := qI D (fun (r : Int32) (u : Unit) => r = -1) (fun u => []) (fun u H => True)) (by decide) (Nat.le_of_ble_eq_true rfl) ?_
  intro p e s m below meth c ls A H hH hx hb hr hts hown hlocks hnm hml hsz hP hD hK hN hA hAn hS hro hl hX hZ htb
  have hl : lv_has ls 8 [(0, .ref xo), (1, .int s0), (2, .int r0), (3, .int i0), (4, .int n0)] := hl
  refine lv_iload_n hx hb dX0_way_0 rfl (lv_at hl 1 rfl) ?_
  refine k_calli (wr := []) (va_runS (As := [.int s0]) (rest := []) ⟨hx, hb, hml, hown, hts⟩ (ct_X0_isRegister hk l D ca H.size s0) (va_cwS 1 hts (lw_S q313 q314 q19 q315) rfl rfl rfl (by decide +kernel) ⟨Nat.le_of_ble_eq_true rfl, Nat.le_of_ble_eq_true rfl⟩) (k_pre hk hK hN hP hD [] (by decide) rfl trivial) rfl rfl hl.1 rfl (lv_room (Nat.le_of_ble_eq_true rfl)) dX0_way_1 ⟨Nat.le_of_ble_eq_true rfl, Nat.le_of_ble_eq_true rfl⟩) hP hD hS hA [] [] rfl rfl (by decide) (by decide) (fun r_1 u_2 H locs w_3 hP hD hxw_3 hzw_3 hqw_3 hS => ?_)
  obtain rfl : r_1 = bI (p_in s0.toInt64 0 15) := w_3
  refine lv_if_eq (tgt := 26) hx hb dX0_way_4 (by decide) (fun c_4 => ?_) (fun c_4 => absurd (by rw [h1]; rfl) c_4)
  refine lv_iconst (v := (-1)) hx hb dX0_way_26 (by decide) ?_
  refine vx_ret ?_
  exact k_iret () hx hb hr hlocks (rfl) hP hD trivial hS (Nat.le_of_ble_eq_true rfl) (Nat.le_of_ble_eq_true rfl) dX0_way_27
set_option maxHeartbeats 4000000 in
set_option maxRecDepth 100000 in
theorem ct_X0_way_1 (l : Launch) (hl0 : l.stackTraces = false) (D : va_G) (ca : Nat → ClassId) (zH : Nat) (xo js : Nat) (r0 i0 n0 : Int32) (hjs : js < 16) (h1 : p_in r0.toInt64 0 5 = false) : vx_Met l yX0_way (wsH_ yX0_way cX0_way 8 (some .int) [((28 : Nat), (60 : Nat), (98 : Nat), (37 : Nat)), ((61 : Nat), (95 : Nat), (98 : Nat), (37 : Nat)), ((28 : Nat), (60 : Nat), (103 : Nat), (25 : Nat)), ((61 : Nat), (95 : Nat), (103 : Nat), (25 : Nat))]) ({ frames := 2, cells := 0, slots := 0, locals := 45 }) (va_Pc [.ref xo, .int (nI js), .int r0, .int i0, .int n0] (prX NW D ca [] zH (fun _ => True))) (qI D (fun (r : Int32) (u : Unit) => r = -1) (fun u => []) (fun u H => True) (va_A [] zH)) noX 0 0 (va_A [] zH) := by
  have hk := NW_ok
  refine k_ofH (Qc := qI D (fun (r : Int32) (u : Unit) => r = -1) (fun u => []) (fun u H => True)) (by decide) (Nat.le_of_ble_eq_true rfl) ?_
  intro p e s m below meth c ls A H hH hx hb hr hts hown hlocks hnm hml hsz hP hD hK hN hA hAn hS hro hl hX hZ htb
  have hl : lv_has ls 8 [(0, .ref xo), (1, .int (nI js)), (2, .int r0), (3, .int i0), (4, .int n0)] := hl
  refine lv_iload_n hx hb dX0_way_0 rfl (lv_at hl 1 rfl) ?_
  refine k_calli (wr := []) (va_runS (As := [.int (nI js)]) (rest := []) ⟨hx, hb, hml, hown, hts⟩ (ct_X0_isRegister hk l D ca H.size (nI js)) (va_cwS 1 hts (lw_S q313 q314 q19 q315) rfl rfl rfl (by decide +kernel) ⟨Nat.le_of_ble_eq_true rfl, Nat.le_of_ble_eq_true rfl⟩) (k_pre hk hK hN hP hD [] (by decide) rfl trivial) rfl rfl hl.1 rfl (lv_room (Nat.le_of_ble_eq_true rfl)) dX0_way_1 ⟨Nat.le_of_ble_eq_true rfl, Nat.le_of_ble_eq_true rfl⟩) hP hD hS hA [] [] rfl rfl (by decide) (by decide) (fun r_1 u_2 H locs w_3 hP hD hxw_3 hzw_3 hqw_3 hS => ?_)
  obtain rfl : r_1 = bI (p_in (nI js).toInt64 0 15) := w_3
  refine lv_if_eq (tgt := 26) hx hb dX0_way_4 (by decide) (fun c_4 => absurd c_4 (by rw [in_15 hjs]; decide)) (fun c_4 => ?_)
  refine lv_iload_n hx hb dX0_way_7 rfl (lv_at hl 2 rfl) ?_
  refine k_calli (wr := []) (va_runS (As := [.int r0]) (rest := []) ⟨hx, hb, hml, hown, hts⟩ (ct_X0_isSheet hk l D ca H.size r0) (va_cwS 1 hts (lw_S q127 q128 q19 q129) rfl rfl rfl (by decide +kernel) ⟨Nat.le_of_ble_eq_true rfl, Nat.le_of_ble_eq_true rfl⟩) (k_pre hk hK hN hP hD [] (by decide) rfl trivial) rfl rfl hl.1 rfl (lv_room (Nat.le_of_ble_eq_true rfl)) dX0_way_8 ⟨Nat.le_of_ble_eq_true rfl, Nat.le_of_ble_eq_true rfl⟩) hP hD hS hA [] [] rfl rfl (by decide) (by decide) (fun r_5 u_6 H locs w_7 hP hD hxw_7 hzw_7 hqw_7 hS => ?_)
  obtain rfl : r_5 = bI (p_in r0.toInt64 0 5) := w_7
  refine lv_if_eq (tgt := 26) hx hb dX0_way_11 (by decide) (fun c_8 => ?_) (fun c_8 => absurd (by rw [h1]; rfl) c_8)
  refine lv_iconst (v := (-1)) hx hb dX0_way_26 (by decide) ?_
  refine vx_ret ?_
  exact k_iret () hx hb hr hlocks (rfl) hP hD trivial hS (Nat.le_of_ble_eq_true rfl) (Nat.le_of_ble_eq_true rfl) dX0_way_27
set_option maxHeartbeats 4000000 in
set_option maxRecDepth 100000 in
theorem ct_X0_way_2 (l : Launch) (hl0 : l.stackTraces = false) (D : va_G) (ca : Nat → ClassId) (zH : Nat) (xo js j : Nat) (i0 n0 : Int32) (hjs : js < 16) (hj : j < 6) (h1 : n0 = 0) : vx_Met l yX0_way (wsH_ yX0_way cX0_way 8 (some .int) [((28 : Nat), (60 : Nat), (98 : Nat), (37 : Nat)), ((61 : Nat), (95 : Nat), (98 : Nat), (37 : Nat)), ((28 : Nat), (60 : Nat), (103 : Nat), (25 : Nat)), ((61 : Nat), (95 : Nat), (103 : Nat), (25 : Nat))]) ({ frames := 2, cells := 0, slots := 0, locals := 45 }) (va_Pc [.ref xo, .int (nI js), .int (nI j), .int i0, .int n0] (prX NW D ca [] zH (fun _ => True))) (qI D (fun (r : Int32) (u : Unit) => r = -1) (fun u => []) (fun u H => True) (va_A [] zH)) noX 0 0 (va_A [] zH) := by
  have hk := NW_ok
  refine k_ofH (Qc := qI D (fun (r : Int32) (u : Unit) => r = -1) (fun u => []) (fun u H => True)) (by decide) (Nat.le_of_ble_eq_true rfl) ?_
  intro p e s m below meth c ls A H hH hx hb hr hts hown hlocks hnm hml hsz hP hD hK hN hA hAn hS hro hl hX hZ htb
  have hl : lv_has ls 8 [(0, .ref xo), (1, .int (nI js)), (2, .int (nI j)), (3, .int i0), (4, .int n0)] := hl
  refine lv_iload_n hx hb dX0_way_0 rfl (lv_at hl 1 rfl) ?_
  refine k_calli (wr := []) (va_runS (As := [.int (nI js)]) (rest := []) ⟨hx, hb, hml, hown, hts⟩ (ct_X0_isRegister hk l D ca H.size (nI js)) (va_cwS 1 hts (lw_S q313 q314 q19 q315) rfl rfl rfl (by decide +kernel) ⟨Nat.le_of_ble_eq_true rfl, Nat.le_of_ble_eq_true rfl⟩) (k_pre hk hK hN hP hD [] (by decide) rfl trivial) rfl rfl hl.1 rfl (lv_room (Nat.le_of_ble_eq_true rfl)) dX0_way_1 ⟨Nat.le_of_ble_eq_true rfl, Nat.le_of_ble_eq_true rfl⟩) hP hD hS hA [] [] rfl rfl (by decide) (by decide) (fun r_1 u_2 H locs w_3 hP hD hxw_3 hzw_3 hqw_3 hS => ?_)
  obtain rfl : r_1 = bI (p_in (nI js).toInt64 0 15) := w_3
  refine lv_if_eq (tgt := 26) hx hb dX0_way_4 (by decide) (fun c_4 => absurd c_4 (by rw [in_15 hjs]; decide)) (fun c_4 => ?_)
  refine lv_iload_n hx hb dX0_way_7 rfl (lv_at hl 2 rfl) ?_
  refine k_calli (wr := []) (va_runS (As := [.int (nI j)]) (rest := []) ⟨hx, hb, hml, hown, hts⟩ (ct_X0_isSheet hk l D ca H.size (nI j)) (va_cwS 1 hts (lw_S q127 q128 q19 q129) rfl rfl rfl (by decide +kernel) ⟨Nat.le_of_ble_eq_true rfl, Nat.le_of_ble_eq_true rfl⟩) (k_pre hk hK hN hP hD [] (by decide) rfl trivial) rfl rfl hl.1 rfl (lv_room (Nat.le_of_ble_eq_true rfl)) dX0_way_8 ⟨Nat.le_of_ble_eq_true rfl, Nat.le_of_ble_eq_true rfl⟩) hP hD hS hA [] [] rfl rfl (by decide) (by decide) (fun r_5 u_6 H locs w_7 hP hD hxw_7 hzw_7 hqw_7 hS => ?_)
  obtain rfl : r_5 = bI (p_in (nI j).toInt64 0 5) := w_7
  refine lv_if_eq (tgt := 26) hx hb dX0_way_11 (by decide) (fun c_8 => absurd c_8 (by rw [in_5 hj]; decide)) (fun c_8 => ?_)
  refine lv_iload hx hb dX0_way_14 (lv_at hl 4 rfl) ?_
  refine lv_if_eq (tgt := 26) hx hb dX0_way_16 (by decide) (fun c_9 => ?_) (fun c_9 => absurd h1 c_9)
  refine lv_iconst (v := (-1)) hx hb dX0_way_26 (by decide) ?_
  refine vx_ret ?_
  exact k_iret () hx hb hr hlocks (rfl) hP hD trivial hS (Nat.le_of_ble_eq_true rfl) (Nat.le_of_ble_eq_true rfl) dX0_way_27
set_option maxHeartbeats 4000000 in
set_option maxRecDepth 100000 in
theorem ct_X0_way_3 (l : Launch) (hl0 : l.stackTraces = false) (D : va_G) (ca : Nat → ClassId) (zH : Nat) (xo js j : Nat) (i0 n0 : Int32) (hjs : js < 16) (hj : j < 6) (h1 : ¬ n0 = 0) (h2 : ¬ n0 ≤ 12) : vx_Met l yX0_way (wsH_ yX0_way cX0_way 8 (some .int) [((28 : Nat), (60 : Nat), (98 : Nat), (37 : Nat)), ((61 : Nat), (95 : Nat), (98 : Nat), (37 : Nat)), ((28 : Nat), (60 : Nat), (103 : Nat), (25 : Nat)), ((61 : Nat), (95 : Nat), (103 : Nat), (25 : Nat))]) ({ frames := 2, cells := 0, slots := 0, locals := 45 }) (va_Pc [.ref xo, .int (nI js), .int (nI j), .int i0, .int n0] (prX NW D ca [] zH (fun _ => True))) (qI D (fun (r : Int32) (u : Unit) => r = -1) (fun u => []) (fun u H => True) (va_A [] zH)) noX 0 0 (va_A [] zH) := by
  have hk := NW_ok
  refine k_ofH (Qc := qI D (fun (r : Int32) (u : Unit) => r = -1) (fun u => []) (fun u H => True)) (by decide) (Nat.le_of_ble_eq_true rfl) ?_
  intro p e s m below meth c ls A H hH hx hb hr hts hown hlocks hnm hml hsz hP hD hK hN hA hAn hS hro hl hX hZ htb
  have hl : lv_has ls 8 [(0, .ref xo), (1, .int (nI js)), (2, .int (nI j)), (3, .int i0), (4, .int n0)] := hl
  refine lv_iload_n hx hb dX0_way_0 rfl (lv_at hl 1 rfl) ?_
  refine k_calli (wr := []) (va_runS (As := [.int (nI js)]) (rest := []) ⟨hx, hb, hml, hown, hts⟩ (ct_X0_isRegister hk l D ca H.size (nI js)) (va_cwS 1 hts (lw_S q313 q314 q19 q315) rfl rfl rfl (by decide +kernel) ⟨Nat.le_of_ble_eq_true rfl, Nat.le_of_ble_eq_true rfl⟩) (k_pre hk hK hN hP hD [] (by decide) rfl trivial) rfl rfl hl.1 rfl (lv_room (Nat.le_of_ble_eq_true rfl)) dX0_way_1 ⟨Nat.le_of_ble_eq_true rfl, Nat.le_of_ble_eq_true rfl⟩) hP hD hS hA [] [] rfl rfl (by decide) (by decide) (fun r_1 u_2 H locs w_3 hP hD hxw_3 hzw_3 hqw_3 hS => ?_)
  obtain rfl : r_1 = bI (p_in (nI js).toInt64 0 15) := w_3
  refine lv_if_eq (tgt := 26) hx hb dX0_way_4 (by decide) (fun c_4 => absurd c_4 (by rw [in_15 hjs]; decide)) (fun c_4 => ?_)
  refine lv_iload_n hx hb dX0_way_7 rfl (lv_at hl 2 rfl) ?_
  refine k_calli (wr := []) (va_runS (As := [.int (nI j)]) (rest := []) ⟨hx, hb, hml, hown, hts⟩ (ct_X0_isSheet hk l D ca H.size (nI j)) (va_cwS 1 hts (lw_S q127 q128 q19 q129) rfl rfl rfl (by decide +kernel) ⟨Nat.le_of_ble_eq_true rfl, Nat.le_of_ble_eq_true rfl⟩) (k_pre hk hK hN hP hD [] (by decide) rfl trivial) rfl rfl hl.1 rfl (lv_room (Nat.le_of_ble_eq_true rfl)) dX0_way_8 ⟨Nat.le_of_ble_eq_true rfl, Nat.le_of_ble_eq_true rfl⟩) hP hD hS hA [] [] rfl rfl (by decide) (by decide) (fun r_5 u_6 H locs w_7 hP hD hxw_7 hzw_7 hqw_7 hS => ?_)
  obtain rfl : r_5 = bI (p_in (nI j).toInt64 0 5) := w_7
  refine lv_if_eq (tgt := 26) hx hb dX0_way_11 (by decide) (fun c_8 => absurd c_8 (by rw [in_5 hj]; decide)) (fun c_8 => ?_)
  refine lv_iload hx hb dX0_way_14 (lv_at hl 4 rfl) ?_
  refine lv_if_eq (tgt := 26) hx hb dX0_way_16 (by decide) (fun c_9 => absurd c_9 h1) (fun c_9 => ?_)
  refine lv_iload hx hb dX0_way_19 (lv_at hl 4 rfl) ?_
  refine lv_bipush (v := 12) hx hb dX0_way_21 (by decide) ?_
  refine lv_icmp_le (tgt := 28) hx hb dX0_way_23 (by decide) (fun c_10 => absurd c_10 h2) (fun c_10 => ?_)
  refine lv_iconst (v := (-1)) hx hb dX0_way_26 (by decide) ?_
  refine vx_ret ?_
  exact k_iret () hx hb hr hlocks (rfl) hP hD trivial hS (Nat.le_of_ble_eq_true rfl) (Nat.le_of_ble_eq_true rfl) dX0_way_27
set_option maxHeartbeats 4000000 in
set_option maxRecDepth 100000 in
theorem ct_X0_way_N (l : Launch) (hl0 : l.stackTraces = false) (D : va_G) (ca : Nat → ClassId) (zH : Nat) (xo xs xu xd xr xf : Nat) (sa : Nat → Option Nat) (js j : Nat) (i0 n0 : Int32) (hjs : js < 16) (hj : j < 6) (h1 : ¬ n0 = 0) (h2 : n0 ≤ 12) (hs : sa j = none) : vx_Met l yX0_way (wsH_ yX0_way cX0_way 8 (some .int) [((28 : Nat), (60 : Nat), (98 : Nat), (37 : Nat)), ((61 : Nat), (95 : Nat), (98 : Nat), (37 : Nat)), ((28 : Nat), (60 : Nat), (103 : Nat), (25 : Nat)), ((61 : Nat), (95 : Nat), (103 : Nat), (25 : Nat))]) ({ frames := 12, cells := 1, slots := 8, locals := 10400 }) (va_Pc [.ref xo, .int (nI js), .int (nI j), .int i0, .int n0] (prX NW D ca [(xo, oX xs xu xd xr xf), (xs, rA ca 3 6 sa)] zH (fun _ => True))) (qI D (fun (r : Int32) (u : Unit) => r = -11) (fun u => [(xo, oX xs xu xd xr xf), (xs, rA ca 3 6 sa)]) (fun u H => True) (va_A [(xo, oX xs xu xd xr xf), (xs, rA ca 3 6 sa)] zH)) noX 1 8 (va_A [(xo, oX xs xu xd xr xf), (xs, rA ca 3 6 sa)] zH) := by
  have hk := NW_ok
  refine k_ofH (Qc := qI D (fun (r : Int32) (u : Unit) => r = -11) (fun u => [(xo, oX xs xu xd xr xf), (xs, rA ca 3 6 sa)]) (fun u H => True)) (by decide) (Nat.le_of_ble_eq_true rfl) ?_
  intro p e s m below meth c ls A H hH hx hb hr hts hown hlocks hnm hml hsz hP hD hK hN hA hAn hS hro hl hX hZ htb
  have hl : lv_has ls 8 [(0, .ref xo), (1, .int (nI js)), (2, .int (nI j)), (3, .int i0), (4, .int n0)] := hl
  refine lv_iload_n hx hb dX0_way_0 rfl (lv_at hl 1 rfl) ?_
  refine k_calli (wr := [(xo, oX xs xu xd xr xf), (xs, rA ca 3 6 sa)]) (va_runS (As := [.int (nI js)]) (rest := []) ⟨hx, hb, hml, hown, hts⟩ (ct_X0_isRegister hk l D ca H.size (nI js)) (va_cwS 1 hts (lw_S q313 q314 q19 q315) rfl rfl rfl (by decide +kernel) ⟨Nat.le_of_ble_eq_true rfl, Nat.le_of_ble_eq_true rfl⟩) (k_pre hk hK hN hP hD [] (by decide) rfl trivial) rfl rfl hl.1 rfl (lv_room (Nat.le_of_ble_eq_true rfl)) dX0_way_1 ⟨Nat.le_of_ble_eq_true rfl, Nat.le_of_ble_eq_true rfl⟩) hP hD hS hA [] [0, 1] rfl rfl (by decide) (by decide) (fun r_1 u_2 H locs w_3 hP hD hxw_3 hzw_3 hqw_3 hS => ?_)
  obtain rfl : r_1 = bI (p_in (nI js).toInt64 0 15) := w_3
  refine lv_if_eq (tgt := 26) hx hb dX0_way_4 (by decide) (fun c_4 => absurd c_4 (by rw [in_15 hjs]; decide)) (fun c_4 => ?_)
  refine lv_iload_n hx hb dX0_way_7 rfl (lv_at hl 2 rfl) ?_
  refine k_calli (wr := [(xo, oX xs xu xd xr xf), (xs, rA ca 3 6 sa)]) (va_runS (As := [.int (nI j)]) (rest := []) ⟨hx, hb, hml, hown, hts⟩ (ct_X0_isSheet hk l D ca H.size (nI j)) (va_cwS 1 hts (lw_S q127 q128 q19 q129) rfl rfl rfl (by decide +kernel) ⟨Nat.le_of_ble_eq_true rfl, Nat.le_of_ble_eq_true rfl⟩) (k_pre hk hK hN hP hD [] (by decide) rfl trivial) rfl rfl hl.1 rfl (lv_room (Nat.le_of_ble_eq_true rfl)) dX0_way_8 ⟨Nat.le_of_ble_eq_true rfl, Nat.le_of_ble_eq_true rfl⟩) hP hD hS hA [] [0, 1] rfl rfl (by decide) (by decide) (fun r_5 u_6 H locs w_7 hP hD hxw_7 hzw_7 hqw_7 hS => ?_)
  obtain rfl : r_5 = bI (p_in (nI j).toInt64 0 5) := w_7
  refine lv_if_eq (tgt := 26) hx hb dX0_way_11 (by decide) (fun c_8 => absurd c_8 (by rw [in_5 hj]; decide)) (fun c_8 => ?_)
  refine lv_iload hx hb dX0_way_14 (lv_at hl 4 rfl) ?_
  refine lv_if_eq (tgt := 26) hx hb dX0_way_16 (by decide) (fun c_9 => absurd c_9 h1) (fun c_9 => ?_)
  refine lv_iload hx hb dX0_way_19 (lv_at hl 4 rfl) ?_
  refine lv_bipush (v := 12) hx hb dX0_way_21 (by decide) ?_
  refine lv_icmp_le (tgt := 28) hx hb dX0_way_23 (by decide) (fun c_10 => ?_) (fun c_10 => absurd h2 c_10)
  refine lv_aload_n hx hb dX0_way_28 rfl (lv_at hl 0 rfl) ?_
  refine va_get (D := D) (ci := 0) (v := .ref xs) (C := RX0) (T := TX0) (N := 5) hx hb hts in_X0 hown hK hP 0 rfl rfl 0 (by decide) (hts _ q293) (fun _ h9 => h9) rfl dX0_way_29 ?_
  refine lv_iload_n hx hb dX0_way_32 rfl (lv_at hl 2 rfl) ?_
  refine va_aldq hx hb hK hP 1 3 rfl rfl (vin_nI (a := j) rfl (by omega) (by decide)) dX0_way_33 ?_
  refine W.eq (g2 := F0 m 34 ls [.null]) (by rw [nI_clamp (show j < 2 ^ 31 by omega), hs]; rfl) ?_
  refine nt_lenN hx hb (hml.trans hl.1.symm) hown (hts _ q336) (hts _ q338) (hts _ q337) (hts _ q34) (by decide) (Nat.le_of_ble_eq_true rfl) dX0_way_34 (nt_noteN (nb := 8) hx hl0 (nx_of nx_N hts hX) nx_oN hZ.1 hZ.2 hS (by rw [hml]; exact hl.1) (Nat.le_of_ble_eq_true rfl) (Nat.le_of_ble_eq_true rfl) (Nat.le_of_ble_eq_true rfl) (Nat.le_of_ble_eq_true rfl)) (fun H9 q9 ce hz h9 hce hcv hcl => ?_)
  have hS := vs_same hS hz h9
  have hPz := vp_same hP (h9)
  clear hP
  have hP := hPz
  clear hPz
  obtain ⟨H, rfl⟩ : ∃ z, z = H9 := ⟨_, rfl⟩
  have hP : va_P D vwCl [(xo, oX xs xu xd xr xf), (xs, rA ca 3 6 sa)] H := hP
  have hD : va_D A [(xo, oX xs xu xd xr xf), (xs, rA ca 3 6 sa)] := hD
  refine vx_catch (E := "java/lang/NullPointerException") (name := "java/lang/NullPointerException") hown [] (⟨28, 60, 98, 37⟩ : ExceptionTableEntry) [(⟨61, 95, 98, 37⟩ : ExceptionTableEntry), (⟨28, 60, 103, 25⟩ : ExceptionTableEntry), (⟨61, 95, 103, 25⟩ : ExceptionTableEntry)] (by rw [htb]; rfl) (fun z hz => absurd hz List.not_mem_nil) (by decide) (by decide) (hts _ q145) (va_Nw.use rfl (hN.2.2.2.1 _ (List.mem_of_getElem? (i := 6) rfl))) hce hcv hcl ?_
  refine lv_astore (lv' := [(6, .ref q9), (0, .ref xo), (1, .int (nI js)), (2, .int (nI j)), (3, .int i0), (4, .int n0)]) hx hb dX0_way_98 hl (by decide) rfl (fun ls hl => ?_)
  refine lv_bipush (v := (-11)) hx hb dX0_way_100 (by decide) ?_
  refine vx_ret ?_
  exact k_iret () hx hb hr hlocks (rfl) hP hD trivial hS (Nat.le_of_ble_eq_true rfl) (Nat.le_of_ble_eq_true rfl) dX0_way_102
set_option maxHeartbeats 4000000 in
set_option maxRecDepth 100000 in
theorem ct_X0_way_S0 (l : Launch) (hl0 : l.stackTraces = false) (D : va_G) (ca : Nat → ClassId) (zH : Nat) (xo xs xu xd xr xf : Nat) (sa : Nat → Option Nat) (js j rw n : Nat) (f : AL) (i0 n0 : Int32) (hjs : js < 16) (hj : j < 6) (h1 : ¬ n0 = 0) (h2 : n0 ≤ 12) (hs : sa j = some rw) (hn : n ≤ 16) (hneg : n0 < 0) : vx_Met l yX0_way (wsH_ yX0_way cX0_way 8 (some .int) [((28 : Nat), (60 : Nat), (98 : Nat), (37 : Nat)), ((61 : Nat), (95 : Nat), (98 : Nat), (37 : Nat)), ((28 : Nat), (60 : Nat), (103 : Nat), (25 : Nat)), ((61 : Nat), (95 : Nat), (103 : Nat), (25 : Nat))]) ({ frames := 12, cells := 3, slots := 54, locals := 10400 }) (va_Pc [.ref xo, .int (nI js), .int (nI j), .int i0, .int n0] (prX NW D ca [(xo, oX xs xu xd xr xf), (xs, rA ca 3 6 sa), (rw, rwE ca 0 n f)] zH (fun _ => True))) (qI D (fun (r : Int32) (u : Unit) => r = -13) (fun u => [(xo, oX xs xu xd xr xf), (xs, rA ca 3 6 sa), (rw, rwE ca 0 n f)]) (fun u H => True) (va_A [(xo, oX xs xu xd xr xf), (xs, rA ca 3 6 sa), (rw, rwE ca 0 n f)] zH)) noX 3 54 (va_A [(xo, oX xs xu xd xr xf), (xs, rA ca 3 6 sa), (rw, rwE ca 0 n f)] zH) := by
  have hk := NW_ok
  refine k_ofH (Qc := qI D (fun (r : Int32) (u : Unit) => r = -13) (fun u => [(xo, oX xs xu xd xr xf), (xs, rA ca 3 6 sa), (rw, rwE ca 0 n f)]) (fun u H => True)) (by decide) (Nat.le_of_ble_eq_true rfl) ?_
  intro p e s m below meth c ls A H hH hx hb hr hts hown hlocks hnm hml hsz hP hD hK hN hA hAn hS hro hl hX hZ htb
  have hl : lv_has ls 8 [(0, .ref xo), (1, .int (nI js)), (2, .int (nI j)), (3, .int i0), (4, .int n0)] := hl
  refine lv_iload_n hx hb dX0_way_0 rfl (lv_at hl 1 rfl) ?_
  refine k_calli (wr := [(xo, oX xs xu xd xr xf), (xs, rA ca 3 6 sa), (rw, rwE ca 0 n f)]) (va_runS (As := [.int (nI js)]) (rest := []) ⟨hx, hb, hml, hown, hts⟩ (ct_X0_isRegister hk l D ca H.size (nI js)) (va_cwS 1 hts (lw_S q313 q314 q19 q315) rfl rfl rfl (by decide +kernel) ⟨Nat.le_of_ble_eq_true rfl, Nat.le_of_ble_eq_true rfl⟩) (k_pre hk hK hN hP hD [] (by decide) rfl trivial) rfl rfl hl.1 rfl (lv_room (Nat.le_of_ble_eq_true rfl)) dX0_way_1 ⟨Nat.le_of_ble_eq_true rfl, Nat.le_of_ble_eq_true rfl⟩) hP hD hS hA [] [0, 1, 2] rfl rfl (by decide) (by decide) (fun r_1 u_2 H locs w_3 hP hD hxw_3 hzw_3 hqw_3 hS => ?_)
  obtain rfl : r_1 = bI (p_in (nI js).toInt64 0 15) := w_3
  refine lv_if_eq (tgt := 26) hx hb dX0_way_4 (by decide) (fun c_4 => absurd c_4 (by rw [in_15 hjs]; decide)) (fun c_4 => ?_)
  refine lv_iload_n hx hb dX0_way_7 rfl (lv_at hl 2 rfl) ?_
  refine k_calli (wr := [(xo, oX xs xu xd xr xf), (xs, rA ca 3 6 sa), (rw, rwE ca 0 n f)]) (va_runS (As := [.int (nI j)]) (rest := []) ⟨hx, hb, hml, hown, hts⟩ (ct_X0_isSheet hk l D ca H.size (nI j)) (va_cwS 1 hts (lw_S q127 q128 q19 q129) rfl rfl rfl (by decide +kernel) ⟨Nat.le_of_ble_eq_true rfl, Nat.le_of_ble_eq_true rfl⟩) (k_pre hk hK hN hP hD [] (by decide) rfl trivial) rfl rfl hl.1 rfl (lv_room (Nat.le_of_ble_eq_true rfl)) dX0_way_8 ⟨Nat.le_of_ble_eq_true rfl, Nat.le_of_ble_eq_true rfl⟩) hP hD hS hA [] [0, 1, 2] rfl rfl (by decide) (by decide) (fun r_5 u_6 H locs w_7 hP hD hxw_7 hzw_7 hqw_7 hS => ?_)
  obtain rfl : r_5 = bI (p_in (nI j).toInt64 0 5) := w_7
  refine lv_if_eq (tgt := 26) hx hb dX0_way_11 (by decide) (fun c_8 => absurd c_8 (by rw [in_5 hj]; decide)) (fun c_8 => ?_)
  refine lv_iload hx hb dX0_way_14 (lv_at hl 4 rfl) ?_
  refine lv_if_eq (tgt := 26) hx hb dX0_way_16 (by decide) (fun c_9 => absurd c_9 h1) (fun c_9 => ?_)
  refine lv_iload hx hb dX0_way_19 (lv_at hl 4 rfl) ?_
  refine lv_bipush (v := 12) hx hb dX0_way_21 (by decide) ?_
  refine lv_icmp_le (tgt := 28) hx hb dX0_way_23 (by decide) (fun c_10 => ?_) (fun c_10 => absurd h2 c_10)
  refine lv_aload_n hx hb dX0_way_28 rfl (lv_at hl 0 rfl) ?_
  refine va_get (D := D) (ci := 0) (v := .ref xs) (C := RX0) (T := TX0) (N := 5) hx hb hts in_X0 hown hK hP 0 rfl rfl 0 (by decide) (hts _ q293) (fun _ h9 => h9) rfl dX0_way_29 ?_
  refine lv_iload_n hx hb dX0_way_32 rfl (lv_at hl 2 rfl) ?_
  refine va_aldq hx hb hK hP 1 3 rfl rfl (vin_nI (a := j) rfl (by omega) (by decide)) dX0_way_33 ?_
  refine W.eq (g2 := F0 m 34 ls [.ref rw]) (by rw [nI_clamp (show j < 2 ^ 31 by omega), hs]; rfl) ?_
  refine nt_len (ty := .byte) (v := nI n) hx hb (hml.trans hl.1.symm) hown (hts _ q336) (hts _ q338) (hts _ q337) (hts _ q34) hK hP 2 0 rfl rfl rfl (by decide) (Nat.le_of_ble_eq_true rfl) dX0_way_34 ?_
  refine lv_istore (lv' := [(6, .int (nI n)), (0, .ref xo), (1, .int (nI js)), (2, .int (nI j)), (3, .int i0), (4, .int n0)]) hx hb dX0_way_37 hl (by decide) rfl (fun ls hl => ?_)
  refine lv_iload hx hb dX0_way_39 (lv_at hl 5 rfl) ?_
  refine vx_newarrayZ (atype := .long) hx hb hneg dX0_way_41 (fun tx htx => vx_vm (cls := "java/lang/NegativeArraySizeException") (names := nasU) (nb := 44) hx hl0 (by decide +kernel) (by decide +kernel) (by decide +kernel) (by decide +kernel) (nx_of nx_S hts hX) nx_oS hZ.1 hZ.2 hS (by rw [hml]; exact hl.1) (by rw [htx]; exact negative_text_modelled hneg) (by rw [htx]; exact negative_text_bytes _) (by decide) (Nat.le_of_ble_eq_true rfl) (Nat.le_of_ble_eq_true rfl) (by decide) (Nat.le_of_ble_eq_true rfl) (Nat.le_of_ble_eq_true rfl) hlocks (fun H9 q9 ce hz h9 hS hce hcv hcl => ?_))
  have hPz := vp_same hP (h9)
  clear hP
  have hP := hPz
  clear hPz
  obtain ⟨H, rfl⟩ : ∃ z, z = H9 := ⟨_, rfl⟩
  have hP : va_P D vwCl [(xo, oX xs xu xd xr xf), (xs, rA ca 3 6 sa), (rw, rwE ca 0 n f)] H := hP
  have hD : va_D A [(xo, oX xs xu xd xr xf), (xs, rA ca 3 6 sa), (rw, rwE ca 0 n f)] := hD
  refine vx_catch (E := "java/lang/NegativeArraySizeException") (name := "java/lang/NegativeArraySizeException") hown [(⟨28, 60, 98, 37⟩ : ExceptionTableEntry), (⟨61, 95, 98, 37⟩ : ExceptionTableEntry)] (⟨28, 60, 103, 25⟩ : ExceptionTableEntry) [(⟨61, 95, 103, 25⟩ : ExceptionTableEntry)] (by rw [htb]; rfl) (List.forall_mem_cons.mpr ⟨Or.inr ⟨by decide, "java/lang/NullPointerException", hts _ q145, (hN.2.2.2.2.1 _ (List.mem_of_getElem? (i := 5) rfl))⟩, (List.forall_mem_cons.mpr ⟨Or.inl (by decide), (fun z hz => absurd hz List.not_mem_nil)⟩)⟩) (by decide) (by decide) (hts _ q41) (va_Nw.use rfl (hN.2.2.2.1 _ (List.mem_of_getElem? (i := 5) rfl))) hce hcv hcl ?_
  refine lv_astore (lv' := [(6, .ref q9), (0, .ref xo), (1, .int (nI js)), (2, .int (nI j)), (3, .int i0), (4, .int n0)]) hx hb dX0_way_103 hl (by decide) rfl (fun ls hl => ?_)
  refine lv_bipush (v := (-13)) hx hb dX0_way_105 (by decide) ?_
  refine vx_ret ?_
  exact k_iret () hx hb hr hlocks (rfl) hP hD trivial hS (Nat.le_of_ble_eq_true rfl) (Nat.le_of_ble_eq_true rfl) dX0_way_107
set_option maxHeartbeats 4000000 in
set_option maxRecDepth 100000 in
theorem ct_X0_way_S1 (l : Launch) (hl0 : l.stackTraces = false) (D : va_G) (ca : Nat → ClassId) (zH : Nat) (xo xs xu xd xr xf : Nat) (sa : Nat → Option Nat) (js j rw n : Nat) (f : AL) (i0 n0 : Int32) (hjs : js < 16) (hj : j < 6) (h1 : ¬ n0 = 0) (h2 : n0 ≤ 12) (hs : sa j = some rw) (hn : n ≤ 16) (hneg : n0 < 0) : vx_Met l yX0_way (wsH_ yX0_way cX0_way 8 (some .int) [((28 : Nat), (60 : Nat), (98 : Nat), (37 : Nat)), ((61 : Nat), (95 : Nat), (98 : Nat), (37 : Nat)), ((28 : Nat), (60 : Nat), (103 : Nat), (25 : Nat)), ((61 : Nat), (95 : Nat), (103 : Nat), (25 : Nat))]) ({ frames := 12, cells := 3, slots := 54, locals := 10400 }) (va_Pc [.ref xo, .int (nI js), .int (nI j), .int i0, .int n0] (prX NW D ca [(xo, oX xs xu xd xr xf), (xs, rA ca 3 6 sa), (rw, rwE ca 1 n f)] zH (fun _ => True))) (qI D (fun (r : Int32) (u : Unit) => r = -13) (fun u => [(xo, oX xs xu xd xr xf), (xs, rA ca 3 6 sa), (rw, rwE ca 1 n f)]) (fun u H => True) (va_A [(xo, oX xs xu xd xr xf), (xs, rA ca 3 6 sa), (rw, rwE ca 1 n f)] zH)) noX 3 54 (va_A [(xo, oX xs xu xd xr xf), (xs, rA ca 3 6 sa), (rw, rwE ca 1 n f)] zH) := by
  have hk := NW_ok
  refine k_ofH (Qc := qI D (fun (r : Int32) (u : Unit) => r = -13) (fun u => [(xo, oX xs xu xd xr xf), (xs, rA ca 3 6 sa), (rw, rwE ca 1 n f)]) (fun u H => True)) (by decide) (Nat.le_of_ble_eq_true rfl) ?_
  intro p e s m below meth c ls A H hH hx hb hr hts hown hlocks hnm hml hsz hP hD hK hN hA hAn hS hro hl hX hZ htb
  have hl : lv_has ls 8 [(0, .ref xo), (1, .int (nI js)), (2, .int (nI j)), (3, .int i0), (4, .int n0)] := hl
  refine lv_iload_n hx hb dX0_way_0 rfl (lv_at hl 1 rfl) ?_
  refine k_calli (wr := [(xo, oX xs xu xd xr xf), (xs, rA ca 3 6 sa), (rw, rwE ca 1 n f)]) (va_runS (As := [.int (nI js)]) (rest := []) ⟨hx, hb, hml, hown, hts⟩ (ct_X0_isRegister hk l D ca H.size (nI js)) (va_cwS 1 hts (lw_S q313 q314 q19 q315) rfl rfl rfl (by decide +kernel) ⟨Nat.le_of_ble_eq_true rfl, Nat.le_of_ble_eq_true rfl⟩) (k_pre hk hK hN hP hD [] (by decide) rfl trivial) rfl rfl hl.1 rfl (lv_room (Nat.le_of_ble_eq_true rfl)) dX0_way_1 ⟨Nat.le_of_ble_eq_true rfl, Nat.le_of_ble_eq_true rfl⟩) hP hD hS hA [] [0, 1, 2] rfl rfl (by decide) (by decide) (fun r_1 u_2 H locs w_3 hP hD hxw_3 hzw_3 hqw_3 hS => ?_)
  obtain rfl : r_1 = bI (p_in (nI js).toInt64 0 15) := w_3
  refine lv_if_eq (tgt := 26) hx hb dX0_way_4 (by decide) (fun c_4 => absurd c_4 (by rw [in_15 hjs]; decide)) (fun c_4 => ?_)
  refine lv_iload_n hx hb dX0_way_7 rfl (lv_at hl 2 rfl) ?_
  refine k_calli (wr := [(xo, oX xs xu xd xr xf), (xs, rA ca 3 6 sa), (rw, rwE ca 1 n f)]) (va_runS (As := [.int (nI j)]) (rest := []) ⟨hx, hb, hml, hown, hts⟩ (ct_X0_isSheet hk l D ca H.size (nI j)) (va_cwS 1 hts (lw_S q127 q128 q19 q129) rfl rfl rfl (by decide +kernel) ⟨Nat.le_of_ble_eq_true rfl, Nat.le_of_ble_eq_true rfl⟩) (k_pre hk hK hN hP hD [] (by decide) rfl trivial) rfl rfl hl.1 rfl (lv_room (Nat.le_of_ble_eq_true rfl)) dX0_way_8 ⟨Nat.le_of_ble_eq_true rfl, Nat.le_of_ble_eq_true rfl⟩) hP hD hS hA [] [0, 1, 2] rfl rfl (by decide) (by decide) (fun r_5 u_6 H locs w_7 hP hD hxw_7 hzw_7 hqw_7 hS => ?_)
  obtain rfl : r_5 = bI (p_in (nI j).toInt64 0 5) := w_7
  refine lv_if_eq (tgt := 26) hx hb dX0_way_11 (by decide) (fun c_8 => absurd c_8 (by rw [in_5 hj]; decide)) (fun c_8 => ?_)
  refine lv_iload hx hb dX0_way_14 (lv_at hl 4 rfl) ?_
  refine lv_if_eq (tgt := 26) hx hb dX0_way_16 (by decide) (fun c_9 => absurd c_9 h1) (fun c_9 => ?_)
  refine lv_iload hx hb dX0_way_19 (lv_at hl 4 rfl) ?_
  refine lv_bipush (v := 12) hx hb dX0_way_21 (by decide) ?_
  refine lv_icmp_le (tgt := 28) hx hb dX0_way_23 (by decide) (fun c_10 => ?_) (fun c_10 => absurd h2 c_10)
  refine lv_aload_n hx hb dX0_way_28 rfl (lv_at hl 0 rfl) ?_
  refine va_get (D := D) (ci := 0) (v := .ref xs) (C := RX0) (T := TX0) (N := 5) hx hb hts in_X0 hown hK hP 0 rfl rfl 0 (by decide) (hts _ q293) (fun _ h9 => h9) rfl dX0_way_29 ?_
  refine lv_iload_n hx hb dX0_way_32 rfl (lv_at hl 2 rfl) ?_
  refine va_aldq hx hb hK hP 1 3 rfl rfl (vin_nI (a := j) rfl (by omega) (by decide)) dX0_way_33 ?_
  refine W.eq (g2 := F0 m 34 ls [.ref rw]) (by rw [nI_clamp (show j < 2 ^ 31 by omega), hs]; rfl) ?_
  refine nt_len (ty := .int) (v := nI n) hx hb (hml.trans hl.1.symm) hown (hts _ q336) (hts _ q338) (hts _ q337) (hts _ q34) hK hP 2 1 rfl rfl rfl (by decide) (Nat.le_of_ble_eq_true rfl) dX0_way_34 ?_
  refine lv_istore (lv' := [(6, .int (nI n)), (0, .ref xo), (1, .int (nI js)), (2, .int (nI j)), (3, .int i0), (4, .int n0)]) hx hb dX0_way_37 hl (by decide) rfl (fun ls hl => ?_)
  refine lv_iload hx hb dX0_way_39 (lv_at hl 5 rfl) ?_
  refine vx_newarrayZ (atype := .long) hx hb hneg dX0_way_41 (fun tx htx => vx_vm (cls := "java/lang/NegativeArraySizeException") (names := nasU) (nb := 44) hx hl0 (by decide +kernel) (by decide +kernel) (by decide +kernel) (by decide +kernel) (nx_of nx_S hts hX) nx_oS hZ.1 hZ.2 hS (by rw [hml]; exact hl.1) (by rw [htx]; exact negative_text_modelled hneg) (by rw [htx]; exact negative_text_bytes _) (by decide) (Nat.le_of_ble_eq_true rfl) (Nat.le_of_ble_eq_true rfl) (by decide) (Nat.le_of_ble_eq_true rfl) (Nat.le_of_ble_eq_true rfl) hlocks (fun H9 q9 ce hz h9 hS hce hcv hcl => ?_))
  have hPz := vp_same hP (h9)
  clear hP
  have hP := hPz
  clear hPz
  obtain ⟨H, rfl⟩ : ∃ z, z = H9 := ⟨_, rfl⟩
  have hP : va_P D vwCl [(xo, oX xs xu xd xr xf), (xs, rA ca 3 6 sa), (rw, rwE ca 1 n f)] H := hP
  have hD : va_D A [(xo, oX xs xu xd xr xf), (xs, rA ca 3 6 sa), (rw, rwE ca 1 n f)] := hD
  refine vx_catch (E := "java/lang/NegativeArraySizeException") (name := "java/lang/NegativeArraySizeException") hown [(⟨28, 60, 98, 37⟩ : ExceptionTableEntry), (⟨61, 95, 98, 37⟩ : ExceptionTableEntry)] (⟨28, 60, 103, 25⟩ : ExceptionTableEntry) [(⟨61, 95, 103, 25⟩ : ExceptionTableEntry)] (by rw [htb]; rfl) (List.forall_mem_cons.mpr ⟨Or.inr ⟨by decide, "java/lang/NullPointerException", hts _ q145, (hN.2.2.2.2.1 _ (List.mem_of_getElem? (i := 5) rfl))⟩, (List.forall_mem_cons.mpr ⟨Or.inl (by decide), (fun z hz => absurd hz List.not_mem_nil)⟩)⟩) (by decide) (by decide) (hts _ q41) (va_Nw.use rfl (hN.2.2.2.1 _ (List.mem_of_getElem? (i := 5) rfl))) hce hcv hcl ?_
  refine lv_astore (lv' := [(6, .ref q9), (0, .ref xo), (1, .int (nI js)), (2, .int (nI j)), (3, .int i0), (4, .int n0)]) hx hb dX0_way_103 hl (by decide) rfl (fun ls hl => ?_)
  refine lv_bipush (v := (-13)) hx hb dX0_way_105 (by decide) ?_
  refine vx_ret ?_
  exact k_iret () hx hb hr hlocks (rfl) hP hD trivial hS (Nat.le_of_ble_eq_true rfl) (Nat.le_of_ble_eq_true rfl) dX0_way_107
set_option maxHeartbeats 4000000 in
set_option maxRecDepth 100000 in
theorem ct_X0_way_S2 (l : Launch) (hl0 : l.stackTraces = false) (D : va_G) (ca : Nat → ClassId) (zH : Nat) (xo xs xu xd xr xf : Nat) (sa : Nat → Option Nat) (js j rw n : Nat) (f : AL) (i0 n0 : Int32) (hjs : js < 16) (hj : j < 6) (h1 : ¬ n0 = 0) (h2 : n0 ≤ 12) (hs : sa j = some rw) (hn : n ≤ 16) (hneg : n0 < 0) : vx_Met l yX0_way (wsH_ yX0_way cX0_way 8 (some .int) [((28 : Nat), (60 : Nat), (98 : Nat), (37 : Nat)), ((61 : Nat), (95 : Nat), (98 : Nat), (37 : Nat)), ((28 : Nat), (60 : Nat), (103 : Nat), (25 : Nat)), ((61 : Nat), (95 : Nat), (103 : Nat), (25 : Nat))]) ({ frames := 12, cells := 3, slots := 54, locals := 10400 }) (va_Pc [.ref xo, .int (nI js), .int (nI j), .int i0, .int n0] (prX NW D ca [(xo, oX xs xu xd xr xf), (xs, rA ca 3 6 sa), (rw, rwE ca 2 n f)] zH (fun _ => True))) (qI D (fun (r : Int32) (u : Unit) => r = -13) (fun u => [(xo, oX xs xu xd xr xf), (xs, rA ca 3 6 sa), (rw, rwE ca 2 n f)]) (fun u H => True) (va_A [(xo, oX xs xu xd xr xf), (xs, rA ca 3 6 sa), (rw, rwE ca 2 n f)] zH)) noX 3 54 (va_A [(xo, oX xs xu xd xr xf), (xs, rA ca 3 6 sa), (rw, rwE ca 2 n f)] zH) := by
  have hk := NW_ok
  refine k_ofH (Qc := qI D (fun (r : Int32) (u : Unit) => r = -13) (fun u => [(xo, oX xs xu xd xr xf), (xs, rA ca 3 6 sa), (rw, rwE ca 2 n f)]) (fun u H => True)) (by decide) (Nat.le_of_ble_eq_true rfl) ?_
  intro p e s m below meth c ls A H hH hx hb hr hts hown hlocks hnm hml hsz hP hD hK hN hA hAn hS hro hl hX hZ htb
  have hl : lv_has ls 8 [(0, .ref xo), (1, .int (nI js)), (2, .int (nI j)), (3, .int i0), (4, .int n0)] := hl
  refine lv_iload_n hx hb dX0_way_0 rfl (lv_at hl 1 rfl) ?_
  refine k_calli (wr := [(xo, oX xs xu xd xr xf), (xs, rA ca 3 6 sa), (rw, rwE ca 2 n f)]) (va_runS (As := [.int (nI js)]) (rest := []) ⟨hx, hb, hml, hown, hts⟩ (ct_X0_isRegister hk l D ca H.size (nI js)) (va_cwS 1 hts (lw_S q313 q314 q19 q315) rfl rfl rfl (by decide +kernel) ⟨Nat.le_of_ble_eq_true rfl, Nat.le_of_ble_eq_true rfl⟩) (k_pre hk hK hN hP hD [] (by decide) rfl trivial) rfl rfl hl.1 rfl (lv_room (Nat.le_of_ble_eq_true rfl)) dX0_way_1 ⟨Nat.le_of_ble_eq_true rfl, Nat.le_of_ble_eq_true rfl⟩) hP hD hS hA [] [0, 1, 2] rfl rfl (by decide) (by decide) (fun r_1 u_2 H locs w_3 hP hD hxw_3 hzw_3 hqw_3 hS => ?_)
  obtain rfl : r_1 = bI (p_in (nI js).toInt64 0 15) := w_3
  refine lv_if_eq (tgt := 26) hx hb dX0_way_4 (by decide) (fun c_4 => absurd c_4 (by rw [in_15 hjs]; decide)) (fun c_4 => ?_)
  refine lv_iload_n hx hb dX0_way_7 rfl (lv_at hl 2 rfl) ?_
  refine k_calli (wr := [(xo, oX xs xu xd xr xf), (xs, rA ca 3 6 sa), (rw, rwE ca 2 n f)]) (va_runS (As := [.int (nI j)]) (rest := []) ⟨hx, hb, hml, hown, hts⟩ (ct_X0_isSheet hk l D ca H.size (nI j)) (va_cwS 1 hts (lw_S q127 q128 q19 q129) rfl rfl rfl (by decide +kernel) ⟨Nat.le_of_ble_eq_true rfl, Nat.le_of_ble_eq_true rfl⟩) (k_pre hk hK hN hP hD [] (by decide) rfl trivial) rfl rfl hl.1 rfl (lv_room (Nat.le_of_ble_eq_true rfl)) dX0_way_8 ⟨Nat.le_of_ble_eq_true rfl, Nat.le_of_ble_eq_true rfl⟩) hP hD hS hA [] [0, 1, 2] rfl rfl (by decide) (by decide) (fun r_5 u_6 H locs w_7 hP hD hxw_7 hzw_7 hqw_7 hS => ?_)
  obtain rfl : r_5 = bI (p_in (nI j).toInt64 0 5) := w_7
  refine lv_if_eq (tgt := 26) hx hb dX0_way_11 (by decide) (fun c_8 => absurd c_8 (by rw [in_5 hj]; decide)) (fun c_8 => ?_)
  refine lv_iload hx hb dX0_way_14 (lv_at hl 4 rfl) ?_
  refine lv_if_eq (tgt := 26) hx hb dX0_way_16 (by decide) (fun c_9 => absurd c_9 h1) (fun c_9 => ?_)
  refine lv_iload hx hb dX0_way_19 (lv_at hl 4 rfl) ?_
  refine lv_bipush (v := 12) hx hb dX0_way_21 (by decide) ?_
  refine lv_icmp_le (tgt := 28) hx hb dX0_way_23 (by decide) (fun c_10 => ?_) (fun c_10 => absurd h2 c_10)
  refine lv_aload_n hx hb dX0_way_28 rfl (lv_at hl 0 rfl) ?_
  refine va_get (D := D) (ci := 0) (v := .ref xs) (C := RX0) (T := TX0) (N := 5) hx hb hts in_X0 hown hK hP 0 rfl rfl 0 (by decide) (hts _ q293) (fun _ h9 => h9) rfl dX0_way_29 ?_
  refine lv_iload_n hx hb dX0_way_32 rfl (lv_at hl 2 rfl) ?_
  refine va_aldq hx hb hK hP 1 3 rfl rfl (vin_nI (a := j) rfl (by omega) (by decide)) dX0_way_33 ?_
  refine W.eq (g2 := F0 m 34 ls [.ref rw]) (by rw [nI_clamp (show j < 2 ^ 31 by omega), hs]; rfl) ?_
  refine nt_len (ty := .long) (v := nI n) hx hb (hml.trans hl.1.symm) hown (hts _ q336) (hts _ q338) (hts _ q337) (hts _ q34) hK hP 2 2 rfl rfl rfl (by decide) (Nat.le_of_ble_eq_true rfl) dX0_way_34 ?_
  refine lv_istore (lv' := [(6, .int (nI n)), (0, .ref xo), (1, .int (nI js)), (2, .int (nI j)), (3, .int i0), (4, .int n0)]) hx hb dX0_way_37 hl (by decide) rfl (fun ls hl => ?_)
  refine lv_iload hx hb dX0_way_39 (lv_at hl 5 rfl) ?_
  refine vx_newarrayZ (atype := .long) hx hb hneg dX0_way_41 (fun tx htx => vx_vm (cls := "java/lang/NegativeArraySizeException") (names := nasU) (nb := 44) hx hl0 (by decide +kernel) (by decide +kernel) (by decide +kernel) (by decide +kernel) (nx_of nx_S hts hX) nx_oS hZ.1 hZ.2 hS (by rw [hml]; exact hl.1) (by rw [htx]; exact negative_text_modelled hneg) (by rw [htx]; exact negative_text_bytes _) (by decide) (Nat.le_of_ble_eq_true rfl) (Nat.le_of_ble_eq_true rfl) (by decide) (Nat.le_of_ble_eq_true rfl) (Nat.le_of_ble_eq_true rfl) hlocks (fun H9 q9 ce hz h9 hS hce hcv hcl => ?_))
  have hPz := vp_same hP (h9)
  clear hP
  have hP := hPz
  clear hPz
  obtain ⟨H, rfl⟩ : ∃ z, z = H9 := ⟨_, rfl⟩
  have hP : va_P D vwCl [(xo, oX xs xu xd xr xf), (xs, rA ca 3 6 sa), (rw, rwE ca 2 n f)] H := hP
  have hD : va_D A [(xo, oX xs xu xd xr xf), (xs, rA ca 3 6 sa), (rw, rwE ca 2 n f)] := hD
  refine vx_catch (E := "java/lang/NegativeArraySizeException") (name := "java/lang/NegativeArraySizeException") hown [(⟨28, 60, 98, 37⟩ : ExceptionTableEntry), (⟨61, 95, 98, 37⟩ : ExceptionTableEntry)] (⟨28, 60, 103, 25⟩ : ExceptionTableEntry) [(⟨61, 95, 103, 25⟩ : ExceptionTableEntry)] (by rw [htb]; rfl) (List.forall_mem_cons.mpr ⟨Or.inr ⟨by decide, "java/lang/NullPointerException", hts _ q145, (hN.2.2.2.2.1 _ (List.mem_of_getElem? (i := 5) rfl))⟩, (List.forall_mem_cons.mpr ⟨Or.inl (by decide), (fun z hz => absurd hz List.not_mem_nil)⟩)⟩) (by decide) (by decide) (hts _ q41) (va_Nw.use rfl (hN.2.2.2.1 _ (List.mem_of_getElem? (i := 5) rfl))) hce hcv hcl ?_
  refine lv_astore (lv' := [(6, .ref q9), (0, .ref xo), (1, .int (nI js)), (2, .int (nI j)), (3, .int i0), (4, .int n0)]) hx hb dX0_way_103 hl (by decide) rfl (fun ls hl => ?_)
  refine lv_bipush (v := (-13)) hx hb dX0_way_105 (by decide) ?_
  refine vx_ret ?_
  exact k_iret () hx hb hr hlocks (rfl) hP hD trivial hS (Nat.le_of_ble_eq_true rfl) (Nat.le_of_ble_eq_true rfl) dX0_way_107
set_option maxHeartbeats 4000000 in
set_option maxRecDepth 100000 in
theorem ct_X0_way_I0 (l : Launch) (hl0 : l.stackTraces = false) (D : va_G) (ca : Nat → ClassId) (zH : Nat) (xo xs xu xd xr xf : Nat) (sa : Nat → Option Nat) (js j rw n nn : Nat) (f : AL) (i0 : Int32) (hjs : js < 16) (hj : j < 6) (hn1 : 0 < nn) (hn2 : nn ≤ 12) (hs : sa j = some rw) (hn : n ≤ 16) (hout : i0 < 0 ∨ ∃ a : Nat, i0 = nI a ∧ a < 2 ^ 31 ∧ n < a + nn) : vx_Met l yX0_way (wsH_ yX0_way cX0_way 8 (some .int) [((28 : Nat), (60 : Nat), (98 : Nat), (37 : Nat)), ((61 : Nat), (95 : Nat), (98 : Nat), (37 : Nat)), ((28 : Nat), (60 : Nat), (103 : Nat), (25 : Nat)), ((61 : Nat), (95 : Nat), (103 : Nat), (25 : Nat))]) ({ frames := 12, cells := 1, slots := 12, locals := 10400 }) (va_Pc [.ref xo, .int (nI js), .int (nI j), .int i0, .int (nI nn)] (prX NW D ca [(xo, oX xs xu xd xr xf), (xs, rA ca 3 6 sa), (rw, rwE ca 0 n f)] zH (fun _ => True))) (qI D (fun (r : Int32) (u : Unit) => r = -12) (fun u => [(xo, oX xs xu xd xr xf), (xs, rA ca 3 6 sa), (rw, rwE ca 0 n f)]) (fun u H => True) (va_A [(xo, oX xs xu xd xr xf), (xs, rA ca 3 6 sa), (rw, rwE ca 0 n f)] zH)) noX 1 12 (va_A [(xo, oX xs xu xd xr xf), (xs, rA ca 3 6 sa), (rw, rwE ca 0 n f)] zH) := by
  have hk := NW_ok
  refine k_ofH (Qc := qI D (fun (r : Int32) (u : Unit) => r = -12) (fun u => [(xo, oX xs xu xd xr xf), (xs, rA ca 3 6 sa), (rw, rwE ca 0 n f)]) (fun u H => True)) (by decide) (Nat.le_of_ble_eq_true rfl) ?_
  intro p e s m below meth c ls A H hH hx hb hr hts hown hlocks hnm hml hsz hP hD hK hN hA hAn hS hro hl hX hZ htb
  have hl : lv_has ls 8 [(0, .ref xo), (1, .int (nI js)), (2, .int (nI j)), (3, .int i0), (4, .int (nI nn))] := hl
  refine lv_iload_n hx hb dX0_way_0 rfl (lv_at hl 1 rfl) ?_
  refine k_calli (wr := [(xo, oX xs xu xd xr xf), (xs, rA ca 3 6 sa), (rw, rwE ca 0 n f)]) (va_runS (As := [.int (nI js)]) (rest := []) ⟨hx, hb, hml, hown, hts⟩ (ct_X0_isRegister hk l D ca H.size (nI js)) (va_cwS 1 hts (lw_S q313 q314 q19 q315) rfl rfl rfl (by decide +kernel) ⟨Nat.le_of_ble_eq_true rfl, Nat.le_of_ble_eq_true rfl⟩) (k_pre hk hK hN hP hD [] (by decide) rfl trivial) rfl rfl hl.1 rfl (lv_room (Nat.le_of_ble_eq_true rfl)) dX0_way_1 ⟨Nat.le_of_ble_eq_true rfl, Nat.le_of_ble_eq_true rfl⟩) hP hD hS hA [] [0, 1, 2] rfl rfl (by decide) (by decide) (fun r_1 u_2 H locs w_3 hP hD hxw_3 hzw_3 hqw_3 hS => ?_)
  obtain rfl : r_1 = bI (p_in (nI js).toInt64 0 15) := w_3
  refine lv_if_eq (tgt := 26) hx hb dX0_way_4 (by decide) (fun c_4 => absurd c_4 (by rw [in_15 hjs]; decide)) (fun c_4 => ?_)
  refine lv_iload_n hx hb dX0_way_7 rfl (lv_at hl 2 rfl) ?_
  refine k_calli (wr := [(xo, oX xs xu xd xr xf), (xs, rA ca 3 6 sa), (rw, rwE ca 0 n f)]) (va_runS (As := [.int (nI j)]) (rest := []) ⟨hx, hb, hml, hown, hts⟩ (ct_X0_isSheet hk l D ca H.size (nI j)) (va_cwS 1 hts (lw_S q127 q128 q19 q129) rfl rfl rfl (by decide +kernel) ⟨Nat.le_of_ble_eq_true rfl, Nat.le_of_ble_eq_true rfl⟩) (k_pre hk hK hN hP hD [] (by decide) rfl trivial) rfl rfl hl.1 rfl (lv_room (Nat.le_of_ble_eq_true rfl)) dX0_way_8 ⟨Nat.le_of_ble_eq_true rfl, Nat.le_of_ble_eq_true rfl⟩) hP hD hS hA [] [0, 1, 2] rfl rfl (by decide) (by decide) (fun r_5 u_6 H locs w_7 hP hD hxw_7 hzw_7 hqw_7 hS => ?_)
  obtain rfl : r_5 = bI (p_in (nI j).toInt64 0 5) := w_7
  refine lv_if_eq (tgt := 26) hx hb dX0_way_11 (by decide) (fun c_8 => absurd c_8 (by rw [in_5 hj]; decide)) (fun c_8 => ?_)
  refine lv_iload hx hb dX0_way_14 (lv_at hl 4 rfl) ?_
  refine lv_if_eq (tgt := 26) hx hb dX0_way_16 (by decide) (fun c_9 => absurd c_9 (nI_ne0 hn1 (by omega))) (fun c_9 => ?_)
  refine lv_iload hx hb dX0_way_19 (lv_at hl 4 rfl) ?_
  refine lv_bipush (v := 12) hx hb dX0_way_21 (by decide) ?_
  refine lv_icmp_le (tgt := 28) hx hb dX0_way_23 (by decide) (fun c_10 => ?_) (fun c_10 => absurd (nI_le (b := 12) hn2 (by decide)) c_10)
  refine lv_aload_n hx hb dX0_way_28 rfl (lv_at hl 0 rfl) ?_
  refine va_get (D := D) (ci := 0) (v := .ref xs) (C := RX0) (T := TX0) (N := 5) hx hb hts in_X0 hown hK hP 0 rfl rfl 0 (by decide) (hts _ q293) (fun _ h9 => h9) rfl dX0_way_29 ?_
  refine lv_iload_n hx hb dX0_way_32 rfl (lv_at hl 2 rfl) ?_
  refine va_aldq hx hb hK hP 1 3 rfl rfl (vin_nI (a := j) rfl (by omega) (by decide)) dX0_way_33 ?_
  refine W.eq (g2 := F0 m 34 ls [.ref rw]) (by rw [nI_clamp (show j < 2 ^ 31 by omega), hs]; rfl) ?_
  refine nt_len (ty := .byte) (v := nI n) hx hb (hml.trans hl.1.symm) hown (hts _ q336) (hts _ q338) (hts _ q337) (hts _ q34) hK hP 2 0 rfl rfl rfl (by decide) (Nat.le_of_ble_eq_true rfl) dX0_way_34 ?_
  refine lv_istore (lv' := [(6, .int (nI n)), (0, .ref xo), (1, .int (nI js)), (2, .int (nI j)), (3, .int i0), (4, .int (nI nn))]) hx hb dX0_way_37 hl (by decide) rfl (fun ls hl => ?_)
  refine lv_iload hx hb dX0_way_39 (lv_at hl 5 rfl) ?_
  refine va_newa (atype := .long) (a0 := (nn, .inr (.inl (fun _ => 0)))) hx hb (hts _ q140) rfl hK hP hD hS hA (fun _ => rfl) (fun h => absurd (lt_y (a := nn) (b := 0) rfl rfl (by omega) (by decide) h) (Nat.not_lt_zero nn)) (nI_clamp (show nn < 2 ^ 31 by omega)) (by show nn * 8 ≤ 536870912; omega) (Nat.le_of_ble_eq_true rfl) (by show 0 + nn ≤ 12; omega) dX0_way_41 (fun pa cA H hK9 hP hD hS => ?_)
  have ecA : cA = ca 2 := Option.some.inj (((hK9.2 6 _ rfl).2).symm.trans ((hK.2 2 _ rfl).2))
  subst ecA
  refine W.widen (k := 1) (n := 12) (by omega) (by show 0 + nn ≤ 12; omega) ?_
  have hP : va_P D vwCl [(xo, oX xs xu xd xr xf), (xs, rA ca 3 6 sa), (rw, rwE ca 0 n f), (pa, aL ca nn (fun _ => 0))] H := hP
  have hD : va_D A [(xo, oX xs xu xd xr xf), (xs, rA ca 3 6 sa), (rw, rwE ca 0 n f), (pa, aL ca nn (fun _ => 0))] := hD
  refine lv_astore (lv' := [(5, .ref pa), (6, .int (nI n)), (0, .ref xo), (1, .int (nI js)), (2, .int (nI j)), (3, .int i0), (4, .int (nI nn))]) hx hb dX0_way_43 hl (by decide) rfl (fun ls hl => ?_)
  rcases hout with hneg | ⟨a9, rfl, ha9, ha8⟩
  · refine lv_iload_n hx hb dX0_way_45 rfl (lv_at hl 5 rfl) ?_
    refine lv_if_lt (tgt := 58) hx hb dX0_way_46 (by decide) (fun c_11 => ?_) (fun c_11 => absurd hneg c_11)
    refine lv_bipush (v := (-12)) hx hb dX0_way_58 (by decide) ?_
    refine vx_ret ?_
    exact k_iret () hx hb hr hlocks (rfl) (hP.sub [0, 1, 2] rfl) (hD.sub [0, 1, 2] (by decide) rfl) trivial hS (Nat.le_of_ble_eq_true rfl) (Nat.le_of_ble_eq_true rfl) dX0_way_60
  · refine lv_iload_n hx hb dX0_way_45 rfl (lv_at hl 5 rfl) ?_
    refine lv_if_lt (tgt := 58) hx hb dX0_way_46 (by decide) (fun c_12 => absurd c_12 (fun z => absurd (lt_y (a := a9) (b := 0) rfl rfl (by omega) (by decide) z) (Nat.not_lt_zero _))) (fun c_12 => ?_)
    refine lv_iload_n hx hb dX0_way_49 rfl (lv_at hl 5 rfl) ?_
    refine lv_iload hx hb dX0_way_50 (lv_at hl 1 rfl) ?_
    refine lv_iload hx hb dX0_way_52 (lv_at hl 6 rfl) ?_
    refine lv_isub hx hb dX0_way_54 ?_
    refine lv_icmp_le (tgt := 61) hx hb dX0_way_55 (by decide) (fun c_13 => absurd c_13 (fun z => absurd ((subn_le hn hn2 (by omega)).mp z) (by omega))) (fun c_13 => ?_)
    refine lv_bipush (v := (-12)) hx hb dX0_way_58 (by decide) ?_
    refine vx_ret ?_
    exact k_iret () hx hb hr hlocks (rfl) (hP.sub [0, 1, 2] rfl) (hD.sub [0, 1, 2] (by decide) rfl) trivial hS (Nat.le_of_ble_eq_true rfl) (Nat.le_of_ble_eq_true rfl) dX0_way_60
set_option maxHeartbeats 4000000 in
set_option maxRecDepth 100000 in
theorem ct_X0_way_I1 (l : Launch) (hl0 : l.stackTraces = false) (D : va_G) (ca : Nat → ClassId) (zH : Nat) (xo xs xu xd xr xf : Nat) (sa : Nat → Option Nat) (js j rw n nn : Nat) (f : AL) (i0 : Int32) (hjs : js < 16) (hj : j < 6) (hn1 : 0 < nn) (hn2 : nn ≤ 12) (hs : sa j = some rw) (hn : n ≤ 16) (hout : i0 < 0 ∨ ∃ a : Nat, i0 = nI a ∧ a < 2 ^ 31 ∧ n < a + nn) : vx_Met l yX0_way (wsH_ yX0_way cX0_way 8 (some .int) [((28 : Nat), (60 : Nat), (98 : Nat), (37 : Nat)), ((61 : Nat), (95 : Nat), (98 : Nat), (37 : Nat)), ((28 : Nat), (60 : Nat), (103 : Nat), (25 : Nat)), ((61 : Nat), (95 : Nat), (103 : Nat), (25 : Nat))]) ({ frames := 12, cells := 1, slots := 12, locals := 10400 }) (va_Pc [.ref xo, .int (nI js), .int (nI j), .int i0, .int (nI nn)] (prX NW D ca [(xo, oX xs xu xd xr xf), (xs, rA ca 3 6 sa), (rw, rwE ca 1 n f)] zH (fun _ => True))) (qI D (fun (r : Int32) (u : Unit) => r = -12) (fun u => [(xo, oX xs xu xd xr xf), (xs, rA ca 3 6 sa), (rw, rwE ca 1 n f)]) (fun u H => True) (va_A [(xo, oX xs xu xd xr xf), (xs, rA ca 3 6 sa), (rw, rwE ca 1 n f)] zH)) noX 1 12 (va_A [(xo, oX xs xu xd xr xf), (xs, rA ca 3 6 sa), (rw, rwE ca 1 n f)] zH) := by
  have hk := NW_ok
  refine k_ofH (Qc := qI D (fun (r : Int32) (u : Unit) => r = -12) (fun u => [(xo, oX xs xu xd xr xf), (xs, rA ca 3 6 sa), (rw, rwE ca 1 n f)]) (fun u H => True)) (by decide) (Nat.le_of_ble_eq_true rfl) ?_
  intro p e s m below meth c ls A H hH hx hb hr hts hown hlocks hnm hml hsz hP hD hK hN hA hAn hS hro hl hX hZ htb
  have hl : lv_has ls 8 [(0, .ref xo), (1, .int (nI js)), (2, .int (nI j)), (3, .int i0), (4, .int (nI nn))] := hl
  refine lv_iload_n hx hb dX0_way_0 rfl (lv_at hl 1 rfl) ?_
  refine k_calli (wr := [(xo, oX xs xu xd xr xf), (xs, rA ca 3 6 sa), (rw, rwE ca 1 n f)]) (va_runS (As := [.int (nI js)]) (rest := []) ⟨hx, hb, hml, hown, hts⟩ (ct_X0_isRegister hk l D ca H.size (nI js)) (va_cwS 1 hts (lw_S q313 q314 q19 q315) rfl rfl rfl (by decide +kernel) ⟨Nat.le_of_ble_eq_true rfl, Nat.le_of_ble_eq_true rfl⟩) (k_pre hk hK hN hP hD [] (by decide) rfl trivial) rfl rfl hl.1 rfl (lv_room (Nat.le_of_ble_eq_true rfl)) dX0_way_1 ⟨Nat.le_of_ble_eq_true rfl, Nat.le_of_ble_eq_true rfl⟩) hP hD hS hA [] [0, 1, 2] rfl rfl (by decide) (by decide) (fun r_1 u_2 H locs w_3 hP hD hxw_3 hzw_3 hqw_3 hS => ?_)
  obtain rfl : r_1 = bI (p_in (nI js).toInt64 0 15) := w_3
  refine lv_if_eq (tgt := 26) hx hb dX0_way_4 (by decide) (fun c_4 => absurd c_4 (by rw [in_15 hjs]; decide)) (fun c_4 => ?_)
  refine lv_iload_n hx hb dX0_way_7 rfl (lv_at hl 2 rfl) ?_
  refine k_calli (wr := [(xo, oX xs xu xd xr xf), (xs, rA ca 3 6 sa), (rw, rwE ca 1 n f)]) (va_runS (As := [.int (nI j)]) (rest := []) ⟨hx, hb, hml, hown, hts⟩ (ct_X0_isSheet hk l D ca H.size (nI j)) (va_cwS 1 hts (lw_S q127 q128 q19 q129) rfl rfl rfl (by decide +kernel) ⟨Nat.le_of_ble_eq_true rfl, Nat.le_of_ble_eq_true rfl⟩) (k_pre hk hK hN hP hD [] (by decide) rfl trivial) rfl rfl hl.1 rfl (lv_room (Nat.le_of_ble_eq_true rfl)) dX0_way_8 ⟨Nat.le_of_ble_eq_true rfl, Nat.le_of_ble_eq_true rfl⟩) hP hD hS hA [] [0, 1, 2] rfl rfl (by decide) (by decide) (fun r_5 u_6 H locs w_7 hP hD hxw_7 hzw_7 hqw_7 hS => ?_)
  obtain rfl : r_5 = bI (p_in (nI j).toInt64 0 5) := w_7
  refine lv_if_eq (tgt := 26) hx hb dX0_way_11 (by decide) (fun c_8 => absurd c_8 (by rw [in_5 hj]; decide)) (fun c_8 => ?_)
  refine lv_iload hx hb dX0_way_14 (lv_at hl 4 rfl) ?_
  refine lv_if_eq (tgt := 26) hx hb dX0_way_16 (by decide) (fun c_9 => absurd c_9 (nI_ne0 hn1 (by omega))) (fun c_9 => ?_)
  refine lv_iload hx hb dX0_way_19 (lv_at hl 4 rfl) ?_
  refine lv_bipush (v := 12) hx hb dX0_way_21 (by decide) ?_
  refine lv_icmp_le (tgt := 28) hx hb dX0_way_23 (by decide) (fun c_10 => ?_) (fun c_10 => absurd (nI_le (b := 12) hn2 (by decide)) c_10)
  refine lv_aload_n hx hb dX0_way_28 rfl (lv_at hl 0 rfl) ?_
  refine va_get (D := D) (ci := 0) (v := .ref xs) (C := RX0) (T := TX0) (N := 5) hx hb hts in_X0 hown hK hP 0 rfl rfl 0 (by decide) (hts _ q293) (fun _ h9 => h9) rfl dX0_way_29 ?_
  refine lv_iload_n hx hb dX0_way_32 rfl (lv_at hl 2 rfl) ?_
  refine va_aldq hx hb hK hP 1 3 rfl rfl (vin_nI (a := j) rfl (by omega) (by decide)) dX0_way_33 ?_
  refine W.eq (g2 := F0 m 34 ls [.ref rw]) (by rw [nI_clamp (show j < 2 ^ 31 by omega), hs]; rfl) ?_
  refine nt_len (ty := .int) (v := nI n) hx hb (hml.trans hl.1.symm) hown (hts _ q336) (hts _ q338) (hts _ q337) (hts _ q34) hK hP 2 1 rfl rfl rfl (by decide) (Nat.le_of_ble_eq_true rfl) dX0_way_34 ?_
  refine lv_istore (lv' := [(6, .int (nI n)), (0, .ref xo), (1, .int (nI js)), (2, .int (nI j)), (3, .int i0), (4, .int (nI nn))]) hx hb dX0_way_37 hl (by decide) rfl (fun ls hl => ?_)
  refine lv_iload hx hb dX0_way_39 (lv_at hl 5 rfl) ?_
  refine va_newa (atype := .long) (a0 := (nn, .inr (.inl (fun _ => 0)))) hx hb (hts _ q140) rfl hK hP hD hS hA (fun _ => rfl) (fun h => absurd (lt_y (a := nn) (b := 0) rfl rfl (by omega) (by decide) h) (Nat.not_lt_zero nn)) (nI_clamp (show nn < 2 ^ 31 by omega)) (by show nn * 8 ≤ 536870912; omega) (Nat.le_of_ble_eq_true rfl) (by show 0 + nn ≤ 12; omega) dX0_way_41 (fun pa cA H hK9 hP hD hS => ?_)
  have ecA : cA = ca 2 := Option.some.inj (((hK9.2 6 _ rfl).2).symm.trans ((hK.2 2 _ rfl).2))
  subst ecA
  refine W.widen (k := 1) (n := 12) (by omega) (by show 0 + nn ≤ 12; omega) ?_
  have hP : va_P D vwCl [(xo, oX xs xu xd xr xf), (xs, rA ca 3 6 sa), (rw, rwE ca 1 n f), (pa, aL ca nn (fun _ => 0))] H := hP
  have hD : va_D A [(xo, oX xs xu xd xr xf), (xs, rA ca 3 6 sa), (rw, rwE ca 1 n f), (pa, aL ca nn (fun _ => 0))] := hD
  refine lv_astore (lv' := [(5, .ref pa), (6, .int (nI n)), (0, .ref xo), (1, .int (nI js)), (2, .int (nI j)), (3, .int i0), (4, .int (nI nn))]) hx hb dX0_way_43 hl (by decide) rfl (fun ls hl => ?_)
  rcases hout with hneg | ⟨a9, rfl, ha9, ha8⟩
  · refine lv_iload_n hx hb dX0_way_45 rfl (lv_at hl 5 rfl) ?_
    refine lv_if_lt (tgt := 58) hx hb dX0_way_46 (by decide) (fun c_11 => ?_) (fun c_11 => absurd hneg c_11)
    refine lv_bipush (v := (-12)) hx hb dX0_way_58 (by decide) ?_
    refine vx_ret ?_
    exact k_iret () hx hb hr hlocks (rfl) (hP.sub [0, 1, 2] rfl) (hD.sub [0, 1, 2] (by decide) rfl) trivial hS (Nat.le_of_ble_eq_true rfl) (Nat.le_of_ble_eq_true rfl) dX0_way_60
  · refine lv_iload_n hx hb dX0_way_45 rfl (lv_at hl 5 rfl) ?_
    refine lv_if_lt (tgt := 58) hx hb dX0_way_46 (by decide) (fun c_12 => absurd c_12 (fun z => absurd (lt_y (a := a9) (b := 0) rfl rfl (by omega) (by decide) z) (Nat.not_lt_zero _))) (fun c_12 => ?_)
    refine lv_iload_n hx hb dX0_way_49 rfl (lv_at hl 5 rfl) ?_
    refine lv_iload hx hb dX0_way_50 (lv_at hl 1 rfl) ?_
    refine lv_iload hx hb dX0_way_52 (lv_at hl 6 rfl) ?_
    refine lv_isub hx hb dX0_way_54 ?_
    refine lv_icmp_le (tgt := 61) hx hb dX0_way_55 (by decide) (fun c_13 => absurd c_13 (fun z => absurd ((subn_le hn hn2 (by omega)).mp z) (by omega))) (fun c_13 => ?_)
    refine lv_bipush (v := (-12)) hx hb dX0_way_58 (by decide) ?_
    refine vx_ret ?_
    exact k_iret () hx hb hr hlocks (rfl) (hP.sub [0, 1, 2] rfl) (hD.sub [0, 1, 2] (by decide) rfl) trivial hS (Nat.le_of_ble_eq_true rfl) (Nat.le_of_ble_eq_true rfl) dX0_way_60
set_option maxHeartbeats 4000000 in
set_option maxRecDepth 100000 in
theorem ct_X0_way_I2 (l : Launch) (hl0 : l.stackTraces = false) (D : va_G) (ca : Nat → ClassId) (zH : Nat) (xo xs xu xd xr xf : Nat) (sa : Nat → Option Nat) (js j rw n nn : Nat) (f : AL) (i0 : Int32) (hjs : js < 16) (hj : j < 6) (hn1 : 0 < nn) (hn2 : nn ≤ 12) (hs : sa j = some rw) (hn : n ≤ 16) (hout : i0 < 0 ∨ ∃ a : Nat, i0 = nI a ∧ a < 2 ^ 31 ∧ n < a + nn) : vx_Met l yX0_way (wsH_ yX0_way cX0_way 8 (some .int) [((28 : Nat), (60 : Nat), (98 : Nat), (37 : Nat)), ((61 : Nat), (95 : Nat), (98 : Nat), (37 : Nat)), ((28 : Nat), (60 : Nat), (103 : Nat), (25 : Nat)), ((61 : Nat), (95 : Nat), (103 : Nat), (25 : Nat))]) ({ frames := 12, cells := 1, slots := 12, locals := 10400 }) (va_Pc [.ref xo, .int (nI js), .int (nI j), .int i0, .int (nI nn)] (prX NW D ca [(xo, oX xs xu xd xr xf), (xs, rA ca 3 6 sa), (rw, rwE ca 2 n f)] zH (fun _ => True))) (qI D (fun (r : Int32) (u : Unit) => r = -12) (fun u => [(xo, oX xs xu xd xr xf), (xs, rA ca 3 6 sa), (rw, rwE ca 2 n f)]) (fun u H => True) (va_A [(xo, oX xs xu xd xr xf), (xs, rA ca 3 6 sa), (rw, rwE ca 2 n f)] zH)) noX 1 12 (va_A [(xo, oX xs xu xd xr xf), (xs, rA ca 3 6 sa), (rw, rwE ca 2 n f)] zH) := by
  have hk := NW_ok
  refine k_ofH (Qc := qI D (fun (r : Int32) (u : Unit) => r = -12) (fun u => [(xo, oX xs xu xd xr xf), (xs, rA ca 3 6 sa), (rw, rwE ca 2 n f)]) (fun u H => True)) (by decide) (Nat.le_of_ble_eq_true rfl) ?_
  intro p e s m below meth c ls A H hH hx hb hr hts hown hlocks hnm hml hsz hP hD hK hN hA hAn hS hro hl hX hZ htb
  have hl : lv_has ls 8 [(0, .ref xo), (1, .int (nI js)), (2, .int (nI j)), (3, .int i0), (4, .int (nI nn))] := hl
  refine lv_iload_n hx hb dX0_way_0 rfl (lv_at hl 1 rfl) ?_
  refine k_calli (wr := [(xo, oX xs xu xd xr xf), (xs, rA ca 3 6 sa), (rw, rwE ca 2 n f)]) (va_runS (As := [.int (nI js)]) (rest := []) ⟨hx, hb, hml, hown, hts⟩ (ct_X0_isRegister hk l D ca H.size (nI js)) (va_cwS 1 hts (lw_S q313 q314 q19 q315) rfl rfl rfl (by decide +kernel) ⟨Nat.le_of_ble_eq_true rfl, Nat.le_of_ble_eq_true rfl⟩) (k_pre hk hK hN hP hD [] (by decide) rfl trivial) rfl rfl hl.1 rfl (lv_room (Nat.le_of_ble_eq_true rfl)) dX0_way_1 ⟨Nat.le_of_ble_eq_true rfl, Nat.le_of_ble_eq_true rfl⟩) hP hD hS hA [] [0, 1, 2] rfl rfl (by decide) (by decide) (fun r_1 u_2 H locs w_3 hP hD hxw_3 hzw_3 hqw_3 hS => ?_)
  obtain rfl : r_1 = bI (p_in (nI js).toInt64 0 15) := w_3
  refine lv_if_eq (tgt := 26) hx hb dX0_way_4 (by decide) (fun c_4 => absurd c_4 (by rw [in_15 hjs]; decide)) (fun c_4 => ?_)
  refine lv_iload_n hx hb dX0_way_7 rfl (lv_at hl 2 rfl) ?_
  refine k_calli (wr := [(xo, oX xs xu xd xr xf), (xs, rA ca 3 6 sa), (rw, rwE ca 2 n f)]) (va_runS (As := [.int (nI j)]) (rest := []) ⟨hx, hb, hml, hown, hts⟩ (ct_X0_isSheet hk l D ca H.size (nI j)) (va_cwS 1 hts (lw_S q127 q128 q19 q129) rfl rfl rfl (by decide +kernel) ⟨Nat.le_of_ble_eq_true rfl, Nat.le_of_ble_eq_true rfl⟩) (k_pre hk hK hN hP hD [] (by decide) rfl trivial) rfl rfl hl.1 rfl (lv_room (Nat.le_of_ble_eq_true rfl)) dX0_way_8 ⟨Nat.le_of_ble_eq_true rfl, Nat.le_of_ble_eq_true rfl⟩) hP hD hS hA [] [0, 1, 2] rfl rfl (by decide) (by decide) (fun r_5 u_6 H locs w_7 hP hD hxw_7 hzw_7 hqw_7 hS => ?_)
  obtain rfl : r_5 = bI (p_in (nI j).toInt64 0 5) := w_7
  refine lv_if_eq (tgt := 26) hx hb dX0_way_11 (by decide) (fun c_8 => absurd c_8 (by rw [in_5 hj]; decide)) (fun c_8 => ?_)
  refine lv_iload hx hb dX0_way_14 (lv_at hl 4 rfl) ?_
  refine lv_if_eq (tgt := 26) hx hb dX0_way_16 (by decide) (fun c_9 => absurd c_9 (nI_ne0 hn1 (by omega))) (fun c_9 => ?_)
  refine lv_iload hx hb dX0_way_19 (lv_at hl 4 rfl) ?_
  refine lv_bipush (v := 12) hx hb dX0_way_21 (by decide) ?_
  refine lv_icmp_le (tgt := 28) hx hb dX0_way_23 (by decide) (fun c_10 => ?_) (fun c_10 => absurd (nI_le (b := 12) hn2 (by decide)) c_10)
  refine lv_aload_n hx hb dX0_way_28 rfl (lv_at hl 0 rfl) ?_
  refine va_get (D := D) (ci := 0) (v := .ref xs) (C := RX0) (T := TX0) (N := 5) hx hb hts in_X0 hown hK hP 0 rfl rfl 0 (by decide) (hts _ q293) (fun _ h9 => h9) rfl dX0_way_29 ?_
  refine lv_iload_n hx hb dX0_way_32 rfl (lv_at hl 2 rfl) ?_
  refine va_aldq hx hb hK hP 1 3 rfl rfl (vin_nI (a := j) rfl (by omega) (by decide)) dX0_way_33 ?_
  refine W.eq (g2 := F0 m 34 ls [.ref rw]) (by rw [nI_clamp (show j < 2 ^ 31 by omega), hs]; rfl) ?_
  refine nt_len (ty := .long) (v := nI n) hx hb (hml.trans hl.1.symm) hown (hts _ q336) (hts _ q338) (hts _ q337) (hts _ q34) hK hP 2 2 rfl rfl rfl (by decide) (Nat.le_of_ble_eq_true rfl) dX0_way_34 ?_
  refine lv_istore (lv' := [(6, .int (nI n)), (0, .ref xo), (1, .int (nI js)), (2, .int (nI j)), (3, .int i0), (4, .int (nI nn))]) hx hb dX0_way_37 hl (by decide) rfl (fun ls hl => ?_)
  refine lv_iload hx hb dX0_way_39 (lv_at hl 5 rfl) ?_
  refine va_newa (atype := .long) (a0 := (nn, .inr (.inl (fun _ => 0)))) hx hb (hts _ q140) rfl hK hP hD hS hA (fun _ => rfl) (fun h => absurd (lt_y (a := nn) (b := 0) rfl rfl (by omega) (by decide) h) (Nat.not_lt_zero nn)) (nI_clamp (show nn < 2 ^ 31 by omega)) (by show nn * 8 ≤ 536870912; omega) (Nat.le_of_ble_eq_true rfl) (by show 0 + nn ≤ 12; omega) dX0_way_41 (fun pa cA H hK9 hP hD hS => ?_)
  have ecA : cA = ca 2 := Option.some.inj (((hK9.2 6 _ rfl).2).symm.trans ((hK.2 2 _ rfl).2))
  subst ecA
  refine W.widen (k := 1) (n := 12) (by omega) (by show 0 + nn ≤ 12; omega) ?_
  have hP : va_P D vwCl [(xo, oX xs xu xd xr xf), (xs, rA ca 3 6 sa), (rw, rwE ca 2 n f), (pa, aL ca nn (fun _ => 0))] H := hP
  have hD : va_D A [(xo, oX xs xu xd xr xf), (xs, rA ca 3 6 sa), (rw, rwE ca 2 n f), (pa, aL ca nn (fun _ => 0))] := hD
  refine lv_astore (lv' := [(5, .ref pa), (6, .int (nI n)), (0, .ref xo), (1, .int (nI js)), (2, .int (nI j)), (3, .int i0), (4, .int (nI nn))]) hx hb dX0_way_43 hl (by decide) rfl (fun ls hl => ?_)
  rcases hout with hneg | ⟨a9, rfl, ha9, ha8⟩
  · refine lv_iload_n hx hb dX0_way_45 rfl (lv_at hl 5 rfl) ?_
    refine lv_if_lt (tgt := 58) hx hb dX0_way_46 (by decide) (fun c_11 => ?_) (fun c_11 => absurd hneg c_11)
    refine lv_bipush (v := (-12)) hx hb dX0_way_58 (by decide) ?_
    refine vx_ret ?_
    exact k_iret () hx hb hr hlocks (rfl) (hP.sub [0, 1, 2] rfl) (hD.sub [0, 1, 2] (by decide) rfl) trivial hS (Nat.le_of_ble_eq_true rfl) (Nat.le_of_ble_eq_true rfl) dX0_way_60
  · refine lv_iload_n hx hb dX0_way_45 rfl (lv_at hl 5 rfl) ?_
    refine lv_if_lt (tgt := 58) hx hb dX0_way_46 (by decide) (fun c_12 => absurd c_12 (fun z => absurd (lt_y (a := a9) (b := 0) rfl rfl (by omega) (by decide) z) (Nat.not_lt_zero _))) (fun c_12 => ?_)
    refine lv_iload_n hx hb dX0_way_49 rfl (lv_at hl 5 rfl) ?_
    refine lv_iload hx hb dX0_way_50 (lv_at hl 1 rfl) ?_
    refine lv_iload hx hb dX0_way_52 (lv_at hl 6 rfl) ?_
    refine lv_isub hx hb dX0_way_54 ?_
    refine lv_icmp_le (tgt := 61) hx hb dX0_way_55 (by decide) (fun c_13 => absurd c_13 (fun z => absurd ((subn_le hn hn2 (by omega)).mp z) (by omega))) (fun c_13 => ?_)
    refine lv_bipush (v := (-12)) hx hb dX0_way_58 (by decide) ?_
    refine vx_ret ?_
    exact k_iret () hx hb hr hlocks (rfl) (hP.sub [0, 1, 2] rfl) (hD.sub [0, 1, 2] (by decide) rfl) trivial hS (Nat.le_of_ble_eq_true rfl) (Nat.le_of_ble_eq_true rfl) dX0_way_60
set_option maxHeartbeats 4000000 in
set_option maxRecDepth 100000 in
theorem lp_X0_way2_0  {l : Launch} {D : va_G} {ca : Nat → ClassId} (xo : Nat) (xs : Nat) (xu : Nat) (xd : Nat) (xr : Nat) (xf : Nat) (sa : Nat → Option Nat) (ua : Nat → Nat) (un : AI) (e0 : Nat) (e1 : Nat) (ra : Nat → Nat) (g : AI) (nf : Nat) (fa : Nat → Nat) (fc : AL) (js : Nat) (j : Nat) (rw : Nat) (n9 : Nat) (nn : Nat) (ai : Nat) (f : AL) (xq : Nat) (pa : Nat) (hjs : js < 16) (hj : j < 6) (hs : sa j = some rw) (hn : n9 ≤ 16) (hn1 : 0 < nn) (hn2 : nn ≤ 12) (hai : ai + nn ≤ n9) (hR : okR g) (hU : UnOk un) (hnf : nf ≤ 12) (hC : (m_prim (rq g js) ∧ wR (wF f ai) 0 nn (wP (rq g js)))) (hW : wayS un (wF f ai) (rq g js) nn) {p : Program} {e : Env} {s : State} {m : MethodId} {below : List Frame} {meth : Method} {c : Code} {A : Nat → Prop} (hUg : Ug D s.heap ua un) (hSd : Sd D s.heap e0 e1) (hRg : Rg D s.heap ra g) (hFg : Fg D s.heap fa (fq fc) nf) (hOF : ∀ (a : Nat) (v : Q4), Fo D s.heap a v → ¬ A a) (hOS : ∀ (a k : Nat), k = 2 ∨ k = 3 → So D s.heap a k → ¬ A a) (hx : p.tables.exec = Jvm.exec) (hb : c.code = cX0_way) (hr : meth.sig.returnType = (some .int)) (hts : ∀ w ∈ lw_all, w.before ([.ref xo, .int (nI js), .int (nI j), .int (nI ai), .int (nI nn)] : List Value).toArray s = true) (hown : s.vm.findClass yX0_way.cls = some m.cls) (hlocks : meth.locks = false) (hnm : meth.name = yX0_way.name) (hml : c.maxLocals = 8) (hK : va_K D vwCl (tysG ca) s) (hN : NW s) (hA : ∀ q, s.heap.size ≤ q → A q)  :
    ∀ (n : Nat) (k : Nat) (fb : Nat → Nat) (qa : Nat) (lv : Q4), (k ≤ nn - 1) → (lv = lfW un (wF f ai) (rq g js) k) → (nn < n + k) →  ∀ (H : Heap) (locs : List Loc) (ls : Array Slot), va_P D vwCl [(xo, oX xs xu xd xr xq), (xs, rA ca 3 6 sa), (rw, rwE ca 0 n9 f), (xu, rA ca 4 24 (fun i => some (ua i))), (xd, rA ca 5 2 (sdf e0 e1)), (xr, rA ca 4 16 (fun i => some (ra i))), (xq, rA ca 4 nn (uAr fb k)), (pa, aL ca nn (wF f ai))] H → va_D A [(xo, oX xs xu xd xr xq), (xs, rA ca 3 6 sa), (rw, rwE ca 0 n9 f), (xu, rA ca 4 24 (fun i => some (ua i))), (xd, rA ca 5 2 (sdf e0 e1)), (xr, rA ca 4 16 (fun i => some (ra i))), (xq, rA ca 4 nn (uAr fb k)), (pa, aL ca nn (wF f ai))] → va_S A s.heap H locs → lv_has ls 8 [(0, .ref xo), (4, .int (nI nn)), (5, .ref pa), (6, .ref qa), (7, .int (nI k))] → Fo D H qa lv → Fw D H fb un (wF f ai) (rq g js) k → W p l e ({ frames := 12, cells := 2510, slots := 10056, locals := 10400 }) s m ([.ref xo, .int (nI js), .int (nI j), .int (nI ai), .int (nI nn)] : List Value).toArray below meth c H locs (2 + 228 * k) (24 + 912 * k) (MQ below (qI D (fun (r : Int32) (u : Nat × Nat × (Nat → Nat) × AL) => (r, nI u.2.1, u.2.2.2) = wayIf (m_prim (rq g js) ∧ wR (wF f ai) 0 nn (wP (rq g js))) (nI nn, nI nn, w4L (fcW un (wF f ai) (rq g js) fc (nn - 1)) (nn - 1) (lfW un (wF f ai) (rq g js) (nn - 1))) (-2, nI nf, fc) ∧ u.2.1 ≤ 12) (fun u => [(xo, oX xs xu xd xr u.1), (xs, rA ca 3 6 sa), (rw, rwE ca 0 n9 f), (xu, rA ca 4 24 (fun i => some (ua i))), (xd, rA ca 5 2 (sdf e0 e1)), (xr, rA ca 4 16 (fun i => some (ra i))), (u.1, rA ca 4 u.2.1 (fun i => some (u.2.2.1 i)))]) (fun u H => Fg D H u.2.2.1 (fq u.2.2.2) u.2.1) A) ([.ref xo, .int (nI js), .int (nI j), .int (nI ai), .int (nI nn)] : List Value).toArray s 2510 10056 A) (F0 m 152 ls []) := by
  intro n
  induction n with
  | zero =>
    intro k fb qa lv hkn hlv hfuel H locs ls hP hD hS hl hQ hFF
    exact absurd hfuel (by omega)
  | succ n ih =>
    intro k fb qa lv hkn hlv hfuel H locs ls hP hD hS hl hQ hFF
    have hk := NW_ok
    refine lv_iload hx hb dX0_way_152 (lv_at hl 4 rfl) ?_
    refine lv_iload hx hb dX0_way_154 (lv_at hl 1 rfl) ?_
    refine lv_iconst (v := 1) hx hb dX0_way_156 (by decide) ?_
    refine lv_isub hx hb dX0_way_157 ?_
    refine lv_topi (fun z_1 ez_1 => ?_)
    obtain rfl : z_1 = nI (nn - 1) := ez_1.trans (eq_sub (a := nn) (b := 1) rfl rfl (by omega))
    refine lv_icmp_ge (tgt := 228) hx hb dX0_way_158 (by decide) (fun c_2 => ?_) (fun c_2 => ?_)
    · have c_2 := le_y (a := nn - 1) (b := k) rfl rfl (by omega) (by omega) c_2
      refine lv_aload_n hx hb dX0_way_228 rfl (lv_at hl 0 rfl) ?_
      refine va_get (D := D) (ci := 0) (v := .ref xq) (C := RX0) (T := TX0) (N := 5) hx hb hts in_X0 hown hK hP 0 rfl rfl 4 (by decide) (hts _ q297) (fun _ h9 => h9) rfl dX0_way_229 ?_
      refine lv_iload hx hb dX0_way_232 (lv_at hl 1 rfl) ?_
      refine lv_iconst (v := 1) hx hb dX0_way_234 (by decide) ?_
      refine lv_isub hx hb dX0_way_235 ?_
      refine lv_topi (fun z_3 ez_3 => ?_)
      obtain rfl : z_3 = nI k := ez_3.trans ((eq_sub (a := nn) (b := 1) rfl rfl (by omega)).trans (congrArg nI (by omega)))
      refine lv_aload hx hb dX0_way_236 (lv_at hl 3 rfl) ?_
      have hFF0 := hFF
      have hnx : ∀ (q : Nat) (v : Q4), Fo D H q v → q ≠ xq := fun q v h e => k_outA hK (wc := [(xq, rA ca 4 nn (uAr fb k))]) (k_sub hP [6] rfl) (okc (oka 4 (by decide)) okn) (Or.inl rfl) h (Or.inl ⟨0, _, by rw [e]; rfl⟩)
      refine k_astF hx hb hK hP hD hS 6 4 rfl rfl (any_fo hK hQ) (vin_nI (a := k) rfl (by omega) (by omega)) dX0_way_238 (fun H locs ho9 hP hD hS => ?_)
      have hQ := hQ.mov (ho9 _ (hnx _ _ hQ))
      have hFF := hFF.mov (fun q v h => ho9 _ (hnx _ _ h))
      rw [nI_clamp (show k < 2 ^ 31 by omega), uAr_s] at hP hD
      have hP : va_P D vwCl [(xo, oX xs xu xd xr xq), (xs, rA ca 3 6 sa), (rw, rwE ca 0 n9 f), (xu, rA ca 4 24 (fun i => some (ua i))), (xd, rA ca 5 2 (sdf e0 e1)), (xr, rA ca 4 16 (fun i => some (ra i))), (xq, rA ca 4 nn (uAr (va_up fb k qa) (k + 1))), (pa, aL ca nn (wF f ai))] H := hP
      have hD : va_D A [(xo, oX xs xu xd xr xq), (xs, rA ca 3 6 sa), (rw, rwE ca 0 n9 f), (xu, rA ca 4 24 (fun i => some (ua i))), (xd, rA ca 5 2 (sdf e0 e1)), (xr, rA ca 4 16 (fun i => some (ra i))), (xq, rA ca 4 nn (uAr (va_up fb k qa) (k + 1))), (pa, aL ca nn (wF f ai))] := hD
      refine lv_iload hx hb dX0_way_239 (lv_at hl 1 rfl) ?_
      have hPa : va_P D vwCl ([(xq, rA ca 4 nn (uAr (va_up fb k qa) (k + 1)))] ++ [(xo, oX xs xu xd xr xq), (xs, rA ca 3 6 sa), (rw, rwE ca 0 n9 f), (xu, rA ca 4 24 (fun i => some (ua i))), (xd, rA ca 5 2 (sdf e0 e1)), (xr, rA ca 4 16 (fun i => some (ra i)))]) H := hP.sub [6, 0, 1, 2, 3, 4, 5] rfl
      have hDa : va_D A ([(xq, rA ca 4 nn (uAr (va_up fb k qa) (k + 1)))] ++ [(xo, oX xs xu xd xr xq), (xs, rA ca 3 6 sa), (rw, rwE ca 0 n9 f), (xu, rA ca 4 24 (fun i => some (ua i))), (xd, rA ca 5 2 (sdf e0 e1)), (xr, rA ca 4 16 (fun i => some (ra i)))]) := hD.sub [6, 0, 1, 2, 3, 4, 5] (by decide) rfl
      have hPb := vp_cell1 (g := fun i => some (va_up fb k qa i)) hPa (fun i hi => if_pos (by omega))
      have hDb : va_D A ([(xq, rA ca 4 nn (fun i => some (va_up fb k qa i)))] ++ [(xo, oX xs xu xd xr xq), (xs, rA ca 3 6 sa), (rw, rwE ca 0 n9 f), (xu, rA ca 4 24 (fun i => some (ua i))), (xd, rA ca 5 2 (sdf e0 e1)), (xr, rA ca 4 16 (fun i => some (ra i)))]) := vd_cell hDa
      have hk1 : nn - 1 = k := by omega
      rw [hlv] at hQ
      exact k_iret (xq, nn, va_up fb k qa, w4L (fcW un (wF f ai) (rq g js) fc k) k (lfW un (wF f ai) (rq g js) k)) hx hb hr hlocks ⟨by rw [wayIf_y hC, hk1], hn2⟩ (hPb.sub [1, 2, 3, 4, 5, 6, 0] rfl) (hDb.sub [1, 2, 3, 4, 5, 6, 0] (by decide) rfl) (Fw.all hFF hQ (by omega)) hS (by omega) (by omega) dX0_way_241
    · have c_2 := le_no (a := nn - 1) (b := k) rfl rfl (by omega) (by omega) c_2
      obtain ⟨hw1, hw2, hw3⟩ := hW k (by omega)
      rw [← hlv] at hw1 hw2 hw3
      refine lv_aload_n hx hb dX0_way_161 rfl (lv_at hl 0 rfl) ?_
      refine va_get (D := D) (ci := 0) (v := .ref xq) (C := RX0) (T := TX0) (N := 5) hx hb hts in_X0 hown hK hP 0 rfl rfl 4 (by decide) (hts _ q297) (fun _ h9 => h9) rfl dX0_way_162 ?_
      refine lv_iload hx hb dX0_way_165 (lv_at hl 4 rfl) ?_
      refine lv_aload_n hx hb dX0_way_167 rfl (lv_at hl 0 rfl) ?_
      refine va_get (D := D) (ci := 0) (v := .ref xd) (C := RX0) (T := TX0) (N := 5) hx hb hts in_X0 hown hK hP 0 rfl rfl 2 (by decide) (hts _ q295) (fun _ h9 => h9) rfl dX0_way_168 ?_
      refine lv_iconst (v := 1) hx hb dX0_way_171 (by decide) ?_
      refine va_aldq hx hb hK hP 4 5 rfl rfl (vin_nI (a := 1) rfl (by omega) (by omega)) dX0_way_172 ?_
      refine W.eq (g2 := F0 m 173 ls [.ref e1, .int (nI k), .ref xq]) (by rw [show (1 : Int32).toNatClampNeg = 1 from by decide]; rfl) ?_
      have hE_4 := hSd.2
      have nE_4 := hOS _ _ (Or.inr rfl) hE_4
      refine k_newF (ci := 1) (fs := [.long 0, .long 0, .long 0, .long 0]) (C := RX1) (T := TX1) (N := 4) hx hb hts in_X1 tyX1 tyX1_ok hown (hts _ q226) (hts _ q228) (hts _ q20) hK hP hD hS hA rfl (fun j hj => by rcases (show j = 0 ∨ j = 1 ∨ j = 2 ∨ j = 3 by omega) with rfl | rfl | rfl | rfl <;> rfl) (by show _ ≤ 2510; omega) (by show _ ≤ 10056; omega) dX0_way_173 (fun q_5 H hq9 ho9 hP hD hS => ?_)
      have hP : va_P D vwCl [(xo, oX xs xu xd xr xq), (xs, rA ca 3 6 sa), (rw, rwE ca 0 n9 f), (xu, rA ca 4 24 (fun i => some (ua i))), (xd, rA ca 5 2 (sdf e0 e1)), (xr, rA ca 4 16 (fun i => some (ra i))), (xq, rA ca 4 nn (uAr fb k)), (pa, aL ca nn (wF f ai)), (q_5, .inr (1, [.long 0, .long 0, .long 0, .long 0]))] H := hP
      have hD : va_D A [(xo, oX xs xu xd xr xq), (xs, rA ca 3 6 sa), (rw, rwE ca 0 n9 f), (xu, rA ca 4 24 (fun i => some (ua i))), (xd, rA ca 5 2 (sdf e0 e1)), (xr, rA ca 4 16 (fun i => some (ra i))), (xq, rA ca 4 nn (uAr fb k)), (pa, aL ca nn (wF f ai)), (q_5, .inr (1, [.long 0, .long 0, .long 0, .long 0]))] := hD
      have hneQ : qa ≠ q_5 := by have := hQ.lt; omega
      have hne : ∀ i, i < k → fb i ≠ q_5 := fun i hi => by have := (hFF i hi).lt; omega
      have hQ := hQ.mov (ho9 _ hQ.lt)
      have hFF := hFF.mov (fun q v h => ho9 _ h.lt)
      refine lv_dup hx hb dX0_way_176 rfl ?_
      refine lv_ldc2 hx hb hown (hts _ q135) dX0_way_177 ?_
      refine lv_aload hx hb dX0_way_180 (lv_at hl 2 rfl) ?_
      refine lv_iload hx hb dX0_way_182 (lv_at hl 4 rfl) ?_
      refine va_lald hx hb hK hP 7 2 rfl rfl (vin_nI (a := k) rfl (by omega) (by omega)) dX0_way_184 ?_
      refine lv_topl (fun z_6 ez_6 => ?_)
      obtain rfl : z_6 = (wF f ai) k := ez_6.trans (cl_nI (a := k) (wF f ai) rfl (by omega))
      refine lv_lmul hx hb dX0_way_185 ?_
      refine lv_lconst (v := 0) hx hb dX0_way_186 (by decide) ?_
      refine lv_lconst (v := 0) hx hb dX0_way_187 (by decide) ?_
      refine lv_lconst (v := 0) hx hb dX0_way_188 (by decide) ?_
      refine k_callv (wr := [(xo, oX xs xu xd xr xq), (xs, rA ca 3 6 sa), (rw, rwE ca 0 n9 f), (xu, rA ca 4 24 (fun i => some (ua i))), (xd, rA ca 5 2 (sdf e0 e1)), (xr, rA ca 4 16 (fun i => some (ra i))), (xq, rA ca 4 nn (uAr fb k)), (pa, aL ca nn (wF f ai))]) (va_runI (As := [.long (2 * ((wF f ai) k)), .long 0, .long 0, .long 0]) (rest := [.ref q_5, .ref e1, .int (nI k), .ref xq]) ⟨hx, hb, hml, hown, hts⟩ (ct_X1_init hk l D ca H.size q_5 (2 * ((wF f ai) k)) 0 0 0 (0, 0, 0, 0)) (cwI 4 hts (lw_meth q231) rfl rfl rfl (hts _ q20) (hts _ q229) (hts _ q230) rfl (by decide +kernel) ⟨Nat.le_of_ble_eq_true rfl, Nat.le_of_ble_eq_true rfl⟩) (k_pre hk hK hN hP hD [8] (by decide) rfl trivial) rfl rfl hl.1 rfl (lv_room (Nat.le_of_ble_eq_true rfl)) dX0_way_189 ⟨by show _ ≤ 2510; omega, by show _ ≤ 10056; omega⟩) hP hD hS hA [8] [0, 1, 2, 3, 4, 5, 6, 7] rfl rfl (by decide) (by decide) (fun u_8 H locs w_9 hP hD hxw_9 hzw_9 hqw_9 hS => ?_)
      have hP : va_P D vwCl [(xo, oX xs xu xd xr xq), (xs, rA ca 3 6 sa), (rw, rwE ca 0 n9 f), (xu, rA ca 4 24 (fun i => some (ua i))), (xd, rA ca 5 2 (sdf e0 e1)), (xr, rA ca 4 16 (fun i => some (ra i))), (xq, rA ca 4 nn (uAr fb k)), (pa, aL ca nn (wF f ai)), (q_5, f4 (2 * ((wF f ai) k), 0, 0, 0))] H := hP
      have hD : va_D A [(xo, oX xs xu xd xr xq), (xs, rA ca 3 6 sa), (rw, rwE ca 0 n9 f), (xu, rA ca 4 24 (fun i => some (ua i))), (xd, rA ca 5 2 (sdf e0 e1)), (xr, rA ca 4 16 (fun i => some (ra i))), (xq, rA ca 4 nn (uAr fb k)), (pa, aL ca nn (wF f ai)), (q_5, f4 (2 * ((wF f ai) k), 0, 0, 0))] := hD
      have hQ := hQ.mov (hqw_9 _ hQ.lt (va_A1 hneQ hQ.lt))
      have hFF : Fw D H fb un (wF f ai) (rq g js) k := fun i hi => (hFF i hi).mov (hqw_9 _ (hFF i hi).lt (va_A1 (hne i hi) (hFF i hi).lt))
      refine lv_aload hx hb dX0_way_192 (lv_at hl 3 rfl) ?_
      refine lv_aload_n hx hb dX0_way_194 rfl (lv_at hl 0 rfl) ?_
      refine va_get (D := D) (ci := 0) (v := .ref xu) (C := RX0) (T := TX0) (N := 5) hx hb hts in_X0 hown hK hP 0 rfl rfl 1 (by decide) (hts _ q294) (fun _ h9 => h9) rfl dX0_way_195 ?_
      refine k_callr (wr := [(xo, oX xs xu xd xr xq), (xs, rA ca 3 6 sa), (rw, rwE ca 0 n9 f), (xu, rA ca 4 24 (fun i => some (ua i))), (xd, rA ca 5 2 (sdf e0 e1)), (xr, rA ca 4 16 (fun i => some (ra i))), (xq, rA ca 4 nn (uAr fb k)), (pa, aL ca nn (wF f ai)), (q_5, f4 (2 * ((wF f ai) k), 0, 0, 0))]) (va_runU (x := yX2_divisor) (As := [.ref q_5, .ref qa, .ref xu]) (rest := [.int (nI k), .ref xq]) ⟨hx, hb, hml, hown, hts⟩ (ct_X2_divisor_L l D ca H.size e1 q_5 qa xu (2 * ((wF f ai) k), 0, 0, 0) lv ua un (eucBoth_2 hw1)) (va_cwU (C := "FourParts$Left") (owner := "FourParts$Side") (x := yX2_divisor) 3 hts (lw_app (fun w hw => by simp only [List.mem_cons, List.not_mem_nil, or_false] at hw; rcases hw with e | e | e | e | e <;> rw [e] <;> first | exact q459 | exact q461 | exact q462 | exact q460 | exact q21) (lw_meth q464)) rfl rfl rfl rfl (by decide +kernel) ⟨Nat.le_of_ble_eq_true rfl, Nat.le_of_ble_eq_true rfl⟩) (k_preV hk hK hN hP hD [] (by decide) rfl ⟨(hE_4.keep hS nE_4), (Fo.of hP 8 rfl), hQ, ⟨k_sub hP [3] rfl, hUg.keep hS hOF⟩⟩ (hE_4.keep hS nE_4) rfl (q0 := 0) rfl) rfl rfl hl.1 rfl (lv_room (Nat.le_of_ble_eq_true rfl)) dX0_way_198 ⟨by show _ ≤ 2510; omega, by show _ ≤ 10056; omega⟩) hP hD hS hA [] [0, 1, 2, 3, 4, 5, 6, 7, 8] rfl rfl (by decide) (by decide) (fun u_11 r_10 H locs w_12 hP hD hxw_12 hzw_12 hqw_12 hS => ?_)
      have hQ := hQ.mov (hqw_12 _ hQ.lt (va_A_nil hQ.lt))
      have hFF := hFF.mov (fun q v h => hqw_12 _ h.lt (va_A_nil h.lt))
      rw [eucBoth_3 hw1] at hxw_12
      have hr9 : Fo D H r_10 (w_f un ((wF f ai) k) lv) := hxw_12
      have hnx : ∀ (q : Nat) (v : Q4), Fo D H q v → q ≠ xq := fun q v h e => k_outA hK (wc := [(xq, rA ca 4 nn (uAr fb k))]) (k_sub hP [6] rfl) (okc (oka 4 (by decide)) okn) (Or.inl rfl) h (Or.inl ⟨0, _, by rw [e]; rfl⟩)
      refine k_astF hx hb hK hP hD hS 6 4 rfl rfl (any_fo hK hr9) (vin_nI (a := k) rfl (by omega) (by omega)) dX0_way_201 (fun H locs ho9 hP hD hS => ?_)
      have hQ := hQ.mov (ho9 _ (hnx _ _ hQ))
      have hr9 := hr9.mov (ho9 _ (hnx _ _ hr9))
      have hFF := hFF.mov (fun q v h => ho9 _ (hnx _ _ h))
      rw [nI_clamp (show k < 2 ^ 31 by omega), uAr_s] at hP hD
      have hP : va_P D vwCl [(xo, oX xs xu xd xr xq), (xs, rA ca 3 6 sa), (rw, rwE ca 0 n9 f), (xu, rA ca 4 24 (fun i => some (ua i))), (xd, rA ca 5 2 (sdf e0 e1)), (xr, rA ca 4 16 (fun i => some (ra i))), (xq, rA ca 4 nn (uAr (va_up fb k r_10) (k + 1))), (pa, aL ca nn (wF f ai)), (q_5, f4 (2 * ((wF f ai) k), 0, 0, 0))] H := hP
      have hD : va_D A [(xo, oX xs xu xd xr xq), (xs, rA ca 3 6 sa), (rw, rwE ca 0 n9 f), (xu, rA ca 4 24 (fun i => some (ua i))), (xd, rA ca 5 2 (sdf e0 e1)), (xr, rA ca 4 16 (fun i => some (ra i))), (xq, rA ca 4 nn (uAr (va_up fb k r_10) (k + 1))), (pa, aL ca nn (wF f ai)), (q_5, f4 (2 * ((wF f ai) k), 0, 0, 0))] := hD
      have hFF := Fw.snoc hFF (by rw [← hlv]; exact hr9)
      refine lv_aload_n hx hb dX0_way_202 rfl (lv_at hl 0 rfl) ?_
      refine va_get (D := D) (ci := 0) (v := .ref xd) (C := RX0) (T := TX0) (N := 5) hx hb hts in_X0 hown hK hP 0 rfl rfl 2 (by decide) (hts _ q295) (fun _ h9 => h9) rfl dX0_way_203 ?_
      refine lv_iconst (v := 1) hx hb dX0_way_206 (by decide) ?_
      refine va_aldq hx hb hK hP 4 5 rfl rfl (vin_nI (a := 1) rfl (by omega) (by omega)) dX0_way_207 ?_
      refine W.eq (g2 := F0 m 208 ls [.ref e1]) (by rw [show (1 : Int32).toNatClampNeg = 1 from by decide]; rfl) ?_
      refine lv_aload hx hb dX0_way_208 (lv_at hl 3 rfl) ?_
      refine lv_aload_n hx hb dX0_way_210 rfl (lv_at hl 0 rfl) ?_
      refine va_get (D := D) (ci := 0) (v := .ref xq) (C := RX0) (T := TX0) (N := 5) hx hb hts in_X0 hown hK hP 0 rfl rfl 4 (by decide) (hts _ q297) (fun _ h9 => h9) rfl dX0_way_211 ?_
      refine lv_iload hx hb dX0_way_214 (lv_at hl 4 rfl) ?_
      refine va_aldq hx hb hK hP 6 4 rfl rfl (vin_nI (a := k) rfl (by omega) (by omega)) dX0_way_216 ?_
      refine W.eq (g2 := F0 m 217 ls [.ref r_10, .ref qa, .ref e1]) (by rw [nI_clamp (show k < 2 ^ 31 by omega), uAr_at]; rfl) ?_
      refine k_callr (wr := [(xo, oX xs xu xd xr xq), (xs, rA ca 3 6 sa), (rw, rwE ca 0 n9 f), (xu, rA ca 4 24 (fun i => some (ua i))), (xd, rA ca 5 2 (sdf e0 e1)), (xr, rA ca 4 16 (fun i => some (ra i))), (xq, rA ca 4 nn (uAr (va_up fb k r_10) (k + 1))), (pa, aL ca nn (wF f ai)), (q_5, f4 (2 * ((wF f ai) k), 0, 0, 0))]) (va_runU (x := yX2_quotient) (As := [.ref qa, .ref r_10]) (rest := []) ⟨hx, hb, hml, hown, hts⟩ (ct_X2_quotient_L l D ca H.size e1 qa r_10 lv (w_f un ((wF f ai) k) lv) (pos_ne hw2)) (va_cwU (C := "FourParts$Left") (owner := "FourParts$Side") (x := yX2_quotient) 2 hts (lw_app (fun w hw => by simp only [List.mem_cons, List.not_mem_nil, or_false] at hw; rcases hw with e | e | e | e | e <;> rw [e] <;> first | exact q422 | exact q424 | exact q425 | exact q423 | exact q21) (lw_meth q427)) rfl rfl rfl rfl (by decide +kernel) ⟨Nat.le_of_ble_eq_true rfl, Nat.le_of_ble_eq_true rfl⟩) (k_preV hk hK hN hP hD [] (by decide) rfl ⟨(hE_4.keep hS nE_4), hQ, hr9⟩ (hE_4.keep hS nE_4) rfl (q0 := 0) rfl) rfl rfl hl.1 rfl (lv_room (Nat.le_of_ble_eq_true rfl)) dX0_way_217 ⟨by show _ ≤ 2510; omega, by show _ ≤ 10056; omega⟩) hP hD hS hA [] [0, 1, 2, 3, 4, 5, 6, 7, 8] rfl rfl (by decide) (by decide) (fun u_14 r_13 H locs w_15 hP hD hxw_15 hzw_15 hqw_15 hS => ?_)
      have hP : va_P D vwCl [(xo, oX xs xu xd xr xq), (xs, rA ca 3 6 sa), (rw, rwE ca 0 n9 f), (xu, rA ca 4 24 (fun i => some (ua i))), (xd, rA ca 5 2 (sdf e0 e1)), (xr, rA ca 4 16 (fun i => some (ra i))), (xq, rA ca 4 nn (uAr (va_up fb k r_10) (k + 1))), (pa, aL ca nn (wF f ai)), (q_5, f4 (2 * ((wF f ai) k), 0, 0, 0)), (r_13, f4 (nearC (q_norm (w_f un ((wF f ai) k) lv)) (q_times (q_mirror (w_f un ((wF f ai) k) lv)) lv)))] H := hP
      have hD : va_D A [(xo, oX xs xu xd xr xq), (xs, rA ca 3 6 sa), (rw, rwE ca 0 n9 f), (xu, rA ca 4 24 (fun i => some (ua i))), (xd, rA ca 5 2 (sdf e0 e1)), (xr, rA ca 4 16 (fun i => some (ra i))), (xq, rA ca 4 nn (uAr (va_up fb k r_10) (k + 1))), (pa, aL ca nn (wF f ai)), (q_5, f4 (2 * ((wF f ai) k), 0, 0, 0)), (r_13, f4 (nearC (q_norm (w_f un ((wF f ai) k) lv)) (q_times (q_mirror (w_f un ((wF f ai) k) lv)) lv)))] := hD
      have hQ := hQ.mov (hqw_15 _ hQ.lt (va_A_nil hQ.lt))
      have hr9 := hr9.mov (hqw_15 _ hr9.lt (va_A_nil hr9.lt))
      have hFF := hFF.mov (fun q v h => hqw_15 _ h.lt (va_A_nil h.lt))
      refine lv_astore (lv' := [(6, .ref r_13), (0, .ref xo), (4, .int (nI nn)), (5, .ref pa), (7, .int (nI k))]) hx hb dX0_way_220 hl (by decide) rfl (fun ls hl => ?_)
      refine lv_iinc (v := nI (k + 1)) (lv' := [(7, .int (nI (k + 1))), (6, .ref r_13), (0, .ref xo), (4, .int (nI nn)), (5, .ref pa)]) hx hb dX0_way_222 hl (k := 4) rfl (eq_add rfl rfl) (by decide) rfl (fun ls hl => ?_)
      refine lv_goto (tgt := 152) hx hb dX0_way_225 (by decide) ?_
      have hl9 : (nearC (q_norm (w_f un ((wF f ai) k) lv)) (q_times (q_mirror (w_f un ((wF f ai) k) lv)) lv)) = lfW un (wF f ai) (rq g js) (k + 1) := by rw [hw3, dq_c hw2]; rfl
      have hQ9 : Fo D H r_13 (lfW un (wF f ai) (rq g js) (k + 1)) := by rw [← hl9]; exact Fo.of hP 9 rfl
      refine W.widen (k := 2 + 228 * (k + 1)) (n := 24 + 912 * (k + 1)) (by omega) (by omega) ?_
      exact ih (k + 1) (va_up fb k r_10) r_13 _ (by omega) rfl (by omega) _ _ _ (hP.sub [0, 1, 2, 3, 4, 5, 6, 7] rfl) (hD.sub [0, 1, 2, 3, 4, 5, 6, 7] (by decide) rfl) hS (lv_sub hl [2, 3, 4, 1, 0] rfl) hQ9 hFF
set_option maxHeartbeats 4000000 in
set_option maxRecDepth 100000 in
theorem lp_X0_way1_0  {l : Launch} {D : va_G} {ca : Nat → ClassId} (xo : Nat) (xs : Nat) (xu : Nat) (xd : Nat) (xr : Nat) (xf : Nat) (sa : Nat → Option Nat) (ua : Nat → Nat) (un : AI) (e0 : Nat) (e1 : Nat) (ra : Nat → Nat) (g : AI) (nf : Nat) (fa : Nat → Nat) (fc : AL) (js : Nat) (j : Nat) (rw : Nat) (n9 : Nat) (nn : Nat) (ai : Nat) (f : AL) (pa : Nat) (hjs : js < 16) (hj : j < 6) (hs : sa j = some rw) (hn : n9 ≤ 16) (hn1 : 0 < nn) (hn2 : nn ≤ 12) (hai : ai + nn ≤ n9) (hR : okR g) (hU : UnOk un) (hnf : nf ≤ 12) (hcut : ∀ i, i < n9 → ck 0 (f i) = f i) {p : Program} {e : Env} {s : State} {m : MethodId} {below : List Frame} {meth : Method} {c : Code} {A : Nat → Prop} (hUg : Ug D s.heap ua un) (hSd : Sd D s.heap e0 e1) (hRg : Rg D s.heap ra g) (hFg : Fg D s.heap fa (fq fc) nf) (hOF : ∀ (a : Nat) (v : Q4), Fo D s.heap a v → ¬ A a) (hOS : ∀ (a k : Nat), k = 2 ∨ k = 3 → So D s.heap a k → ¬ A a) (hx : p.tables.exec = Jvm.exec) (hb : c.code = cX0_way) (hr : meth.sig.returnType = (some .int)) (hts : ∀ w ∈ lw_all, w.before ([.ref xo, .int (nI js), .int (nI j), .int (nI ai), .int (nI nn)] : List Value).toArray s = true) (hown : s.vm.findClass yX0_way.cls = some m.cls) (hlocks : meth.locks = false) (hnm : meth.name = yX0_way.name) (hml : c.maxLocals = 8) (hK : va_K D vwCl (tysG ca) s) (hN : NW s) (hA : ∀ q, s.heap.size ≤ q → A q)  :
    ∀ (n : Nat) (k : Nat), (k ≤ nn) → (nn < n + k) →  ∀ (H : Heap) (locs : List Loc) (ls : Array Slot), va_P D vwCl [(pa, aL ca nn (prm f ai k)), (xo, oX xs xu xd xr xf), (xs, rA ca 3 6 sa), (rw, rwE ca 0 n9 f), (xu, rA ca 4 24 (fun i => some (ua i))), (xd, rA ca 5 2 (sdf e0 e1)), (xr, rA ca 4 16 (fun i => some (ra i))), (xf, rA ca 4 nf (fun i => some (fa i)))] H → va_D A [(pa, aL ca nn (prm f ai k)), (xo, oX xs xu xd xr xf), (xs, rA ca 3 6 sa), (rw, rwE ca 0 n9 f), (xu, rA ca 4 24 (fun i => some (ua i))), (xd, rA ca 5 2 (sdf e0 e1)), (xr, rA ca 4 16 (fun i => some (ra i))), (xf, rA ca 4 nf (fun i => some (fa i)))] → va_S A s.heap H locs → lv_has ls 8 [(0, .ref xo), (1, .int (nI js)), (2, .int (nI j)), (3, .int (nI ai)), (4, .int (nI nn)), (5, .ref pa), (7, .int (nI k))] → W p l e ({ frames := 12, cells := 2510, slots := 10056, locals := 10400 }) s m ([.ref xo, .int (nI js), .int (nI j), .int (nI ai), .int (nI nn)] : List Value).toArray below meth c H locs 1 12 (MQ below (qI D (fun (r : Int32) (u : Nat × Nat × (Nat → Nat) × AL) => (r, nI u.2.1, u.2.2.2) = wayIf (m_prim (rq g js) ∧ wR (wF f ai) 0 nn (wP (rq g js))) (nI nn, nI nn, w4L (fcW un (wF f ai) (rq g js) fc (nn - 1)) (nn - 1) (lfW un (wF f ai) (rq g js) (nn - 1))) (-2, nI nf, fc) ∧ u.2.1 ≤ 12) (fun u => [(xo, oX xs xu xd xr u.1), (xs, rA ca 3 6 sa), (rw, rwE ca 0 n9 f), (xu, rA ca 4 24 (fun i => some (ua i))), (xd, rA ca 5 2 (sdf e0 e1)), (xr, rA ca 4 16 (fun i => some (ra i))), (u.1, rA ca 4 u.2.1 (fun i => some (u.2.2.1 i)))]) (fun u H => Fg D H u.2.2.1 (fq u.2.2.2) u.2.1) A) ([.ref xo, .int (nI js), .int (nI j), .int (nI ai), .int (nI nn)] : List Value).toArray s 2510 10056 A) (F0 m 64 ls []) := by
  intro n
  induction n with
  | zero =>
    intro k hkn hfuel H locs ls hP hD hS hl 
    exact absurd hfuel (by omega)
  | succ n ih =>
    intro k hkn hfuel H locs ls hP hD hS hl 
    have hk := NW_ok
    refine lv_iload hx hb dX0_way_64 (lv_at hl 6 rfl) ?_
    refine lv_iload hx hb dX0_way_66 (lv_at hl 4 rfl) ?_
    refine lv_icmp_ge (tgt := 95) hx hb dX0_way_68 (by decide) (fun c_1 => ?_) (fun c_1 => ?_)
    · have c_1 := le_y (a := nn) (b := k) rfl rfl (by omega) (by omega) c_1
      refine lv_goto (tgt := 108) hx hb dX0_way_95 (by decide) ?_
      have hP := vp_cellL (g := (wF f ai)) hP (fun i hi => if_pos (by omega))
      have hD : va_D A [(pa, aL ca nn (wF f ai)), (xo, oX xs xu xd xr xf), (xs, rA ca 3 6 sa), (rw, rwE ca 0 n9 f), (xu, rA ca 4 24 (fun i => some (ua i))), (xd, rA ca 5 2 (sdf e0 e1)), (xr, rA ca 4 16 (fun i => some (ra i))), (xf, rA ca 4 nf (fun i => some (fa i)))] := vd_cell hD
      have hP : va_P D vwCl [(pa, aL ca nn (wF f ai)), (xo, oX xs xu xd xr xf), (xs, rA ca 3 6 sa), (rw, rwE ca 0 n9 f), (xu, rA ca 4 24 (fun i => some (ua i))), (xd, rA ca 5 2 (sdf e0 e1)), (xr, rA ca 4 16 (fun i => some (ra i))), (xf, rA ca 4 nf (fun i => some (fa i)))] H := hP
      obtain ⟨hN1, hP9, hP4⟩ := norm_P hR hjs
      refine lv_aload_n hx hb dX0_way_108 rfl (lv_at hl 0 rfl) ?_
      refine va_get (D := D) (ci := 0) (v := .ref xr) (C := RX0) (T := TX0) (N := 5) hx hb hts in_X0 hown hK hP 1 rfl rfl 3 (by decide) (hts _ q296) (fun _ h9 => h9) rfl dX0_way_109 ?_
      refine lv_iload_n hx hb dX0_way_112 rfl (lv_at hl 1 rfl) ?_
      refine va_aldq hx hb hK hP 6 4 rfl rfl (vin_nI (a := js) rfl (by omega) (by omega)) dX0_way_113 ?_
      refine W.eq (g2 := F0 m 114 ls [.ref (ra js)]) (by rw [nI_clamp (show js < 2 ^ 31 by omega)]; rfl) ?_
      have hG_2 := hRg js (by omega)
      have nG_2 := hOF _ _ hG_2
      refine lv_astore (lv' := [(6, .ref (ra js)), (0, .ref xo), (1, .int (nI js)), (2, .int (nI j)), (3, .int (nI ai)), (4, .int (nI nn)), (5, .ref pa), (7, .int (nI k))]) hx hb dX0_way_114 hl (by decide) rfl (fun ls hl => ?_)
      refine lv_aload hx hb dX0_way_116 (lv_at hl 0 rfl) ?_
      refine k_calli (wr := [(pa, aL ca nn (wF f ai)), (xo, oX xs xu xd xr xf), (xs, rA ca 3 6 sa), (rw, rwE ca 0 n9 f), (xu, rA ca 4 24 (fun i => some (ua i))), (xd, rA ca 5 2 (sdf e0 e1)), (xr, rA ca 4 16 (fun i => some (ra i))), (xf, rA ca 4 nf (fun i => some (fa i)))]) (va_runV (As := []) (rest := []) ⟨hx, hb, hml, hown, hts⟩ (ct_X1_isPrimitive l D ca H.size (ra js) (rq g js) (wP (rq g js)) hN1 (by omega)) (cwV 0 hts (lw_V q355 q356 q357 q20 q358) rfl rfl rfl (by decide +kernel) ⟨Nat.le_of_ble_eq_true rfl, Nat.le_of_ble_eq_true rfl⟩) (k_preV hk hK hN hP hD [] (by decide) rfl (hG_2.keep hS nG_2) (hG_2.keep hS nG_2) rfl (q0 := 0) rfl) rfl rfl hl.1 rfl (lv_room (Nat.le_of_ble_eq_true rfl)) dX0_way_118 ⟨by show _ ≤ 2510; omega, by show _ ≤ 10056; omega⟩) hP hD hS hA [] [0, 1, 2, 3, 4, 5, 6, 7] rfl rfl (by decide) (by decide) (fun r_3 u_4 H locs w_5 hP hD hxw_5 hzw_5 hqw_5 hS => ?_)
      obtain ⟨hrr_3, hur_3⟩ := w_5
      subst hrr_3
      have hpm := hur_3.trans (prim_al (hR.hz hjs) (hR.sq hjs) hP4)
      refine lv_if_eq (tgt := 137) hx hb dX0_way_121 (by decide) (fun c_6 => ?_) (fun c_6 => ?_)
      · have c_6 := bI_z0 c_6
        refine lv_bipush (v := (-2)) hx hb dX0_way_137 (by decide) ?_
        exact k_iret (xf, nf, fa, fc) hx hb hr hlocks (⟨by rw [wayIf_n (fun z9 => absurd (hpm.mpr z9.1) (by rw [c_6]; decide))], hnf⟩) (hP.sub [1, 2, 3, 4, 5, 6, None] rfl) (hD.sub [1, 2, 3, 4, 5, 6, None] (by decide) rfl) (hFg.keep hS hOF) hS (by omega) (by omega) dX0_way_139
      · have c_6 := bI_z1 c_6
        refine lv_aload hx hb dX0_way_124 (lv_at hl 6 rfl) ?_
        refine lv_aload hx hb dX0_way_126 (lv_at hl 0 rfl) ?_
        refine k_calll (wr := [(pa, aL ca nn (wF f ai)), (xo, oX xs xu xd xr xf), (xs, rA ca 3 6 sa), (rw, rwE ca 0 n9 f), (xu, rA ca 4 24 (fun i => some (ua i))), (xd, rA ca 5 2 (sdf e0 e1)), (xr, rA ca 4 16 (fun i => some (ra i))), (xf, rA ca 4 nf (fun i => some (fa i)))]) (va_runV (As := []) (rest := [.ref pa]) ⟨hx, hb, hml, hown, hts⟩ (ct_X1_norm l D ca H.size (ra js) (rq g js)) (cwV 0 hts (lw_V q350 q351 q352 q20 q353) rfl rfl rfl (by decide +kernel) ⟨Nat.le_of_ble_eq_true rfl, Nat.le_of_ble_eq_true rfl⟩) (k_preV hk hK hN hP hD [] (by decide) rfl (hG_2.keep hS nG_2) (hG_2.keep hS nG_2) rfl (q0 := 0) rfl) rfl rfl hl.1 rfl (lv_room (Nat.le_of_ble_eq_true rfl)) dX0_way_128 ⟨by show _ ≤ 2510; omega, by show _ ≤ 10056; omega⟩) hP hD hS hA [] [0, 1, 2, 3, 4, 5, 6, 7] rfl rfl (by decide) (by decide) (fun r_7 u_8 H locs w_9 hP hD hxw_9 hzw_9 hqw_9 hS => ?_)
        obtain rfl : r_7 = q_norm (rq g js) := w_9
        refine lv_topl (fun z_10 ez_10 => ?_)
        obtain rfl : z_10 = lN (wP (rq g js)) := ez_10.trans hN1
        have hp9 := hpm.mp c_6
        have hp8 := prim_pos hR hjs hp9
        refine k_calli (wr := [(xo, oX xs xu xd xr xf), (xs, rA ca 3 6 sa), (rw, rwE ca 0 n9 f), (xu, rA ca 4 24 (fun i => some (ua i))), (xd, rA ca 5 2 (sdf e0 e1)), (xr, rA ca 4 16 (fun i => some (ra i))), (xf, rA ca 4 nf (fun i => some (fa i)))]) (va_runS (As := [.ref pa, .long (lN (wP (rq g js)))]) (rest := []) ⟨hx, hb, hml, hown, hts⟩ (ct_X0_refusal hk l D ca H.size pa nn (wF f ai) (wP (rq g js)) hn2 (by omega) (by omega)) (va_cwS 2 hts (lw_S q485 q486 q19 q487) rfl rfl rfl (by decide +kernel) ⟨Nat.le_of_ble_eq_true rfl, Nat.le_of_ble_eq_true rfl⟩) (k_pre hk hK hN hP hD [0] (by decide) rfl trivial) rfl rfl hl.1 rfl (lv_room (Nat.le_of_ble_eq_true rfl)) dX0_way_131 ⟨by show _ ≤ 2510; omega, by show _ ≤ 10056; omega⟩) hP hD hS hA [0] [1, 2, 3, 4, 5, 6, 7] rfl rfl (by decide) (by decide) (fun r_11 u_12 H locs w_13 hP hD hxw_13 hzw_13 hqw_13 hS => ?_)
        have hP : va_P D vwCl [(xo, oX xs xu xd xr xf), (xs, rA ca 3 6 sa), (rw, rwE ca 0 n9 f), (xu, rA ca 4 24 (fun i => some (ua i))), (xd, rA ca 5 2 (sdf e0 e1)), (xr, rA ca 4 16 (fun i => some (ra i))), (xf, rA ca 4 nf (fun i => some (fa i))), (pa, aL ca nn (wF f ai))] H := hP
        have hD : va_D A [(xo, oX xs xu xd xr xf), (xs, rA ca 3 6 sa), (rw, rwE ca 0 n9 f), (xu, rA ca 4 24 (fun i => some (ua i))), (xd, rA ca 5 2 (sdf e0 e1)), (xr, rA ca 4 16 (fun i => some (ra i))), (xf, rA ca 4 nf (fun i => some (fa i))), (pa, aL ca nn (wF f ai))] := hD
        obtain ⟨hrr_11, hu9⟩ := w_13
        subst hrr_11
        refine lv_if_ge (tgt := 140) hx hb dX0_way_134 (by decide) (fun c_14 => ?_) (fun c_14 => ?_)
        · refine lv_aload_n hx hb dX0_way_140 rfl (lv_at hl 1 rfl) ?_
          refine lv_iload hx hb dX0_way_141 (lv_at hl 5 rfl) ?_
          have hC : (m_prim (rq g js) ∧ wR (wF f ai) 0 nn (wP (rq g js))) := ⟨hp9, hu9.mp (low2_ge c_14)⟩
          refine va_newq hx hb hown (hts _ q226) (hN.2.2.2.2.2.1 _ (List.mem_of_getElem? (i := 1) rfl)) hK hP hD hS hA (n := nI nn) (N' := nn) (fun h => absurd (lt_y (a := nn) (b := 0) rfl rfl (by omega) (by decide) h) (Nat.not_lt_zero nn)) (nI_clamp (show nn < 2 ^ 31 by omega)) (by omega) (Nat.le_of_ble_eq_true rfl) (by show 12 + nn ≤ 10056; omega) dX0_way_143 (fun xq cA H hK9 hP hD hS => ?_)
          obtain ⟨-, -, -, -, -, hn9⟩ := (hK9.2 6 _ rfl).2
          obtain ⟨-, -, -, -, -, hn4⟩ := (hK.2 4 _ rfl).2
          have ecA : cA = ca 4 := Option.some.inj (hn9.symm.trans hn4)
          subst ecA
          clear hK9 hn9 hn4
          refine W.widen (k := 2) (n := 24) (by omega) (by show 12 + nn ≤ 24; omega) ?_
          have hP : va_P D vwCl [(xo, oX xs xu xd xr xf), (xs, rA ca 3 6 sa), (rw, rwE ca 0 n9 f), (xu, rA ca 4 24 (fun i => some (ua i))), (xd, rA ca 5 2 (sdf e0 e1)), (xr, rA ca 4 16 (fun i => some (ra i))), (xf, rA ca 4 nf (fun i => some (fa i))), (pa, aL ca nn (wF f ai)), (xq, rA ca 4 nn (uAr (fun _ => 0) 0))] H := hP
          have hD : va_D A [(xo, oX xs xu xd xr xf), (xs, rA ca 3 6 sa), (rw, rwE ca 0 n9 f), (xu, rA ca 4 24 (fun i => some (ua i))), (xd, rA ca 5 2 (sdf e0 e1)), (xr, rA ca 4 16 (fun i => some (ra i))), (xf, rA ca 4 nf (fun i => some (fa i))), (pa, aL ca nn (wF f ai)), (xq, rA ca 4 nn (uAr (fun _ => 0) 0))] := hD
          refine va_put (D := D) (ci := 0) (v := .ref xq) (ty := (.array (.object "FourParts$Four"))) (C := RX0) (T := TX0) (N := 5) hx hb hts in_X0 tyX0 tyX0_ok nmX0 hown hK hP hD hS 0 rfl rfl 4 (by decide) (hts _ q297) (fun _ h9 => h9) rfl (by decide +kernel) rfl rfl (Nat.le_of_ble_eq_true rfl) dX0_way_146 (fun H locs hP hD hS => ?_)
          have hP : va_P D vwCl [(xo, .inr (0, [.ref xs, .ref xu, .ref xd, .ref xr, .ref xq])), (xs, rA ca 3 6 sa), (rw, rwE ca 0 n9 f), (xu, rA ca 4 24 (fun i => some (ua i))), (xd, rA ca 5 2 (sdf e0 e1)), (xr, rA ca 4 16 (fun i => some (ra i))), (xf, rA ca 4 nf (fun i => some (fa i))), (pa, aL ca nn (wF f ai)), (xq, rA ca 4 nn (uAr (fun _ => 0) 0))] H := hP
          have hD : va_D A [(xo, .inr (0, [.ref xs, .ref xu, .ref xd, .ref xr, .ref xq])), (xs, rA ca 3 6 sa), (rw, rwE ca 0 n9 f), (xu, rA ca 4 24 (fun i => some (ua i))), (xd, rA ca 5 2 (sdf e0 e1)), (xr, rA ca 4 16 (fun i => some (ra i))), (xf, rA ca 4 nf (fun i => some (fa i))), (pa, aL ca nn (wF f ai)), (xq, rA ca 4 nn (uAr (fun _ => 0) 0))] := hD
          refine lv_iconst (v := 0) hx hb dX0_way_149 (by decide) ?_
          refine lv_istore (lv' := [(7, .int 0), (6, .ref (ra js)), (0, .ref xo), (1, .int (nI js)), (2, .int (nI j)), (3, .int (nI ai)), (4, .int (nI nn)), (5, .ref pa)]) hx hb dX0_way_150 hl (by decide) rfl (fun ls hl => ?_)
          exact lp_X0_way2_0 xo xs xu xd xr xf sa ua un e0 e1 ra g nf fa fc js j rw n9 nn ai f xq pa hjs hj hs hn hn1 hn2 hai hR hU hnf hC (wayS_of hR hU hjs hC.1 hC.2) hUg hSd hRg hFg hOF hOS hx hb hr hts hown hlocks hnm hml hK hN hA  (nn + 1) 0 (fun _ => 0) (ra js) (rq g js) (by omega) rfl (by omega) _ _ _ (hP.sub [0, 1, 2, 3, 4, 5, 8, 7] rfl) (hD.sub [0, 1, 2, 3, 4, 5, 8, 7] (by decide) rfl) hS (lv_sub hl [2, 6, 7, 1, 0] rfl) (hG_2.keep hS nG_2) (fun i hi => absurd hi (Nat.not_lt_zero i))
        · refine lv_bipush (v := (-2)) hx hb dX0_way_137 (by decide) ?_
          exact k_iret (xf, nf, fa, fc) hx hb hr hlocks (⟨by rw [wayIf_n (fun z9 => absurd (hu9.mpr z9.2) (by rw [low2_lt c_14]; decide))], hnf⟩) (hP.sub [0, 1, 2, 3, 4, 5, None] rfl) (hD.sub [0, 1, 2, 3, 4, 5, None] (by decide) rfl) (hFg.keep hS hOF) hS (by omega) (by omega) dX0_way_139
    · have c_1 := le_no (a := nn) (b := k) rfl rfl (by omega) (by omega) c_1
      refine lv_aload hx hb dX0_way_71 (lv_at hl 5 rfl) ?_
      refine lv_iload hx hb dX0_way_73 (lv_at hl 6 rfl) ?_
      refine lv_aload_n hx hb dX0_way_75 rfl (lv_at hl 0 rfl) ?_
      refine va_get (D := D) (ci := 0) (v := .ref xs) (C := RX0) (T := TX0) (N := 5) hx hb hts in_X0 hown hK hP 1 rfl rfl 0 (by decide) (hts _ q293) (fun _ h9 => h9) rfl dX0_way_76 ?_
      refine lv_iload_n hx hb dX0_way_79 rfl (lv_at hl 2 rfl) ?_
      refine va_aldq hx hb hK hP 2 3 rfl rfl (vin_nI (a := j) rfl (by omega) (by decide)) dX0_way_80 ?_
      refine W.eq (g2 := F0 m 81 ls [.ref rw, .int (nI k), .ref pa]) (by rw [nI_clamp (show j < 2 ^ 31 by omega), hs]; rfl) ?_
      refine lv_iload_n hx hb dX0_way_81 rfl (lv_at hl 3 rfl) ?_
      refine lv_iload hx hb dX0_way_82 (lv_at hl 6 rfl) ?_
      refine lv_iadd hx hb dX0_way_84 ?_
      refine nt_get (ty := .byte) (w := f (ai + k)) (v := .int (f (ai + k)).toInt32) hx hb (hml.trans hl.1.symm) hown (hts _ q317) (hts _ q319) (hts _ q318) (hts _ q34) hK hP 3 0 rfl rfl (by rw [show ((nI ai) + (nI k) : Int32) = nI (ai + k) from (eq_add rfl rfl)]; exact fun z => absurd (lt_y (a := ai + k) (b := 0) rfl rfl (by omega) (by decide) z) (Nat.not_lt_zero _)) (by rw [show ((nI ai) + (nI k) : Int32) = nI (ai + k) from (eq_add rfl rfl), nI_clamp (by omega)]; omega) rfl rfl (by rw [show ((nI ai) + (nI k)).toNatClampNeg = ai + k from (by rw [show ((nI ai) + (nI k) : Int32) = nI (ai + k) from (eq_add rfl rfl)]; exact nI_clamp (by omega))]; exact arrV_read _ _ (by omega)) (by show some (Value.long (f (ai + k)).toInt32.toInt64) = _; rw [ck_64 (k := 0) (by decide) (hcut _ (by omega))]) (by decide) (Nat.le_of_ble_eq_true rfl) dX0_way_85 ?_
      refine va_last hx hb hK hP hD hS 0 2 rfl rfl (vin_nI (a := k) rfl (by omega) (by omega)) dX0_way_88 (fun H locs hP hD hS => ?_)
      rw [cn_nI (i := nI k) (a := k) rfl (by omega)] at hP hD
      have hP : va_P D vwCl [(pa, aL ca nn (vp_updL (prm f ai k) k (f (ai + k)))), (xo, oX xs xu xd xr xf), (xs, rA ca 3 6 sa), (rw, rwE ca 0 n9 f), (xu, rA ca 4 24 (fun i => some (ua i))), (xd, rA ca 5 2 (sdf e0 e1)), (xr, rA ca 4 16 (fun i => some (ra i))), (xf, rA ca 4 nf (fun i => some (fa i)))] H := hP
      have hD : va_D A [(pa, aL ca nn (vp_updL (prm f ai k) k (f (ai + k)))), (xo, oX xs xu xd xr xf), (xs, rA ca 3 6 sa), (rw, rwE ca 0 n9 f), (xu, rA ca 4 24 (fun i => some (ua i))), (xd, rA ca 5 2 (sdf e0 e1)), (xr, rA ca 4 16 (fun i => some (ra i))), (xf, rA ca 4 nf (fun i => some (fa i)))] := hD
      rw [prm_s] at hP hD
      have hP : va_P D vwCl [(pa, aL ca nn (prm f ai (k + 1))), (xo, oX xs xu xd xr xf), (xs, rA ca 3 6 sa), (rw, rwE ca 0 n9 f), (xu, rA ca 4 24 (fun i => some (ua i))), (xd, rA ca 5 2 (sdf e0 e1)), (xr, rA ca 4 16 (fun i => some (ra i))), (xf, rA ca 4 nf (fun i => some (fa i)))] H := hP
      have hD : va_D A [(pa, aL ca nn (prm f ai (k + 1))), (xo, oX xs xu xd xr xf), (xs, rA ca 3 6 sa), (rw, rwE ca 0 n9 f), (xu, rA ca 4 24 (fun i => some (ua i))), (xd, rA ca 5 2 (sdf e0 e1)), (xr, rA ca 4 16 (fun i => some (ra i))), (xf, rA ca 4 nf (fun i => some (fa i)))] := hD
      refine lv_iinc (v := nI (k + 1)) (lv' := [(7, .int (nI (k + 1))), (0, .ref xo), (1, .int (nI js)), (2, .int (nI j)), (3, .int (nI ai)), (4, .int (nI nn)), (5, .ref pa)]) hx hb dX0_way_89 hl (k := 6) rfl (eq_add rfl rfl) (by decide) rfl (fun ls hl => ?_)
      refine lv_goto (tgt := 64) hx hb dX0_way_92 (by decide) ?_
      exact ih (k + 1) (by omega) (by omega) _ _ _ hP hD hS (lv_sub hl [1, 2, 3, 4, 5, 6, 0] rfl) 
set_option maxHeartbeats 4000000 in
set_option maxRecDepth 100000 in
theorem ct_X0_way_K0 (l : Launch) (hl0 : l.stackTraces = false) (D : va_G) (ca : Nat → ClassId) (zH : Nat) (xo : Nat) (xs : Nat) (xu : Nat) (xd : Nat) (xr : Nat) (xf : Nat) (sa : Nat → Option Nat) (ua : Nat → Nat) (un : AI) (e0 : Nat) (e1 : Nat) (ra : Nat → Nat) (g : AI) (nf : Nat) (fa : Nat → Nat) (fc : AL) (js : Nat) (j : Nat) (rw : Nat) (n9 : Nat) (nn : Nat) (ai : Nat) (f : AL) (hjs : js < 16) (hj : j < 6) (hs : sa j = some rw) (hn : n9 ≤ 16) (hn1 : 0 < nn) (hn2 : nn ≤ 12) (hai : ai + nn ≤ n9) (hR : okR g) (hU : UnOk un) (hnf : nf ≤ 12) (hcut : ∀ i, i < n9 → ck 0 (f i) = f i) : vx_Met l yX0_way (wsH_ yX0_way cX0_way 8 (some .int) [((28 : Nat), (60 : Nat), (98 : Nat), (37 : Nat)), ((61 : Nat), (95 : Nat), (98 : Nat), (37 : Nat)), ((28 : Nat), (60 : Nat), (103 : Nat), (25 : Nat)), ((61 : Nat), (95 : Nat), (103 : Nat), (25 : Nat))]) ({ frames := 12, cells := 2510, slots := 10056, locals := 10400 }) (va_Pc [.ref xo, .int (nI js), .int (nI j), .int (nI ai), .int (nI nn)] (prX NW D ca [(xo, oX xs xu xd xr xf), (xs, rA ca 3 6 sa), (rw, rwE ca 0 n9 f), (xu, rA ca 4 24 (fun i => some (ua i))), (xd, rA ca 5 2 (sdf e0 e1)), (xr, rA ca 4 16 (fun i => some (ra i))), (xf, rA ca 4 nf (fun i => some (fa i)))] zH (fun H => Ug D H ua un ∧ Sd D H e0 e1 ∧ Rg D H ra g ∧ Fg D H fa (fq fc) nf))) (qI D (fun (r : Int32) (u : Nat × Nat × (Nat → Nat) × AL) => (r, nI u.2.1, u.2.2.2) = wayIf (m_prim (rq g js) ∧ wR (wF f ai) 0 nn (wP (rq g js))) (nI nn, nI nn, w4L (fcW un (wF f ai) (rq g js) fc (nn - 1)) (nn - 1) (lfW un (wF f ai) (rq g js) (nn - 1))) (-2, nI nf, fc) ∧ u.2.1 ≤ 12) (fun u => [(xo, oX xs xu xd xr u.1), (xs, rA ca 3 6 sa), (rw, rwE ca 0 n9 f), (xu, rA ca 4 24 (fun i => some (ua i))), (xd, rA ca 5 2 (sdf e0 e1)), (xr, rA ca 4 16 (fun i => some (ra i))), (u.1, rA ca 4 u.2.1 (fun i => some (u.2.2.1 i)))]) (fun u H => Fg D H u.2.2.1 (fq u.2.2.2) u.2.1) (va_A [(xo, oX xs xu xd xr xf), (xs, rA ca 3 6 sa), (rw, rwE ca 0 n9 f), (xu, rA ca 4 24 (fun i => some (ua i))), (xd, rA ca 5 2 (sdf e0 e1)), (xr, rA ca 4 16 (fun i => some (ra i))), (xf, rA ca 4 nf (fun i => some (fa i)))] zH)) noX 2510 10056 (va_A [(xo, oX xs xu xd xr xf), (xs, rA ca 3 6 sa), (rw, rwE ca 0 n9 f), (xu, rA ca 4 24 (fun i => some (ua i))), (xd, rA ca 5 2 (sdf e0 e1)), (xr, rA ca 4 16 (fun i => some (ra i))), (xf, rA ca 4 nf (fun i => some (fa i)))] zH) := by
  have hk := NW_ok
  refine k_ofH (Qc := qI D (fun (r : Int32) (u : Nat × Nat × (Nat → Nat) × AL) => (r, nI u.2.1, u.2.2.2) = wayIf (m_prim (rq g js) ∧ wR (wF f ai) 0 nn (wP (rq g js))) (nI nn, nI nn, w4L (fcW un (wF f ai) (rq g js) fc (nn - 1)) (nn - 1) (lfW un (wF f ai) (rq g js) (nn - 1))) (-2, nI nf, fc) ∧ u.2.1 ≤ 12) (fun u => [(xo, oX xs xu xd xr u.1), (xs, rA ca 3 6 sa), (rw, rwE ca 0 n9 f), (xu, rA ca 4 24 (fun i => some (ua i))), (xd, rA ca 5 2 (sdf e0 e1)), (xr, rA ca 4 16 (fun i => some (ra i))), (u.1, rA ca 4 u.2.1 (fun i => some (u.2.2.1 i)))]) (fun u H => Fg D H u.2.2.1 (fq u.2.2.2) u.2.1)) (by decide) (Nat.le_of_ble_eq_true rfl) ?_
  intro p e s m below meth c ls A H hH hx hb hr hts hown hlocks hnm hml hsz hP hD hK hN hA hAn hS hro hl hX hZ htb
  have hl : lv_has ls 8 [(0, .ref xo), (1, .int (nI js)), (2, .int (nI j)), (3, .int (nI ai)), (4, .int (nI nn))] := hl
  refine vx_ret ?_
  have hOF := k_outF hK (hH ▸ hP) (okc (oko 0 (by decide)) (okc (oka 3 (by decide)) (okc okR_row (okc (oka 4 (by decide)) (okc (oka 5 (by decide)) (okc (oka 4 (by decide)) (okc (oka 4 (by decide)) (okn)))))))) hAn
  have hOS := k_outS hK (hH ▸ hP) (okc (oko 0 (by decide)) (okc (oka 3 (by decide)) (okc okR_row (okc (oka 4 (by decide)) (okc (oka 5 (by decide)) (okc (oka 4 (by decide)) (okc (oka 4 (by decide)) (okn)))))))) hAn
  obtain ⟨hUg, hSd, hRg, hFg⟩ := hro
  refine lv_iload_n hx hb dX0_way_0 rfl (lv_at hl 1 rfl) ?_
  refine k_calli (wr := [(xo, oX xs xu xd xr xf), (xs, rA ca 3 6 sa), (rw, rwE ca 0 n9 f), (xu, rA ca 4 24 (fun i => some (ua i))), (xd, rA ca 5 2 (sdf e0 e1)), (xr, rA ca 4 16 (fun i => some (ra i))), (xf, rA ca 4 nf (fun i => some (fa i)))]) (va_runS (As := [.int (nI js)]) (rest := []) ⟨hx, hb, hml, hown, hts⟩ (ct_X0_isRegister hk l D ca H.size (nI js)) (va_cwS 1 hts (lw_S q313 q314 q19 q315) rfl rfl rfl (by decide +kernel) ⟨Nat.le_of_ble_eq_true rfl, Nat.le_of_ble_eq_true rfl⟩) (k_pre hk hK hN hP hD [] (by decide) rfl trivial) rfl rfl hl.1 rfl (lv_room (Nat.le_of_ble_eq_true rfl)) dX0_way_1 ⟨Nat.le_of_ble_eq_true rfl, Nat.le_of_ble_eq_true rfl⟩) hP hD hS hA [] [0, 1, 2, 3, 4, 5, 6] rfl rfl (by decide) (by decide) (fun r_1 u_2 H locs w_3 hP hD hxw_3 hzw_3 hqw_3 hS => ?_)
  obtain rfl : r_1 = bI (p_in (nI js).toInt64 0 15) := w_3
  refine lv_if_eq (tgt := 26) hx hb dX0_way_4 (by decide) (fun c_4 => absurd c_4 (by rw [in_15 hjs]; decide)) (fun c_4 => ?_)
  refine lv_iload_n hx hb dX0_way_7 rfl (lv_at hl 2 rfl) ?_
  refine k_calli (wr := [(xo, oX xs xu xd xr xf), (xs, rA ca 3 6 sa), (rw, rwE ca 0 n9 f), (xu, rA ca 4 24 (fun i => some (ua i))), (xd, rA ca 5 2 (sdf e0 e1)), (xr, rA ca 4 16 (fun i => some (ra i))), (xf, rA ca 4 nf (fun i => some (fa i)))]) (va_runS (As := [.int (nI j)]) (rest := []) ⟨hx, hb, hml, hown, hts⟩ (ct_X0_isSheet hk l D ca H.size (nI j)) (va_cwS 1 hts (lw_S q127 q128 q19 q129) rfl rfl rfl (by decide +kernel) ⟨Nat.le_of_ble_eq_true rfl, Nat.le_of_ble_eq_true rfl⟩) (k_pre hk hK hN hP hD [] (by decide) rfl trivial) rfl rfl hl.1 rfl (lv_room (Nat.le_of_ble_eq_true rfl)) dX0_way_8 ⟨Nat.le_of_ble_eq_true rfl, Nat.le_of_ble_eq_true rfl⟩) hP hD hS hA [] [0, 1, 2, 3, 4, 5, 6] rfl rfl (by decide) (by decide) (fun r_5 u_6 H locs w_7 hP hD hxw_7 hzw_7 hqw_7 hS => ?_)
  obtain rfl : r_5 = bI (p_in (nI j).toInt64 0 5) := w_7
  refine lv_if_eq (tgt := 26) hx hb dX0_way_11 (by decide) (fun c_8 => absurd c_8 (by rw [in_5 hj]; decide)) (fun c_8 => ?_)
  refine lv_iload hx hb dX0_way_14 (lv_at hl 4 rfl) ?_
  refine lv_if_eq (tgt := 26) hx hb dX0_way_16 (by decide) (fun c_9 => absurd c_9 (nI_ne0 hn1 (by omega))) (fun c_9 => ?_)
  refine lv_iload hx hb dX0_way_19 (lv_at hl 4 rfl) ?_
  refine lv_bipush (v := 12) hx hb dX0_way_21 (by decide) ?_
  refine lv_icmp_le (tgt := 28) hx hb dX0_way_23 (by decide) (fun c_10 => ?_) (fun c_10 => absurd (nI_le (b := 12) hn2 (by decide)) c_10)
  refine lv_aload_n hx hb dX0_way_28 rfl (lv_at hl 0 rfl) ?_
  refine va_get (D := D) (ci := 0) (v := .ref xs) (C := RX0) (T := TX0) (N := 5) hx hb hts in_X0 hown hK hP 0 rfl rfl 0 (by decide) (hts _ q293) (fun _ h9 => h9) rfl dX0_way_29 ?_
  refine lv_iload_n hx hb dX0_way_32 rfl (lv_at hl 2 rfl) ?_
  refine va_aldq hx hb hK hP 1 3 rfl rfl (vin_nI (a := j) rfl (by omega) (by decide)) dX0_way_33 ?_
  refine W.eq (g2 := F0 m 34 ls [.ref rw]) (by rw [nI_clamp (show j < 2 ^ 31 by omega), hs]; rfl) ?_
  refine nt_len (ty := .byte) (v := nI n9) hx hb (hml.trans hl.1.symm) hown (hts _ q336) (hts _ q338) (hts _ q337) (hts _ q34) hK hP 2 0 rfl rfl rfl (by decide) (Nat.le_of_ble_eq_true rfl) dX0_way_34 ?_
  refine lv_istore (lv' := [(6, .int (nI n9)), (0, .ref xo), (1, .int (nI js)), (2, .int (nI j)), (3, .int (nI ai)), (4, .int (nI nn))]) hx hb dX0_way_37 hl (by decide) rfl (fun ls hl => ?_)
  refine lv_iload hx hb dX0_way_39 (lv_at hl 5 rfl) ?_
  refine va_newa (atype := .long) (a0 := (nn, .inr (.inl (fun _ => 0)))) hx hb (hts _ q140) rfl hK hP hD hS hA (fun _ => rfl) (fun h => absurd (lt_y (a := nn) (b := 0) rfl rfl (by omega) (by decide) h) (Nat.not_lt_zero nn)) (nI_clamp (show nn < 2 ^ 31 by omega)) (by show nn * 8 ≤ 536870912; omega) (Nat.le_of_ble_eq_true rfl) (by show 0 + nn ≤ 10056; omega) dX0_way_41 (fun pa cA H hK9 hP hD hS => ?_)
  have ecA : cA = ca 2 := Option.some.inj (((hK9.2 6 _ rfl).2).symm.trans ((hK.2 2 _ rfl).2))
  subst ecA
  refine W.widen (k := 1) (n := 12) (by omega) (by show 0 + nn ≤ 12; omega) ?_
  have hP : va_P D vwCl [(xo, oX xs xu xd xr xf), (xs, rA ca 3 6 sa), (rw, rwE ca 0 n9 f), (xu, rA ca 4 24 (fun i => some (ua i))), (xd, rA ca 5 2 (sdf e0 e1)), (xr, rA ca 4 16 (fun i => some (ra i))), (xf, rA ca 4 nf (fun i => some (fa i))), (pa, aL ca nn (fun _ => 0))] H := hP
  have hD : va_D A [(xo, oX xs xu xd xr xf), (xs, rA ca 3 6 sa), (rw, rwE ca 0 n9 f), (xu, rA ca 4 24 (fun i => some (ua i))), (xd, rA ca 5 2 (sdf e0 e1)), (xr, rA ca 4 16 (fun i => some (ra i))), (xf, rA ca 4 nf (fun i => some (fa i))), (pa, aL ca nn (fun _ => 0))] := hD
  refine lv_astore (lv' := [(5, .ref pa), (6, .int (nI n9)), (0, .ref xo), (1, .int (nI js)), (2, .int (nI j)), (3, .int (nI ai)), (4, .int (nI nn))]) hx hb dX0_way_43 hl (by decide) rfl (fun ls hl => ?_)
  refine lv_iload_n hx hb dX0_way_45 rfl (lv_at hl 5 rfl) ?_
  refine lv_if_lt (tgt := 58) hx hb dX0_way_46 (by decide) (fun c_11 => absurd c_11 (fun z => absurd (lt_y (a := ai) (b := 0) rfl rfl (by omega) (by decide) z) (Nat.not_lt_zero _))) (fun c_11 => ?_)
  refine lv_iload_n hx hb dX0_way_49 rfl (lv_at hl 5 rfl) ?_
  refine lv_iload hx hb dX0_way_50 (lv_at hl 1 rfl) ?_
  refine lv_iload hx hb dX0_way_52 (lv_at hl 6 rfl) ?_
  refine lv_isub hx hb dX0_way_54 ?_
  refine lv_icmp_le (tgt := 61) hx hb dX0_way_55 (by decide) (fun c_12 => ?_) (fun c_12 => absurd ((subn_le hn hn2 (by omega)).mpr hai) c_12)
  refine lv_iconst (v := 0) hx hb dX0_way_61 (by decide) ?_
  refine lv_istore (lv' := [(7, .int 0), (5, .ref pa), (6, .int (nI n9)), (0, .ref xo), (1, .int (nI js)), (2, .int (nI j)), (3, .int (nI ai)), (4, .int (nI nn))]) hx hb dX0_way_62 hl (by decide) rfl (fun ls hl => ?_)
  have hpr0 : (fun _ => 0 : AL) = prm f ai 0 := rfl
  have hP : va_P D vwCl [(xo, oX xs xu xd xr xf), (xs, rA ca 3 6 sa), (rw, rwE ca 0 n9 f), (xu, rA ca 4 24 (fun i => some (ua i))), (xd, rA ca 5 2 (sdf e0 e1)), (xr, rA ca 4 16 (fun i => some (ra i))), (xf, rA ca 4 nf (fun i => some (fa i))), (pa, aL ca nn (prm f ai 0))] H := hP
  have hD : va_D A [(xo, oX xs xu xd xr xf), (xs, rA ca 3 6 sa), (rw, rwE ca 0 n9 f), (xu, rA ca 4 24 (fun i => some (ua i))), (xd, rA ca 5 2 (sdf e0 e1)), (xr, rA ca 4 16 (fun i => some (ra i))), (xf, rA ca 4 nf (fun i => some (fa i))), (pa, aL ca nn (prm f ai 0))] := hD
  exact lp_X0_way1_0 xo xs xu xd xr xf sa ua un e0 e1 ra g nf fa fc js j rw n9 nn ai f pa hjs hj hs hn hn1 hn2 hai hR hU hnf hcut hUg hSd hRg hFg hOF hOS hx hb hr hts hown hlocks hnm hml hK hN hA  (nn + 1) 0 (by omega) (by omega) _ _ _ (hP.sub [7, 0, 1, 2, 3, 4, 5, 6] rfl) (hD.sub [7, 0, 1, 2, 3, 4, 5, 6] (by decide) rfl) hS (lv_sub hl [3, 4, 5, 6, 7, 1, 0] rfl) 
set_option maxHeartbeats 4000000 in
set_option maxRecDepth 100000 in
theorem lp_X0_way2_1  {l : Launch} {D : va_G} {ca : Nat → ClassId} (xo : Nat) (xs : Nat) (xu : Nat) (xd : Nat) (xr : Nat) (xf : Nat) (sa : Nat → Option Nat) (ua : Nat → Nat) (un : AI) (e0 : Nat) (e1 : Nat) (ra : Nat → Nat) (g : AI) (nf : Nat) (fa : Nat → Nat) (fc : AL) (js : Nat) (j : Nat) (rw : Nat) (n9 : Nat) (nn : Nat) (ai : Nat) (f : AL) (xq : Nat) (pa : Nat) (hjs : js < 16) (hj : j < 6) (hs : sa j = some rw) (hn : n9 ≤ 16) (hn1 : 0 < nn) (hn2 : nn ≤ 12) (hai : ai + nn ≤ n9) (hR : okR g) (hU : UnOk un) (hnf : nf ≤ 12) (hC : (m_prim (rq g js) ∧ wR (wF f ai) 0 nn (wP (rq g js)))) (hW : wayS un (wF f ai) (rq g js) nn) {p : Program} {e : Env} {s : State} {m : MethodId} {below : List Frame} {meth : Method} {c : Code} {A : Nat → Prop} (hUg : Ug D s.heap ua un) (hSd : Sd D s.heap e0 e1) (hRg : Rg D s.heap ra g) (hFg : Fg D s.heap fa (fq fc) nf) (hOF : ∀ (a : Nat) (v : Q4), Fo D s.heap a v → ¬ A a) (hOS : ∀ (a k : Nat), k = 2 ∨ k = 3 → So D s.heap a k → ¬ A a) (hx : p.tables.exec = Jvm.exec) (hb : c.code = cX0_way) (hr : meth.sig.returnType = (some .int)) (hts : ∀ w ∈ lw_all, w.before ([.ref xo, .int (nI js), .int (nI j), .int (nI ai), .int (nI nn)] : List Value).toArray s = true) (hown : s.vm.findClass yX0_way.cls = some m.cls) (hlocks : meth.locks = false) (hnm : meth.name = yX0_way.name) (hml : c.maxLocals = 8) (hK : va_K D vwCl (tysG ca) s) (hN : NW s) (hA : ∀ q, s.heap.size ≤ q → A q)  :
    ∀ (n : Nat) (k : Nat) (fb : Nat → Nat) (qa : Nat) (lv : Q4), (k ≤ nn - 1) → (lv = lfW un (wF f ai) (rq g js) k) → (nn < n + k) →  ∀ (H : Heap) (locs : List Loc) (ls : Array Slot), va_P D vwCl [(xo, oX xs xu xd xr xq), (xs, rA ca 3 6 sa), (rw, rwE ca 1 n9 f), (xu, rA ca 4 24 (fun i => some (ua i))), (xd, rA ca 5 2 (sdf e0 e1)), (xr, rA ca 4 16 (fun i => some (ra i))), (xq, rA ca 4 nn (uAr fb k)), (pa, aL ca nn (wF f ai))] H → va_D A [(xo, oX xs xu xd xr xq), (xs, rA ca 3 6 sa), (rw, rwE ca 1 n9 f), (xu, rA ca 4 24 (fun i => some (ua i))), (xd, rA ca 5 2 (sdf e0 e1)), (xr, rA ca 4 16 (fun i => some (ra i))), (xq, rA ca 4 nn (uAr fb k)), (pa, aL ca nn (wF f ai))] → va_S A s.heap H locs → lv_has ls 8 [(0, .ref xo), (4, .int (nI nn)), (5, .ref pa), (6, .ref qa), (7, .int (nI k))] → Fo D H qa lv → Fw D H fb un (wF f ai) (rq g js) k → W p l e ({ frames := 12, cells := 2510, slots := 10056, locals := 10400 }) s m ([.ref xo, .int (nI js), .int (nI j), .int (nI ai), .int (nI nn)] : List Value).toArray below meth c H locs (2 + 228 * k) (24 + 912 * k) (MQ below (qI D (fun (r : Int32) (u : Nat × Nat × (Nat → Nat) × AL) => (r, nI u.2.1, u.2.2.2) = wayIf (m_prim (rq g js) ∧ wR (wF f ai) 0 nn (wP (rq g js))) (nI nn, nI nn, w4L (fcW un (wF f ai) (rq g js) fc (nn - 1)) (nn - 1) (lfW un (wF f ai) (rq g js) (nn - 1))) (-2, nI nf, fc) ∧ u.2.1 ≤ 12) (fun u => [(xo, oX xs xu xd xr u.1), (xs, rA ca 3 6 sa), (rw, rwE ca 1 n9 f), (xu, rA ca 4 24 (fun i => some (ua i))), (xd, rA ca 5 2 (sdf e0 e1)), (xr, rA ca 4 16 (fun i => some (ra i))), (u.1, rA ca 4 u.2.1 (fun i => some (u.2.2.1 i)))]) (fun u H => Fg D H u.2.2.1 (fq u.2.2.2) u.2.1) A) ([.ref xo, .int (nI js), .int (nI j), .int (nI ai), .int (nI nn)] : List Value).toArray s 2510 10056 A) (F0 m 152 ls []) := by
  intro n
  induction n with
  | zero =>
    intro k fb qa lv hkn hlv hfuel H locs ls hP hD hS hl hQ hFF
    exact absurd hfuel (by omega)
  | succ n ih =>
    intro k fb qa lv hkn hlv hfuel H locs ls hP hD hS hl hQ hFF
    have hk := NW_ok
    refine lv_iload hx hb dX0_way_152 (lv_at hl 4 rfl) ?_
    refine lv_iload hx hb dX0_way_154 (lv_at hl 1 rfl) ?_
    refine lv_iconst (v := 1) hx hb dX0_way_156 (by decide) ?_
    refine lv_isub hx hb dX0_way_157 ?_
    refine lv_topi (fun z_1 ez_1 => ?_)
    obtain rfl : z_1 = nI (nn - 1) := ez_1.trans (eq_sub (a := nn) (b := 1) rfl rfl (by omega))
    refine lv_icmp_ge (tgt := 228) hx hb dX0_way_158 (by decide) (fun c_2 => ?_) (fun c_2 => ?_)
    · have c_2 := le_y (a := nn - 1) (b := k) rfl rfl (by omega) (by omega) c_2
      refine lv_aload_n hx hb dX0_way_228 rfl (lv_at hl 0 rfl) ?_
      refine va_get (D := D) (ci := 0) (v := .ref xq) (C := RX0) (T := TX0) (N := 5) hx hb hts in_X0 hown hK hP 0 rfl rfl 4 (by decide) (hts _ q297) (fun _ h9 => h9) rfl dX0_way_229 ?_
      refine lv_iload hx hb dX0_way_232 (lv_at hl 1 rfl) ?_
      refine lv_iconst (v := 1) hx hb dX0_way_234 (by decide) ?_
      refine lv_isub hx hb dX0_way_235 ?_
      refine lv_topi (fun z_3 ez_3 => ?_)
      obtain rfl : z_3 = nI k := ez_3.trans ((eq_sub (a := nn) (b := 1) rfl rfl (by omega)).trans (congrArg nI (by omega)))
      refine lv_aload hx hb dX0_way_236 (lv_at hl 3 rfl) ?_
      have hFF0 := hFF
      have hnx : ∀ (q : Nat) (v : Q4), Fo D H q v → q ≠ xq := fun q v h e => k_outA hK (wc := [(xq, rA ca 4 nn (uAr fb k))]) (k_sub hP [6] rfl) (okc (oka 4 (by decide)) okn) (Or.inl rfl) h (Or.inl ⟨0, _, by rw [e]; rfl⟩)
      refine k_astF hx hb hK hP hD hS 6 4 rfl rfl (any_fo hK hQ) (vin_nI (a := k) rfl (by omega) (by omega)) dX0_way_238 (fun H locs ho9 hP hD hS => ?_)
      have hQ := hQ.mov (ho9 _ (hnx _ _ hQ))
      have hFF := hFF.mov (fun q v h => ho9 _ (hnx _ _ h))
      rw [nI_clamp (show k < 2 ^ 31 by omega), uAr_s] at hP hD
      have hP : va_P D vwCl [(xo, oX xs xu xd xr xq), (xs, rA ca 3 6 sa), (rw, rwE ca 1 n9 f), (xu, rA ca 4 24 (fun i => some (ua i))), (xd, rA ca 5 2 (sdf e0 e1)), (xr, rA ca 4 16 (fun i => some (ra i))), (xq, rA ca 4 nn (uAr (va_up fb k qa) (k + 1))), (pa, aL ca nn (wF f ai))] H := hP
      have hD : va_D A [(xo, oX xs xu xd xr xq), (xs, rA ca 3 6 sa), (rw, rwE ca 1 n9 f), (xu, rA ca 4 24 (fun i => some (ua i))), (xd, rA ca 5 2 (sdf e0 e1)), (xr, rA ca 4 16 (fun i => some (ra i))), (xq, rA ca 4 nn (uAr (va_up fb k qa) (k + 1))), (pa, aL ca nn (wF f ai))] := hD
      refine lv_iload hx hb dX0_way_239 (lv_at hl 1 rfl) ?_
      have hPa : va_P D vwCl ([(xq, rA ca 4 nn (uAr (va_up fb k qa) (k + 1)))] ++ [(xo, oX xs xu xd xr xq), (xs, rA ca 3 6 sa), (rw, rwE ca 1 n9 f), (xu, rA ca 4 24 (fun i => some (ua i))), (xd, rA ca 5 2 (sdf e0 e1)), (xr, rA ca 4 16 (fun i => some (ra i)))]) H := hP.sub [6, 0, 1, 2, 3, 4, 5] rfl
      have hDa : va_D A ([(xq, rA ca 4 nn (uAr (va_up fb k qa) (k + 1)))] ++ [(xo, oX xs xu xd xr xq), (xs, rA ca 3 6 sa), (rw, rwE ca 1 n9 f), (xu, rA ca 4 24 (fun i => some (ua i))), (xd, rA ca 5 2 (sdf e0 e1)), (xr, rA ca 4 16 (fun i => some (ra i)))]) := hD.sub [6, 0, 1, 2, 3, 4, 5] (by decide) rfl
      have hPb := vp_cell1 (g := fun i => some (va_up fb k qa i)) hPa (fun i hi => if_pos (by omega))
      have hDb : va_D A ([(xq, rA ca 4 nn (fun i => some (va_up fb k qa i)))] ++ [(xo, oX xs xu xd xr xq), (xs, rA ca 3 6 sa), (rw, rwE ca 1 n9 f), (xu, rA ca 4 24 (fun i => some (ua i))), (xd, rA ca 5 2 (sdf e0 e1)), (xr, rA ca 4 16 (fun i => some (ra i)))]) := vd_cell hDa
      have hk1 : nn - 1 = k := by omega
      rw [hlv] at hQ
      exact k_iret (xq, nn, va_up fb k qa, w4L (fcW un (wF f ai) (rq g js) fc k) k (lfW un (wF f ai) (rq g js) k)) hx hb hr hlocks ⟨by rw [wayIf_y hC, hk1], hn2⟩ (hPb.sub [1, 2, 3, 4, 5, 6, 0] rfl) (hDb.sub [1, 2, 3, 4, 5, 6, 0] (by decide) rfl) (Fw.all hFF hQ (by omega)) hS (by omega) (by omega) dX0_way_241
    · have c_2 := le_no (a := nn - 1) (b := k) rfl rfl (by omega) (by omega) c_2
      obtain ⟨hw1, hw2, hw3⟩ := hW k (by omega)
      rw [← hlv] at hw1 hw2 hw3
      refine lv_aload_n hx hb dX0_way_161 rfl (lv_at hl 0 rfl) ?_
      refine va_get (D := D) (ci := 0) (v := .ref xq) (C := RX0) (T := TX0) (N := 5) hx hb hts in_X0 hown hK hP 0 rfl rfl 4 (by decide) (hts _ q297) (fun _ h9 => h9) rfl dX0_way_162 ?_
      refine lv_iload hx hb dX0_way_165 (lv_at hl 4 rfl) ?_
      refine lv_aload_n hx hb dX0_way_167 rfl (lv_at hl 0 rfl) ?_
      refine va_get (D := D) (ci := 0) (v := .ref xd) (C := RX0) (T := TX0) (N := 5) hx hb hts in_X0 hown hK hP 0 rfl rfl 2 (by decide) (hts _ q295) (fun _ h9 => h9) rfl dX0_way_168 ?_
      refine lv_iconst (v := 1) hx hb dX0_way_171 (by decide) ?_
      refine va_aldq hx hb hK hP 4 5 rfl rfl (vin_nI (a := 1) rfl (by omega) (by omega)) dX0_way_172 ?_
      refine W.eq (g2 := F0 m 173 ls [.ref e1, .int (nI k), .ref xq]) (by rw [show (1 : Int32).toNatClampNeg = 1 from by decide]; rfl) ?_
      have hE_4 := hSd.2
      have nE_4 := hOS _ _ (Or.inr rfl) hE_4
      refine k_newF (ci := 1) (fs := [.long 0, .long 0, .long 0, .long 0]) (C := RX1) (T := TX1) (N := 4) hx hb hts in_X1 tyX1 tyX1_ok hown (hts _ q226) (hts _ q228) (hts _ q20) hK hP hD hS hA rfl (fun j hj => by rcases (show j = 0 ∨ j = 1 ∨ j = 2 ∨ j = 3 by omega) with rfl | rfl | rfl | rfl <;> rfl) (by show _ ≤ 2510; omega) (by show _ ≤ 10056; omega) dX0_way_173 (fun q_5 H hq9 ho9 hP hD hS => ?_)
      have hP : va_P D vwCl [(xo, oX xs xu xd xr xq), (xs, rA ca 3 6 sa), (rw, rwE ca 1 n9 f), (xu, rA ca 4 24 (fun i => some (ua i))), (xd, rA ca 5 2 (sdf e0 e1)), (xr, rA ca 4 16 (fun i => some (ra i))), (xq, rA ca 4 nn (uAr fb k)), (pa, aL ca nn (wF f ai)), (q_5, .inr (1, [.long 0, .long 0, .long 0, .long 0]))] H := hP
      have hD : va_D A [(xo, oX xs xu xd xr xq), (xs, rA ca 3 6 sa), (rw, rwE ca 1 n9 f), (xu, rA ca 4 24 (fun i => some (ua i))), (xd, rA ca 5 2 (sdf e0 e1)), (xr, rA ca 4 16 (fun i => some (ra i))), (xq, rA ca 4 nn (uAr fb k)), (pa, aL ca nn (wF f ai)), (q_5, .inr (1, [.long 0, .long 0, .long 0, .long 0]))] := hD
      have hneQ : qa ≠ q_5 := by have := hQ.lt; omega
      have hne : ∀ i, i < k → fb i ≠ q_5 := fun i hi => by have := (hFF i hi).lt; omega
      have hQ := hQ.mov (ho9 _ hQ.lt)
      have hFF := hFF.mov (fun q v h => ho9 _ h.lt)
      refine lv_dup hx hb dX0_way_176 rfl ?_
      refine lv_ldc2 hx hb hown (hts _ q135) dX0_way_177 ?_
      refine lv_aload hx hb dX0_way_180 (lv_at hl 2 rfl) ?_
      refine lv_iload hx hb dX0_way_182 (lv_at hl 4 rfl) ?_
      refine va_lald hx hb hK hP 7 2 rfl rfl (vin_nI (a := k) rfl (by omega) (by omega)) dX0_way_184 ?_
      refine lv_topl (fun z_6 ez_6 => ?_)
      obtain rfl : z_6 = (wF f ai) k := ez_6.trans (cl_nI (a := k) (wF f ai) rfl (by omega))
      refine lv_lmul hx hb dX0_way_185 ?_
      refine lv_lconst (v := 0) hx hb dX0_way_186 (by decide) ?_
      refine lv_lconst (v := 0) hx hb dX0_way_187 (by decide) ?_
      refine lv_lconst (v := 0) hx hb dX0_way_188 (by decide) ?_
      refine k_callv (wr := [(xo, oX xs xu xd xr xq), (xs, rA ca 3 6 sa), (rw, rwE ca 1 n9 f), (xu, rA ca 4 24 (fun i => some (ua i))), (xd, rA ca 5 2 (sdf e0 e1)), (xr, rA ca 4 16 (fun i => some (ra i))), (xq, rA ca 4 nn (uAr fb k)), (pa, aL ca nn (wF f ai))]) (va_runI (As := [.long (2 * ((wF f ai) k)), .long 0, .long 0, .long 0]) (rest := [.ref q_5, .ref e1, .int (nI k), .ref xq]) ⟨hx, hb, hml, hown, hts⟩ (ct_X1_init hk l D ca H.size q_5 (2 * ((wF f ai) k)) 0 0 0 (0, 0, 0, 0)) (cwI 4 hts (lw_meth q231) rfl rfl rfl (hts _ q20) (hts _ q229) (hts _ q230) rfl (by decide +kernel) ⟨Nat.le_of_ble_eq_true rfl, Nat.le_of_ble_eq_true rfl⟩) (k_pre hk hK hN hP hD [8] (by decide) rfl trivial) rfl rfl hl.1 rfl (lv_room (Nat.le_of_ble_eq_true rfl)) dX0_way_189 ⟨by show _ ≤ 2510; omega, by show _ ≤ 10056; omega⟩) hP hD hS hA [8] [0, 1, 2, 3, 4, 5, 6, 7] rfl rfl (by decide) (by decide) (fun u_8 H locs w_9 hP hD hxw_9 hzw_9 hqw_9 hS => ?_)
      have hP : va_P D vwCl [(xo, oX xs xu xd xr xq), (xs, rA ca 3 6 sa), (rw, rwE ca 1 n9 f), (xu, rA ca 4 24 (fun i => some (ua i))), (xd, rA ca 5 2 (sdf e0 e1)), (xr, rA ca 4 16 (fun i => some (ra i))), (xq, rA ca 4 nn (uAr fb k)), (pa, aL ca nn (wF f ai)), (q_5, f4 (2 * ((wF f ai) k), 0, 0, 0))] H := hP
      have hD : va_D A [(xo, oX xs xu xd xr xq), (xs, rA ca 3 6 sa), (rw, rwE ca 1 n9 f), (xu, rA ca 4 24 (fun i => some (ua i))), (xd, rA ca 5 2 (sdf e0 e1)), (xr, rA ca 4 16 (fun i => some (ra i))), (xq, rA ca 4 nn (uAr fb k)), (pa, aL ca nn (wF f ai)), (q_5, f4 (2 * ((wF f ai) k), 0, 0, 0))] := hD
      have hQ := hQ.mov (hqw_9 _ hQ.lt (va_A1 hneQ hQ.lt))
      have hFF : Fw D H fb un (wF f ai) (rq g js) k := fun i hi => (hFF i hi).mov (hqw_9 _ (hFF i hi).lt (va_A1 (hne i hi) (hFF i hi).lt))
      refine lv_aload hx hb dX0_way_192 (lv_at hl 3 rfl) ?_
      refine lv_aload_n hx hb dX0_way_194 rfl (lv_at hl 0 rfl) ?_
      refine va_get (D := D) (ci := 0) (v := .ref xu) (C := RX0) (T := TX0) (N := 5) hx hb hts in_X0 hown hK hP 0 rfl rfl 1 (by decide) (hts _ q294) (fun _ h9 => h9) rfl dX0_way_195 ?_
      refine k_callr (wr := [(xo, oX xs xu xd xr xq), (xs, rA ca 3 6 sa), (rw, rwE ca 1 n9 f), (xu, rA ca 4 24 (fun i => some (ua i))), (xd, rA ca 5 2 (sdf e0 e1)), (xr, rA ca 4 16 (fun i => some (ra i))), (xq, rA ca 4 nn (uAr fb k)), (pa, aL ca nn (wF f ai)), (q_5, f4 (2 * ((wF f ai) k), 0, 0, 0))]) (va_runU (x := yX2_divisor) (As := [.ref q_5, .ref qa, .ref xu]) (rest := [.int (nI k), .ref xq]) ⟨hx, hb, hml, hown, hts⟩ (ct_X2_divisor_L l D ca H.size e1 q_5 qa xu (2 * ((wF f ai) k), 0, 0, 0) lv ua un (eucBoth_2 hw1)) (va_cwU (C := "FourParts$Left") (owner := "FourParts$Side") (x := yX2_divisor) 3 hts (lw_app (fun w hw => by simp only [List.mem_cons, List.not_mem_nil, or_false] at hw; rcases hw with e | e | e | e | e <;> rw [e] <;> first | exact q459 | exact q461 | exact q462 | exact q460 | exact q21) (lw_meth q464)) rfl rfl rfl rfl (by decide +kernel) ⟨Nat.le_of_ble_eq_true rfl, Nat.le_of_ble_eq_true rfl⟩) (k_preV hk hK hN hP hD [] (by decide) rfl ⟨(hE_4.keep hS nE_4), (Fo.of hP 8 rfl), hQ, ⟨k_sub hP [3] rfl, hUg.keep hS hOF⟩⟩ (hE_4.keep hS nE_4) rfl (q0 := 0) rfl) rfl rfl hl.1 rfl (lv_room (Nat.le_of_ble_eq_true rfl)) dX0_way_198 ⟨by show _ ≤ 2510; omega, by show _ ≤ 10056; omega⟩) hP hD hS hA [] [0, 1, 2, 3, 4, 5, 6, 7, 8] rfl rfl (by decide) (by decide) (fun u_11 r_10 H locs w_12 hP hD hxw_12 hzw_12 hqw_12 hS => ?_)
      have hQ := hQ.mov (hqw_12 _ hQ.lt (va_A_nil hQ.lt))
      have hFF := hFF.mov (fun q v h => hqw_12 _ h.lt (va_A_nil h.lt))
      rw [eucBoth_3 hw1] at hxw_12
      have hr9 : Fo D H r_10 (w_f un ((wF f ai) k) lv) := hxw_12
      have hnx : ∀ (q : Nat) (v : Q4), Fo D H q v → q ≠ xq := fun q v h e => k_outA hK (wc := [(xq, rA ca 4 nn (uAr fb k))]) (k_sub hP [6] rfl) (okc (oka 4 (by decide)) okn) (Or.inl rfl) h (Or.inl ⟨0, _, by rw [e]; rfl⟩)
      refine k_astF hx hb hK hP hD hS 6 4 rfl rfl (any_fo hK hr9) (vin_nI (a := k) rfl (by omega) (by omega)) dX0_way_201 (fun H locs ho9 hP hD hS => ?_)
      have hQ := hQ.mov (ho9 _ (hnx _ _ hQ))
      have hr9 := hr9.mov (ho9 _ (hnx _ _ hr9))
      have hFF := hFF.mov (fun q v h => ho9 _ (hnx _ _ h))
      rw [nI_clamp (show k < 2 ^ 31 by omega), uAr_s] at hP hD
      have hP : va_P D vwCl [(xo, oX xs xu xd xr xq), (xs, rA ca 3 6 sa), (rw, rwE ca 1 n9 f), (xu, rA ca 4 24 (fun i => some (ua i))), (xd, rA ca 5 2 (sdf e0 e1)), (xr, rA ca 4 16 (fun i => some (ra i))), (xq, rA ca 4 nn (uAr (va_up fb k r_10) (k + 1))), (pa, aL ca nn (wF f ai)), (q_5, f4 (2 * ((wF f ai) k), 0, 0, 0))] H := hP
      have hD : va_D A [(xo, oX xs xu xd xr xq), (xs, rA ca 3 6 sa), (rw, rwE ca 1 n9 f), (xu, rA ca 4 24 (fun i => some (ua i))), (xd, rA ca 5 2 (sdf e0 e1)), (xr, rA ca 4 16 (fun i => some (ra i))), (xq, rA ca 4 nn (uAr (va_up fb k r_10) (k + 1))), (pa, aL ca nn (wF f ai)), (q_5, f4 (2 * ((wF f ai) k), 0, 0, 0))] := hD
      have hFF := Fw.snoc hFF (by rw [← hlv]; exact hr9)
      refine lv_aload_n hx hb dX0_way_202 rfl (lv_at hl 0 rfl) ?_
      refine va_get (D := D) (ci := 0) (v := .ref xd) (C := RX0) (T := TX0) (N := 5) hx hb hts in_X0 hown hK hP 0 rfl rfl 2 (by decide) (hts _ q295) (fun _ h9 => h9) rfl dX0_way_203 ?_
      refine lv_iconst (v := 1) hx hb dX0_way_206 (by decide) ?_
      refine va_aldq hx hb hK hP 4 5 rfl rfl (vin_nI (a := 1) rfl (by omega) (by omega)) dX0_way_207 ?_
      refine W.eq (g2 := F0 m 208 ls [.ref e1]) (by rw [show (1 : Int32).toNatClampNeg = 1 from by decide]; rfl) ?_
      refine lv_aload hx hb dX0_way_208 (lv_at hl 3 rfl) ?_
      refine lv_aload_n hx hb dX0_way_210 rfl (lv_at hl 0 rfl) ?_
      refine va_get (D := D) (ci := 0) (v := .ref xq) (C := RX0) (T := TX0) (N := 5) hx hb hts in_X0 hown hK hP 0 rfl rfl 4 (by decide) (hts _ q297) (fun _ h9 => h9) rfl dX0_way_211 ?_
      refine lv_iload hx hb dX0_way_214 (lv_at hl 4 rfl) ?_
      refine va_aldq hx hb hK hP 6 4 rfl rfl (vin_nI (a := k) rfl (by omega) (by omega)) dX0_way_216 ?_
      refine W.eq (g2 := F0 m 217 ls [.ref r_10, .ref qa, .ref e1]) (by rw [nI_clamp (show k < 2 ^ 31 by omega), uAr_at]; rfl) ?_
      refine k_callr (wr := [(xo, oX xs xu xd xr xq), (xs, rA ca 3 6 sa), (rw, rwE ca 1 n9 f), (xu, rA ca 4 24 (fun i => some (ua i))), (xd, rA ca 5 2 (sdf e0 e1)), (xr, rA ca 4 16 (fun i => some (ra i))), (xq, rA ca 4 nn (uAr (va_up fb k r_10) (k + 1))), (pa, aL ca nn (wF f ai)), (q_5, f4 (2 * ((wF f ai) k), 0, 0, 0))]) (va_runU (x := yX2_quotient) (As := [.ref qa, .ref r_10]) (rest := []) ⟨hx, hb, hml, hown, hts⟩ (ct_X2_quotient_L l D ca H.size e1 qa r_10 lv (w_f un ((wF f ai) k) lv) (pos_ne hw2)) (va_cwU (C := "FourParts$Left") (owner := "FourParts$Side") (x := yX2_quotient) 2 hts (lw_app (fun w hw => by simp only [List.mem_cons, List.not_mem_nil, or_false] at hw; rcases hw with e | e | e | e | e <;> rw [e] <;> first | exact q422 | exact q424 | exact q425 | exact q423 | exact q21) (lw_meth q427)) rfl rfl rfl rfl (by decide +kernel) ⟨Nat.le_of_ble_eq_true rfl, Nat.le_of_ble_eq_true rfl⟩) (k_preV hk hK hN hP hD [] (by decide) rfl ⟨(hE_4.keep hS nE_4), hQ, hr9⟩ (hE_4.keep hS nE_4) rfl (q0 := 0) rfl) rfl rfl hl.1 rfl (lv_room (Nat.le_of_ble_eq_true rfl)) dX0_way_217 ⟨by show _ ≤ 2510; omega, by show _ ≤ 10056; omega⟩) hP hD hS hA [] [0, 1, 2, 3, 4, 5, 6, 7, 8] rfl rfl (by decide) (by decide) (fun u_14 r_13 H locs w_15 hP hD hxw_15 hzw_15 hqw_15 hS => ?_)
      have hP : va_P D vwCl [(xo, oX xs xu xd xr xq), (xs, rA ca 3 6 sa), (rw, rwE ca 1 n9 f), (xu, rA ca 4 24 (fun i => some (ua i))), (xd, rA ca 5 2 (sdf e0 e1)), (xr, rA ca 4 16 (fun i => some (ra i))), (xq, rA ca 4 nn (uAr (va_up fb k r_10) (k + 1))), (pa, aL ca nn (wF f ai)), (q_5, f4 (2 * ((wF f ai) k), 0, 0, 0)), (r_13, f4 (nearC (q_norm (w_f un ((wF f ai) k) lv)) (q_times (q_mirror (w_f un ((wF f ai) k) lv)) lv)))] H := hP
      have hD : va_D A [(xo, oX xs xu xd xr xq), (xs, rA ca 3 6 sa), (rw, rwE ca 1 n9 f), (xu, rA ca 4 24 (fun i => some (ua i))), (xd, rA ca 5 2 (sdf e0 e1)), (xr, rA ca 4 16 (fun i => some (ra i))), (xq, rA ca 4 nn (uAr (va_up fb k r_10) (k + 1))), (pa, aL ca nn (wF f ai)), (q_5, f4 (2 * ((wF f ai) k), 0, 0, 0)), (r_13, f4 (nearC (q_norm (w_f un ((wF f ai) k) lv)) (q_times (q_mirror (w_f un ((wF f ai) k) lv)) lv)))] := hD
      have hQ := hQ.mov (hqw_15 _ hQ.lt (va_A_nil hQ.lt))
      have hr9 := hr9.mov (hqw_15 _ hr9.lt (va_A_nil hr9.lt))
      have hFF := hFF.mov (fun q v h => hqw_15 _ h.lt (va_A_nil h.lt))
      refine lv_astore (lv' := [(6, .ref r_13), (0, .ref xo), (4, .int (nI nn)), (5, .ref pa), (7, .int (nI k))]) hx hb dX0_way_220 hl (by decide) rfl (fun ls hl => ?_)
      refine lv_iinc (v := nI (k + 1)) (lv' := [(7, .int (nI (k + 1))), (6, .ref r_13), (0, .ref xo), (4, .int (nI nn)), (5, .ref pa)]) hx hb dX0_way_222 hl (k := 4) rfl (eq_add rfl rfl) (by decide) rfl (fun ls hl => ?_)
      refine lv_goto (tgt := 152) hx hb dX0_way_225 (by decide) ?_
      have hl9 : (nearC (q_norm (w_f un ((wF f ai) k) lv)) (q_times (q_mirror (w_f un ((wF f ai) k) lv)) lv)) = lfW un (wF f ai) (rq g js) (k + 1) := by rw [hw3, dq_c hw2]; rfl
      have hQ9 : Fo D H r_13 (lfW un (wF f ai) (rq g js) (k + 1)) := by rw [← hl9]; exact Fo.of hP 9 rfl
      refine W.widen (k := 2 + 228 * (k + 1)) (n := 24 + 912 * (k + 1)) (by omega) (by omega) ?_
      exact ih (k + 1) (va_up fb k r_10) r_13 _ (by omega) rfl (by omega) _ _ _ (hP.sub [0, 1, 2, 3, 4, 5, 6, 7] rfl) (hD.sub [0, 1, 2, 3, 4, 5, 6, 7] (by decide) rfl) hS (lv_sub hl [2, 3, 4, 1, 0] rfl) hQ9 hFF
set_option maxHeartbeats 4000000 in
set_option maxRecDepth 100000 in
theorem lp_X0_way1_1  {l : Launch} {D : va_G} {ca : Nat → ClassId} (xo : Nat) (xs : Nat) (xu : Nat) (xd : Nat) (xr : Nat) (xf : Nat) (sa : Nat → Option Nat) (ua : Nat → Nat) (un : AI) (e0 : Nat) (e1 : Nat) (ra : Nat → Nat) (g : AI) (nf : Nat) (fa : Nat → Nat) (fc : AL) (js : Nat) (j : Nat) (rw : Nat) (n9 : Nat) (nn : Nat) (ai : Nat) (f : AL) (pa : Nat) (hjs : js < 16) (hj : j < 6) (hs : sa j = some rw) (hn : n9 ≤ 16) (hn1 : 0 < nn) (hn2 : nn ≤ 12) (hai : ai + nn ≤ n9) (hR : okR g) (hU : UnOk un) (hnf : nf ≤ 12) (hcut : ∀ i, i < n9 → ck 1 (f i) = f i) {p : Program} {e : Env} {s : State} {m : MethodId} {below : List Frame} {meth : Method} {c : Code} {A : Nat → Prop} (hUg : Ug D s.heap ua un) (hSd : Sd D s.heap e0 e1) (hRg : Rg D s.heap ra g) (hFg : Fg D s.heap fa (fq fc) nf) (hOF : ∀ (a : Nat) (v : Q4), Fo D s.heap a v → ¬ A a) (hOS : ∀ (a k : Nat), k = 2 ∨ k = 3 → So D s.heap a k → ¬ A a) (hx : p.tables.exec = Jvm.exec) (hb : c.code = cX0_way) (hr : meth.sig.returnType = (some .int)) (hts : ∀ w ∈ lw_all, w.before ([.ref xo, .int (nI js), .int (nI j), .int (nI ai), .int (nI nn)] : List Value).toArray s = true) (hown : s.vm.findClass yX0_way.cls = some m.cls) (hlocks : meth.locks = false) (hnm : meth.name = yX0_way.name) (hml : c.maxLocals = 8) (hK : va_K D vwCl (tysG ca) s) (hN : NW s) (hA : ∀ q, s.heap.size ≤ q → A q)  :
    ∀ (n : Nat) (k : Nat), (k ≤ nn) → (nn < n + k) →  ∀ (H : Heap) (locs : List Loc) (ls : Array Slot), va_P D vwCl [(pa, aL ca nn (prm f ai k)), (xo, oX xs xu xd xr xf), (xs, rA ca 3 6 sa), (rw, rwE ca 1 n9 f), (xu, rA ca 4 24 (fun i => some (ua i))), (xd, rA ca 5 2 (sdf e0 e1)), (xr, rA ca 4 16 (fun i => some (ra i))), (xf, rA ca 4 nf (fun i => some (fa i)))] H → va_D A [(pa, aL ca nn (prm f ai k)), (xo, oX xs xu xd xr xf), (xs, rA ca 3 6 sa), (rw, rwE ca 1 n9 f), (xu, rA ca 4 24 (fun i => some (ua i))), (xd, rA ca 5 2 (sdf e0 e1)), (xr, rA ca 4 16 (fun i => some (ra i))), (xf, rA ca 4 nf (fun i => some (fa i)))] → va_S A s.heap H locs → lv_has ls 8 [(0, .ref xo), (1, .int (nI js)), (2, .int (nI j)), (3, .int (nI ai)), (4, .int (nI nn)), (5, .ref pa), (7, .int (nI k))] → W p l e ({ frames := 12, cells := 2510, slots := 10056, locals := 10400 }) s m ([.ref xo, .int (nI js), .int (nI j), .int (nI ai), .int (nI nn)] : List Value).toArray below meth c H locs 1 12 (MQ below (qI D (fun (r : Int32) (u : Nat × Nat × (Nat → Nat) × AL) => (r, nI u.2.1, u.2.2.2) = wayIf (m_prim (rq g js) ∧ wR (wF f ai) 0 nn (wP (rq g js))) (nI nn, nI nn, w4L (fcW un (wF f ai) (rq g js) fc (nn - 1)) (nn - 1) (lfW un (wF f ai) (rq g js) (nn - 1))) (-2, nI nf, fc) ∧ u.2.1 ≤ 12) (fun u => [(xo, oX xs xu xd xr u.1), (xs, rA ca 3 6 sa), (rw, rwE ca 1 n9 f), (xu, rA ca 4 24 (fun i => some (ua i))), (xd, rA ca 5 2 (sdf e0 e1)), (xr, rA ca 4 16 (fun i => some (ra i))), (u.1, rA ca 4 u.2.1 (fun i => some (u.2.2.1 i)))]) (fun u H => Fg D H u.2.2.1 (fq u.2.2.2) u.2.1) A) ([.ref xo, .int (nI js), .int (nI j), .int (nI ai), .int (nI nn)] : List Value).toArray s 2510 10056 A) (F0 m 64 ls []) := by
  intro n
  induction n with
  | zero =>
    intro k hkn hfuel H locs ls hP hD hS hl 
    exact absurd hfuel (by omega)
  | succ n ih =>
    intro k hkn hfuel H locs ls hP hD hS hl 
    have hk := NW_ok
    refine lv_iload hx hb dX0_way_64 (lv_at hl 6 rfl) ?_
    refine lv_iload hx hb dX0_way_66 (lv_at hl 4 rfl) ?_
    refine lv_icmp_ge (tgt := 95) hx hb dX0_way_68 (by decide) (fun c_1 => ?_) (fun c_1 => ?_)
    · have c_1 := le_y (a := nn) (b := k) rfl rfl (by omega) (by omega) c_1
      refine lv_goto (tgt := 108) hx hb dX0_way_95 (by decide) ?_
      have hP := vp_cellL (g := (wF f ai)) hP (fun i hi => if_pos (by omega))
      have hD : va_D A [(pa, aL ca nn (wF f ai)), (xo, oX xs xu xd xr xf), (xs, rA ca 3 6 sa), (rw, rwE ca 1 n9 f), (xu, rA ca 4 24 (fun i => some (ua i))), (xd, rA ca 5 2 (sdf e0 e1)), (xr, rA ca 4 16 (fun i => some (ra i))), (xf, rA ca 4 nf (fun i => some (fa i)))] := vd_cell hD
      have hP : va_P D vwCl [(pa, aL ca nn (wF f ai)), (xo, oX xs xu xd xr xf), (xs, rA ca 3 6 sa), (rw, rwE ca 1 n9 f), (xu, rA ca 4 24 (fun i => some (ua i))), (xd, rA ca 5 2 (sdf e0 e1)), (xr, rA ca 4 16 (fun i => some (ra i))), (xf, rA ca 4 nf (fun i => some (fa i)))] H := hP
      obtain ⟨hN1, hP9, hP4⟩ := norm_P hR hjs
      refine lv_aload_n hx hb dX0_way_108 rfl (lv_at hl 0 rfl) ?_
      refine va_get (D := D) (ci := 0) (v := .ref xr) (C := RX0) (T := TX0) (N := 5) hx hb hts in_X0 hown hK hP 1 rfl rfl 3 (by decide) (hts _ q296) (fun _ h9 => h9) rfl dX0_way_109 ?_
      refine lv_iload_n hx hb dX0_way_112 rfl (lv_at hl 1 rfl) ?_
      refine va_aldq hx hb hK hP 6 4 rfl rfl (vin_nI (a := js) rfl (by omega) (by omega)) dX0_way_113 ?_
      refine W.eq (g2 := F0 m 114 ls [.ref (ra js)]) (by rw [nI_clamp (show js < 2 ^ 31 by omega)]; rfl) ?_
      have hG_2 := hRg js (by omega)
      have nG_2 := hOF _ _ hG_2
      refine lv_astore (lv' := [(6, .ref (ra js)), (0, .ref xo), (1, .int (nI js)), (2, .int (nI j)), (3, .int (nI ai)), (4, .int (nI nn)), (5, .ref pa), (7, .int (nI k))]) hx hb dX0_way_114 hl (by decide) rfl (fun ls hl => ?_)
      refine lv_aload hx hb dX0_way_116 (lv_at hl 0 rfl) ?_
      refine k_calli (wr := [(pa, aL ca nn (wF f ai)), (xo, oX xs xu xd xr xf), (xs, rA ca 3 6 sa), (rw, rwE ca 1 n9 f), (xu, rA ca 4 24 (fun i => some (ua i))), (xd, rA ca 5 2 (sdf e0 e1)), (xr, rA ca 4 16 (fun i => some (ra i))), (xf, rA ca 4 nf (fun i => some (fa i)))]) (va_runV (As := []) (rest := []) ⟨hx, hb, hml, hown, hts⟩ (ct_X1_isPrimitive l D ca H.size (ra js) (rq g js) (wP (rq g js)) hN1 (by omega)) (cwV 0 hts (lw_V q355 q356 q357 q20 q358) rfl rfl rfl (by decide +kernel) ⟨Nat.le_of_ble_eq_true rfl, Nat.le_of_ble_eq_true rfl⟩) (k_preV hk hK hN hP hD [] (by decide) rfl (hG_2.keep hS nG_2) (hG_2.keep hS nG_2) rfl (q0 := 0) rfl) rfl rfl hl.1 rfl (lv_room (Nat.le_of_ble_eq_true rfl)) dX0_way_118 ⟨by show _ ≤ 2510; omega, by show _ ≤ 10056; omega⟩) hP hD hS hA [] [0, 1, 2, 3, 4, 5, 6, 7] rfl rfl (by decide) (by decide) (fun r_3 u_4 H locs w_5 hP hD hxw_5 hzw_5 hqw_5 hS => ?_)
      obtain ⟨hrr_3, hur_3⟩ := w_5
      subst hrr_3
      have hpm := hur_3.trans (prim_al (hR.hz hjs) (hR.sq hjs) hP4)
      refine lv_if_eq (tgt := 137) hx hb dX0_way_121 (by decide) (fun c_6 => ?_) (fun c_6 => ?_)
      · have c_6 := bI_z0 c_6
        refine lv_bipush (v := (-2)) hx hb dX0_way_137 (by decide) ?_
        exact k_iret (xf, nf, fa, fc) hx hb hr hlocks (⟨by rw [wayIf_n (fun z9 => absurd (hpm.mpr z9.1) (by rw [c_6]; decide))], hnf⟩) (hP.sub [1, 2, 3, 4, 5, 6, None] rfl) (hD.sub [1, 2, 3, 4, 5, 6, None] (by decide) rfl) (hFg.keep hS hOF) hS (by omega) (by omega) dX0_way_139
      · have c_6 := bI_z1 c_6
        refine lv_aload hx hb dX0_way_124 (lv_at hl 6 rfl) ?_
        refine lv_aload hx hb dX0_way_126 (lv_at hl 0 rfl) ?_
        refine k_calll (wr := [(pa, aL ca nn (wF f ai)), (xo, oX xs xu xd xr xf), (xs, rA ca 3 6 sa), (rw, rwE ca 1 n9 f), (xu, rA ca 4 24 (fun i => some (ua i))), (xd, rA ca 5 2 (sdf e0 e1)), (xr, rA ca 4 16 (fun i => some (ra i))), (xf, rA ca 4 nf (fun i => some (fa i)))]) (va_runV (As := []) (rest := [.ref pa]) ⟨hx, hb, hml, hown, hts⟩ (ct_X1_norm l D ca H.size (ra js) (rq g js)) (cwV 0 hts (lw_V q350 q351 q352 q20 q353) rfl rfl rfl (by decide +kernel) ⟨Nat.le_of_ble_eq_true rfl, Nat.le_of_ble_eq_true rfl⟩) (k_preV hk hK hN hP hD [] (by decide) rfl (hG_2.keep hS nG_2) (hG_2.keep hS nG_2) rfl (q0 := 0) rfl) rfl rfl hl.1 rfl (lv_room (Nat.le_of_ble_eq_true rfl)) dX0_way_128 ⟨by show _ ≤ 2510; omega, by show _ ≤ 10056; omega⟩) hP hD hS hA [] [0, 1, 2, 3, 4, 5, 6, 7] rfl rfl (by decide) (by decide) (fun r_7 u_8 H locs w_9 hP hD hxw_9 hzw_9 hqw_9 hS => ?_)
        obtain rfl : r_7 = q_norm (rq g js) := w_9
        refine lv_topl (fun z_10 ez_10 => ?_)
        obtain rfl : z_10 = lN (wP (rq g js)) := ez_10.trans hN1
        have hp9 := hpm.mp c_6
        have hp8 := prim_pos hR hjs hp9
        refine k_calli (wr := [(xo, oX xs xu xd xr xf), (xs, rA ca 3 6 sa), (rw, rwE ca 1 n9 f), (xu, rA ca 4 24 (fun i => some (ua i))), (xd, rA ca 5 2 (sdf e0 e1)), (xr, rA ca 4 16 (fun i => some (ra i))), (xf, rA ca 4 nf (fun i => some (fa i)))]) (va_runS (As := [.ref pa, .long (lN (wP (rq g js)))]) (rest := []) ⟨hx, hb, hml, hown, hts⟩ (ct_X0_refusal hk l D ca H.size pa nn (wF f ai) (wP (rq g js)) hn2 (by omega) (by omega)) (va_cwS 2 hts (lw_S q485 q486 q19 q487) rfl rfl rfl (by decide +kernel) ⟨Nat.le_of_ble_eq_true rfl, Nat.le_of_ble_eq_true rfl⟩) (k_pre hk hK hN hP hD [0] (by decide) rfl trivial) rfl rfl hl.1 rfl (lv_room (Nat.le_of_ble_eq_true rfl)) dX0_way_131 ⟨by show _ ≤ 2510; omega, by show _ ≤ 10056; omega⟩) hP hD hS hA [0] [1, 2, 3, 4, 5, 6, 7] rfl rfl (by decide) (by decide) (fun r_11 u_12 H locs w_13 hP hD hxw_13 hzw_13 hqw_13 hS => ?_)
        have hP : va_P D vwCl [(xo, oX xs xu xd xr xf), (xs, rA ca 3 6 sa), (rw, rwE ca 1 n9 f), (xu, rA ca 4 24 (fun i => some (ua i))), (xd, rA ca 5 2 (sdf e0 e1)), (xr, rA ca 4 16 (fun i => some (ra i))), (xf, rA ca 4 nf (fun i => some (fa i))), (pa, aL ca nn (wF f ai))] H := hP
        have hD : va_D A [(xo, oX xs xu xd xr xf), (xs, rA ca 3 6 sa), (rw, rwE ca 1 n9 f), (xu, rA ca 4 24 (fun i => some (ua i))), (xd, rA ca 5 2 (sdf e0 e1)), (xr, rA ca 4 16 (fun i => some (ra i))), (xf, rA ca 4 nf (fun i => some (fa i))), (pa, aL ca nn (wF f ai))] := hD
        obtain ⟨hrr_11, hu9⟩ := w_13
        subst hrr_11
        refine lv_if_ge (tgt := 140) hx hb dX0_way_134 (by decide) (fun c_14 => ?_) (fun c_14 => ?_)
        · refine lv_aload_n hx hb dX0_way_140 rfl (lv_at hl 1 rfl) ?_
          refine lv_iload hx hb dX0_way_141 (lv_at hl 5 rfl) ?_
          have hC : (m_prim (rq g js) ∧ wR (wF f ai) 0 nn (wP (rq g js))) := ⟨hp9, hu9.mp (low2_ge c_14)⟩
          refine va_newq hx hb hown (hts _ q226) (hN.2.2.2.2.2.1 _ (List.mem_of_getElem? (i := 1) rfl)) hK hP hD hS hA (n := nI nn) (N' := nn) (fun h => absurd (lt_y (a := nn) (b := 0) rfl rfl (by omega) (by decide) h) (Nat.not_lt_zero nn)) (nI_clamp (show nn < 2 ^ 31 by omega)) (by omega) (Nat.le_of_ble_eq_true rfl) (by show 12 + nn ≤ 10056; omega) dX0_way_143 (fun xq cA H hK9 hP hD hS => ?_)
          obtain ⟨-, -, -, -, -, hn9⟩ := (hK9.2 6 _ rfl).2
          obtain ⟨-, -, -, -, -, hn4⟩ := (hK.2 4 _ rfl).2
          have ecA : cA = ca 4 := Option.some.inj (hn9.symm.trans hn4)
          subst ecA
          clear hK9 hn9 hn4
          refine W.widen (k := 2) (n := 24) (by omega) (by show 12 + nn ≤ 24; omega) ?_
          have hP : va_P D vwCl [(xo, oX xs xu xd xr xf), (xs, rA ca 3 6 sa), (rw, rwE ca 1 n9 f), (xu, rA ca 4 24 (fun i => some (ua i))), (xd, rA ca 5 2 (sdf e0 e1)), (xr, rA ca 4 16 (fun i => some (ra i))), (xf, rA ca 4 nf (fun i => some (fa i))), (pa, aL ca nn (wF f ai)), (xq, rA ca 4 nn (uAr (fun _ => 0) 0))] H := hP
          have hD : va_D A [(xo, oX xs xu xd xr xf), (xs, rA ca 3 6 sa), (rw, rwE ca 1 n9 f), (xu, rA ca 4 24 (fun i => some (ua i))), (xd, rA ca 5 2 (sdf e0 e1)), (xr, rA ca 4 16 (fun i => some (ra i))), (xf, rA ca 4 nf (fun i => some (fa i))), (pa, aL ca nn (wF f ai)), (xq, rA ca 4 nn (uAr (fun _ => 0) 0))] := hD
          refine va_put (D := D) (ci := 0) (v := .ref xq) (ty := (.array (.object "FourParts$Four"))) (C := RX0) (T := TX0) (N := 5) hx hb hts in_X0 tyX0 tyX0_ok nmX0 hown hK hP hD hS 0 rfl rfl 4 (by decide) (hts _ q297) (fun _ h9 => h9) rfl (by decide +kernel) rfl rfl (Nat.le_of_ble_eq_true rfl) dX0_way_146 (fun H locs hP hD hS => ?_)
          have hP : va_P D vwCl [(xo, .inr (0, [.ref xs, .ref xu, .ref xd, .ref xr, .ref xq])), (xs, rA ca 3 6 sa), (rw, rwE ca 1 n9 f), (xu, rA ca 4 24 (fun i => some (ua i))), (xd, rA ca 5 2 (sdf e0 e1)), (xr, rA ca 4 16 (fun i => some (ra i))), (xf, rA ca 4 nf (fun i => some (fa i))), (pa, aL ca nn (wF f ai)), (xq, rA ca 4 nn (uAr (fun _ => 0) 0))] H := hP
          have hD : va_D A [(xo, .inr (0, [.ref xs, .ref xu, .ref xd, .ref xr, .ref xq])), (xs, rA ca 3 6 sa), (rw, rwE ca 1 n9 f), (xu, rA ca 4 24 (fun i => some (ua i))), (xd, rA ca 5 2 (sdf e0 e1)), (xr, rA ca 4 16 (fun i => some (ra i))), (xf, rA ca 4 nf (fun i => some (fa i))), (pa, aL ca nn (wF f ai)), (xq, rA ca 4 nn (uAr (fun _ => 0) 0))] := hD
          refine lv_iconst (v := 0) hx hb dX0_way_149 (by decide) ?_
          refine lv_istore (lv' := [(7, .int 0), (6, .ref (ra js)), (0, .ref xo), (1, .int (nI js)), (2, .int (nI j)), (3, .int (nI ai)), (4, .int (nI nn)), (5, .ref pa)]) hx hb dX0_way_150 hl (by decide) rfl (fun ls hl => ?_)
          exact lp_X0_way2_1 xo xs xu xd xr xf sa ua un e0 e1 ra g nf fa fc js j rw n9 nn ai f xq pa hjs hj hs hn hn1 hn2 hai hR hU hnf hC (wayS_of hR hU hjs hC.1 hC.2) hUg hSd hRg hFg hOF hOS hx hb hr hts hown hlocks hnm hml hK hN hA  (nn + 1) 0 (fun _ => 0) (ra js) (rq g js) (by omega) rfl (by omega) _ _ _ (hP.sub [0, 1, 2, 3, 4, 5, 8, 7] rfl) (hD.sub [0, 1, 2, 3, 4, 5, 8, 7] (by decide) rfl) hS (lv_sub hl [2, 6, 7, 1, 0] rfl) (hG_2.keep hS nG_2) (fun i hi => absurd hi (Nat.not_lt_zero i))
        · refine lv_bipush (v := (-2)) hx hb dX0_way_137 (by decide) ?_
          exact k_iret (xf, nf, fa, fc) hx hb hr hlocks (⟨by rw [wayIf_n (fun z9 => absurd (hu9.mpr z9.2) (by rw [low2_lt c_14]; decide))], hnf⟩) (hP.sub [0, 1, 2, 3, 4, 5, None] rfl) (hD.sub [0, 1, 2, 3, 4, 5, None] (by decide) rfl) (hFg.keep hS hOF) hS (by omega) (by omega) dX0_way_139
    · have c_1 := le_no (a := nn) (b := k) rfl rfl (by omega) (by omega) c_1
      refine lv_aload hx hb dX0_way_71 (lv_at hl 5 rfl) ?_
      refine lv_iload hx hb dX0_way_73 (lv_at hl 6 rfl) ?_
      refine lv_aload_n hx hb dX0_way_75 rfl (lv_at hl 0 rfl) ?_
      refine va_get (D := D) (ci := 0) (v := .ref xs) (C := RX0) (T := TX0) (N := 5) hx hb hts in_X0 hown hK hP 1 rfl rfl 0 (by decide) (hts _ q293) (fun _ h9 => h9) rfl dX0_way_76 ?_
      refine lv_iload_n hx hb dX0_way_79 rfl (lv_at hl 2 rfl) ?_
      refine va_aldq hx hb hK hP 2 3 rfl rfl (vin_nI (a := j) rfl (by omega) (by decide)) dX0_way_80 ?_
      refine W.eq (g2 := F0 m 81 ls [.ref rw, .int (nI k), .ref pa]) (by rw [nI_clamp (show j < 2 ^ 31 by omega), hs]; rfl) ?_
      refine lv_iload_n hx hb dX0_way_81 rfl (lv_at hl 3 rfl) ?_
      refine lv_iload hx hb dX0_way_82 (lv_at hl 6 rfl) ?_
      refine lv_iadd hx hb dX0_way_84 ?_
      refine nt_get (ty := .int) (w := f (ai + k)) (v := .int (f (ai + k)).toInt32) hx hb (hml.trans hl.1.symm) hown (hts _ q317) (hts _ q319) (hts _ q318) (hts _ q34) hK hP 3 1 rfl rfl (by rw [show ((nI ai) + (nI k) : Int32) = nI (ai + k) from (eq_add rfl rfl)]; exact fun z => absurd (lt_y (a := ai + k) (b := 0) rfl rfl (by omega) (by decide) z) (Nat.not_lt_zero _)) (by rw [show ((nI ai) + (nI k) : Int32) = nI (ai + k) from (eq_add rfl rfl), nI_clamp (by omega)]; omega) rfl rfl (by rw [show ((nI ai) + (nI k)).toNatClampNeg = ai + k from (by rw [show ((nI ai) + (nI k) : Int32) = nI (ai + k) from (eq_add rfl rfl)]; exact nI_clamp (by omega))]; exact arrV_read _ _ (by omega)) (by show some (Value.long (f (ai + k)).toInt32.toInt64) = _; rw [ck_64 (k := 1) (by decide) (hcut _ (by omega))]) (by decide) (Nat.le_of_ble_eq_true rfl) dX0_way_85 ?_
      refine va_last hx hb hK hP hD hS 0 2 rfl rfl (vin_nI (a := k) rfl (by omega) (by omega)) dX0_way_88 (fun H locs hP hD hS => ?_)
      rw [cn_nI (i := nI k) (a := k) rfl (by omega)] at hP hD
      have hP : va_P D vwCl [(pa, aL ca nn (vp_updL (prm f ai k) k (f (ai + k)))), (xo, oX xs xu xd xr xf), (xs, rA ca 3 6 sa), (rw, rwE ca 1 n9 f), (xu, rA ca 4 24 (fun i => some (ua i))), (xd, rA ca 5 2 (sdf e0 e1)), (xr, rA ca 4 16 (fun i => some (ra i))), (xf, rA ca 4 nf (fun i => some (fa i)))] H := hP
      have hD : va_D A [(pa, aL ca nn (vp_updL (prm f ai k) k (f (ai + k)))), (xo, oX xs xu xd xr xf), (xs, rA ca 3 6 sa), (rw, rwE ca 1 n9 f), (xu, rA ca 4 24 (fun i => some (ua i))), (xd, rA ca 5 2 (sdf e0 e1)), (xr, rA ca 4 16 (fun i => some (ra i))), (xf, rA ca 4 nf (fun i => some (fa i)))] := hD
      rw [prm_s] at hP hD
      have hP : va_P D vwCl [(pa, aL ca nn (prm f ai (k + 1))), (xo, oX xs xu xd xr xf), (xs, rA ca 3 6 sa), (rw, rwE ca 1 n9 f), (xu, rA ca 4 24 (fun i => some (ua i))), (xd, rA ca 5 2 (sdf e0 e1)), (xr, rA ca 4 16 (fun i => some (ra i))), (xf, rA ca 4 nf (fun i => some (fa i)))] H := hP
      have hD : va_D A [(pa, aL ca nn (prm f ai (k + 1))), (xo, oX xs xu xd xr xf), (xs, rA ca 3 6 sa), (rw, rwE ca 1 n9 f), (xu, rA ca 4 24 (fun i => some (ua i))), (xd, rA ca 5 2 (sdf e0 e1)), (xr, rA ca 4 16 (fun i => some (ra i))), (xf, rA ca 4 nf (fun i => some (fa i)))] := hD
      refine lv_iinc (v := nI (k + 1)) (lv' := [(7, .int (nI (k + 1))), (0, .ref xo), (1, .int (nI js)), (2, .int (nI j)), (3, .int (nI ai)), (4, .int (nI nn)), (5, .ref pa)]) hx hb dX0_way_89 hl (k := 6) rfl (eq_add rfl rfl) (by decide) rfl (fun ls hl => ?_)
      refine lv_goto (tgt := 64) hx hb dX0_way_92 (by decide) ?_
      exact ih (k + 1) (by omega) (by omega) _ _ _ hP hD hS (lv_sub hl [1, 2, 3, 4, 5, 6, 0] rfl) 
set_option maxHeartbeats 4000000 in
set_option maxRecDepth 100000 in
theorem ct_X0_way_K1 (l : Launch) (hl0 : l.stackTraces = false) (D : va_G) (ca : Nat → ClassId) (zH : Nat) (xo : Nat) (xs : Nat) (xu : Nat) (xd : Nat) (xr : Nat) (xf : Nat) (sa : Nat → Option Nat) (ua : Nat → Nat) (un : AI) (e0 : Nat) (e1 : Nat) (ra : Nat → Nat) (g : AI) (nf : Nat) (fa : Nat → Nat) (fc : AL) (js : Nat) (j : Nat) (rw : Nat) (n9 : Nat) (nn : Nat) (ai : Nat) (f : AL) (hjs : js < 16) (hj : j < 6) (hs : sa j = some rw) (hn : n9 ≤ 16) (hn1 : 0 < nn) (hn2 : nn ≤ 12) (hai : ai + nn ≤ n9) (hR : okR g) (hU : UnOk un) (hnf : nf ≤ 12) (hcut : ∀ i, i < n9 → ck 1 (f i) = f i) : vx_Met l yX0_way (wsH_ yX0_way cX0_way 8 (some .int) [((28 : Nat), (60 : Nat), (98 : Nat), (37 : Nat)), ((61 : Nat), (95 : Nat), (98 : Nat), (37 : Nat)), ((28 : Nat), (60 : Nat), (103 : Nat), (25 : Nat)), ((61 : Nat), (95 : Nat), (103 : Nat), (25 : Nat))]) ({ frames := 12, cells := 2510, slots := 10056, locals := 10400 }) (va_Pc [.ref xo, .int (nI js), .int (nI j), .int (nI ai), .int (nI nn)] (prX NW D ca [(xo, oX xs xu xd xr xf), (xs, rA ca 3 6 sa), (rw, rwE ca 1 n9 f), (xu, rA ca 4 24 (fun i => some (ua i))), (xd, rA ca 5 2 (sdf e0 e1)), (xr, rA ca 4 16 (fun i => some (ra i))), (xf, rA ca 4 nf (fun i => some (fa i)))] zH (fun H => Ug D H ua un ∧ Sd D H e0 e1 ∧ Rg D H ra g ∧ Fg D H fa (fq fc) nf))) (qI D (fun (r : Int32) (u : Nat × Nat × (Nat → Nat) × AL) => (r, nI u.2.1, u.2.2.2) = wayIf (m_prim (rq g js) ∧ wR (wF f ai) 0 nn (wP (rq g js))) (nI nn, nI nn, w4L (fcW un (wF f ai) (rq g js) fc (nn - 1)) (nn - 1) (lfW un (wF f ai) (rq g js) (nn - 1))) (-2, nI nf, fc) ∧ u.2.1 ≤ 12) (fun u => [(xo, oX xs xu xd xr u.1), (xs, rA ca 3 6 sa), (rw, rwE ca 1 n9 f), (xu, rA ca 4 24 (fun i => some (ua i))), (xd, rA ca 5 2 (sdf e0 e1)), (xr, rA ca 4 16 (fun i => some (ra i))), (u.1, rA ca 4 u.2.1 (fun i => some (u.2.2.1 i)))]) (fun u H => Fg D H u.2.2.1 (fq u.2.2.2) u.2.1) (va_A [(xo, oX xs xu xd xr xf), (xs, rA ca 3 6 sa), (rw, rwE ca 1 n9 f), (xu, rA ca 4 24 (fun i => some (ua i))), (xd, rA ca 5 2 (sdf e0 e1)), (xr, rA ca 4 16 (fun i => some (ra i))), (xf, rA ca 4 nf (fun i => some (fa i)))] zH)) noX 2510 10056 (va_A [(xo, oX xs xu xd xr xf), (xs, rA ca 3 6 sa), (rw, rwE ca 1 n9 f), (xu, rA ca 4 24 (fun i => some (ua i))), (xd, rA ca 5 2 (sdf e0 e1)), (xr, rA ca 4 16 (fun i => some (ra i))), (xf, rA ca 4 nf (fun i => some (fa i)))] zH) := by
  have hk := NW_ok
  refine k_ofH (Qc := qI D (fun (r : Int32) (u : Nat × Nat × (Nat → Nat) × AL) => (r, nI u.2.1, u.2.2.2) = wayIf (m_prim (rq g js) ∧ wR (wF f ai) 0 nn (wP (rq g js))) (nI nn, nI nn, w4L (fcW un (wF f ai) (rq g js) fc (nn - 1)) (nn - 1) (lfW un (wF f ai) (rq g js) (nn - 1))) (-2, nI nf, fc) ∧ u.2.1 ≤ 12) (fun u => [(xo, oX xs xu xd xr u.1), (xs, rA ca 3 6 sa), (rw, rwE ca 1 n9 f), (xu, rA ca 4 24 (fun i => some (ua i))), (xd, rA ca 5 2 (sdf e0 e1)), (xr, rA ca 4 16 (fun i => some (ra i))), (u.1, rA ca 4 u.2.1 (fun i => some (u.2.2.1 i)))]) (fun u H => Fg D H u.2.2.1 (fq u.2.2.2) u.2.1)) (by decide) (Nat.le_of_ble_eq_true rfl) ?_
  intro p e s m below meth c ls A H hH hx hb hr hts hown hlocks hnm hml hsz hP hD hK hN hA hAn hS hro hl hX hZ htb
  have hl : lv_has ls 8 [(0, .ref xo), (1, .int (nI js)), (2, .int (nI j)), (3, .int (nI ai)), (4, .int (nI nn))] := hl
  refine vx_ret ?_
  have hOF := k_outF hK (hH ▸ hP) (okc (oko 0 (by decide)) (okc (oka 3 (by decide)) (okc okR_row (okc (oka 4 (by decide)) (okc (oka 5 (by decide)) (okc (oka 4 (by decide)) (okc (oka 4 (by decide)) (okn)))))))) hAn
  have hOS := k_outS hK (hH ▸ hP) (okc (oko 0 (by decide)) (okc (oka 3 (by decide)) (okc okR_row (okc (oka 4 (by decide)) (okc (oka 5 (by decide)) (okc (oka 4 (by decide)) (okc (oka 4 (by decide)) (okn)))))))) hAn
  obtain ⟨hUg, hSd, hRg, hFg⟩ := hro
  refine lv_iload_n hx hb dX0_way_0 rfl (lv_at hl 1 rfl) ?_
  refine k_calli (wr := [(xo, oX xs xu xd xr xf), (xs, rA ca 3 6 sa), (rw, rwE ca 1 n9 f), (xu, rA ca 4 24 (fun i => some (ua i))), (xd, rA ca 5 2 (sdf e0 e1)), (xr, rA ca 4 16 (fun i => some (ra i))), (xf, rA ca 4 nf (fun i => some (fa i)))]) (va_runS (As := [.int (nI js)]) (rest := []) ⟨hx, hb, hml, hown, hts⟩ (ct_X0_isRegister hk l D ca H.size (nI js)) (va_cwS 1 hts (lw_S q313 q314 q19 q315) rfl rfl rfl (by decide +kernel) ⟨Nat.le_of_ble_eq_true rfl, Nat.le_of_ble_eq_true rfl⟩) (k_pre hk hK hN hP hD [] (by decide) rfl trivial) rfl rfl hl.1 rfl (lv_room (Nat.le_of_ble_eq_true rfl)) dX0_way_1 ⟨Nat.le_of_ble_eq_true rfl, Nat.le_of_ble_eq_true rfl⟩) hP hD hS hA [] [0, 1, 2, 3, 4, 5, 6] rfl rfl (by decide) (by decide) (fun r_1 u_2 H locs w_3 hP hD hxw_3 hzw_3 hqw_3 hS => ?_)
  obtain rfl : r_1 = bI (p_in (nI js).toInt64 0 15) := w_3
  refine lv_if_eq (tgt := 26) hx hb dX0_way_4 (by decide) (fun c_4 => absurd c_4 (by rw [in_15 hjs]; decide)) (fun c_4 => ?_)
  refine lv_iload_n hx hb dX0_way_7 rfl (lv_at hl 2 rfl) ?_
  refine k_calli (wr := [(xo, oX xs xu xd xr xf), (xs, rA ca 3 6 sa), (rw, rwE ca 1 n9 f), (xu, rA ca 4 24 (fun i => some (ua i))), (xd, rA ca 5 2 (sdf e0 e1)), (xr, rA ca 4 16 (fun i => some (ra i))), (xf, rA ca 4 nf (fun i => some (fa i)))]) (va_runS (As := [.int (nI j)]) (rest := []) ⟨hx, hb, hml, hown, hts⟩ (ct_X0_isSheet hk l D ca H.size (nI j)) (va_cwS 1 hts (lw_S q127 q128 q19 q129) rfl rfl rfl (by decide +kernel) ⟨Nat.le_of_ble_eq_true rfl, Nat.le_of_ble_eq_true rfl⟩) (k_pre hk hK hN hP hD [] (by decide) rfl trivial) rfl rfl hl.1 rfl (lv_room (Nat.le_of_ble_eq_true rfl)) dX0_way_8 ⟨Nat.le_of_ble_eq_true rfl, Nat.le_of_ble_eq_true rfl⟩) hP hD hS hA [] [0, 1, 2, 3, 4, 5, 6] rfl rfl (by decide) (by decide) (fun r_5 u_6 H locs w_7 hP hD hxw_7 hzw_7 hqw_7 hS => ?_)
  obtain rfl : r_5 = bI (p_in (nI j).toInt64 0 5) := w_7
  refine lv_if_eq (tgt := 26) hx hb dX0_way_11 (by decide) (fun c_8 => absurd c_8 (by rw [in_5 hj]; decide)) (fun c_8 => ?_)
  refine lv_iload hx hb dX0_way_14 (lv_at hl 4 rfl) ?_
  refine lv_if_eq (tgt := 26) hx hb dX0_way_16 (by decide) (fun c_9 => absurd c_9 (nI_ne0 hn1 (by omega))) (fun c_9 => ?_)
  refine lv_iload hx hb dX0_way_19 (lv_at hl 4 rfl) ?_
  refine lv_bipush (v := 12) hx hb dX0_way_21 (by decide) ?_
  refine lv_icmp_le (tgt := 28) hx hb dX0_way_23 (by decide) (fun c_10 => ?_) (fun c_10 => absurd (nI_le (b := 12) hn2 (by decide)) c_10)
  refine lv_aload_n hx hb dX0_way_28 rfl (lv_at hl 0 rfl) ?_
  refine va_get (D := D) (ci := 0) (v := .ref xs) (C := RX0) (T := TX0) (N := 5) hx hb hts in_X0 hown hK hP 0 rfl rfl 0 (by decide) (hts _ q293) (fun _ h9 => h9) rfl dX0_way_29 ?_
  refine lv_iload_n hx hb dX0_way_32 rfl (lv_at hl 2 rfl) ?_
  refine va_aldq hx hb hK hP 1 3 rfl rfl (vin_nI (a := j) rfl (by omega) (by decide)) dX0_way_33 ?_
  refine W.eq (g2 := F0 m 34 ls [.ref rw]) (by rw [nI_clamp (show j < 2 ^ 31 by omega), hs]; rfl) ?_
  refine nt_len (ty := .int) (v := nI n9) hx hb (hml.trans hl.1.symm) hown (hts _ q336) (hts _ q338) (hts _ q337) (hts _ q34) hK hP 2 1 rfl rfl rfl (by decide) (Nat.le_of_ble_eq_true rfl) dX0_way_34 ?_
  refine lv_istore (lv' := [(6, .int (nI n9)), (0, .ref xo), (1, .int (nI js)), (2, .int (nI j)), (3, .int (nI ai)), (4, .int (nI nn))]) hx hb dX0_way_37 hl (by decide) rfl (fun ls hl => ?_)
  refine lv_iload hx hb dX0_way_39 (lv_at hl 5 rfl) ?_
  refine va_newa (atype := .long) (a0 := (nn, .inr (.inl (fun _ => 0)))) hx hb (hts _ q140) rfl hK hP hD hS hA (fun _ => rfl) (fun h => absurd (lt_y (a := nn) (b := 0) rfl rfl (by omega) (by decide) h) (Nat.not_lt_zero nn)) (nI_clamp (show nn < 2 ^ 31 by omega)) (by show nn * 8 ≤ 536870912; omega) (Nat.le_of_ble_eq_true rfl) (by show 0 + nn ≤ 10056; omega) dX0_way_41 (fun pa cA H hK9 hP hD hS => ?_)
  have ecA : cA = ca 2 := Option.some.inj (((hK9.2 6 _ rfl).2).symm.trans ((hK.2 2 _ rfl).2))
  subst ecA
  refine W.widen (k := 1) (n := 12) (by omega) (by show 0 + nn ≤ 12; omega) ?_
  have hP : va_P D vwCl [(xo, oX xs xu xd xr xf), (xs, rA ca 3 6 sa), (rw, rwE ca 1 n9 f), (xu, rA ca 4 24 (fun i => some (ua i))), (xd, rA ca 5 2 (sdf e0 e1)), (xr, rA ca 4 16 (fun i => some (ra i))), (xf, rA ca 4 nf (fun i => some (fa i))), (pa, aL ca nn (fun _ => 0))] H := hP
  have hD : va_D A [(xo, oX xs xu xd xr xf), (xs, rA ca 3 6 sa), (rw, rwE ca 1 n9 f), (xu, rA ca 4 24 (fun i => some (ua i))), (xd, rA ca 5 2 (sdf e0 e1)), (xr, rA ca 4 16 (fun i => some (ra i))), (xf, rA ca 4 nf (fun i => some (fa i))), (pa, aL ca nn (fun _ => 0))] := hD
  refine lv_astore (lv' := [(5, .ref pa), (6, .int (nI n9)), (0, .ref xo), (1, .int (nI js)), (2, .int (nI j)), (3, .int (nI ai)), (4, .int (nI nn))]) hx hb dX0_way_43 hl (by decide) rfl (fun ls hl => ?_)
  refine lv_iload_n hx hb dX0_way_45 rfl (lv_at hl 5 rfl) ?_
  refine lv_if_lt (tgt := 58) hx hb dX0_way_46 (by decide) (fun c_11 => absurd c_11 (fun z => absurd (lt_y (a := ai) (b := 0) rfl rfl (by omega) (by decide) z) (Nat.not_lt_zero _))) (fun c_11 => ?_)
  refine lv_iload_n hx hb dX0_way_49 rfl (lv_at hl 5 rfl) ?_
  refine lv_iload hx hb dX0_way_50 (lv_at hl 1 rfl) ?_
  refine lv_iload hx hb dX0_way_52 (lv_at hl 6 rfl) ?_
  refine lv_isub hx hb dX0_way_54 ?_
  refine lv_icmp_le (tgt := 61) hx hb dX0_way_55 (by decide) (fun c_12 => ?_) (fun c_12 => absurd ((subn_le hn hn2 (by omega)).mpr hai) c_12)
  refine lv_iconst (v := 0) hx hb dX0_way_61 (by decide) ?_
  refine lv_istore (lv' := [(7, .int 0), (5, .ref pa), (6, .int (nI n9)), (0, .ref xo), (1, .int (nI js)), (2, .int (nI j)), (3, .int (nI ai)), (4, .int (nI nn))]) hx hb dX0_way_62 hl (by decide) rfl (fun ls hl => ?_)
  have hpr0 : (fun _ => 0 : AL) = prm f ai 0 := rfl
  have hP : va_P D vwCl [(xo, oX xs xu xd xr xf), (xs, rA ca 3 6 sa), (rw, rwE ca 1 n9 f), (xu, rA ca 4 24 (fun i => some (ua i))), (xd, rA ca 5 2 (sdf e0 e1)), (xr, rA ca 4 16 (fun i => some (ra i))), (xf, rA ca 4 nf (fun i => some (fa i))), (pa, aL ca nn (prm f ai 0))] H := hP
  have hD : va_D A [(xo, oX xs xu xd xr xf), (xs, rA ca 3 6 sa), (rw, rwE ca 1 n9 f), (xu, rA ca 4 24 (fun i => some (ua i))), (xd, rA ca 5 2 (sdf e0 e1)), (xr, rA ca 4 16 (fun i => some (ra i))), (xf, rA ca 4 nf (fun i => some (fa i))), (pa, aL ca nn (prm f ai 0))] := hD
  exact lp_X0_way1_1 xo xs xu xd xr xf sa ua un e0 e1 ra g nf fa fc js j rw n9 nn ai f pa hjs hj hs hn hn1 hn2 hai hR hU hnf hcut hUg hSd hRg hFg hOF hOS hx hb hr hts hown hlocks hnm hml hK hN hA  (nn + 1) 0 (by omega) (by omega) _ _ _ (hP.sub [7, 0, 1, 2, 3, 4, 5, 6] rfl) (hD.sub [7, 0, 1, 2, 3, 4, 5, 6] (by decide) rfl) hS (lv_sub hl [3, 4, 5, 6, 7, 1, 0] rfl) 
set_option maxHeartbeats 4000000 in
set_option maxRecDepth 100000 in
theorem lp_X0_way2_2  {l : Launch} {D : va_G} {ca : Nat → ClassId} (xo : Nat) (xs : Nat) (xu : Nat) (xd : Nat) (xr : Nat) (xf : Nat) (sa : Nat → Option Nat) (ua : Nat → Nat) (un : AI) (e0 : Nat) (e1 : Nat) (ra : Nat → Nat) (g : AI) (nf : Nat) (fa : Nat → Nat) (fc : AL) (js : Nat) (j : Nat) (rw : Nat) (n9 : Nat) (nn : Nat) (ai : Nat) (f : AL) (xq : Nat) (pa : Nat) (hjs : js < 16) (hj : j < 6) (hs : sa j = some rw) (hn : n9 ≤ 16) (hn1 : 0 < nn) (hn2 : nn ≤ 12) (hai : ai + nn ≤ n9) (hR : okR g) (hU : UnOk un) (hnf : nf ≤ 12) (hC : (m_prim (rq g js) ∧ wR (wF f ai) 0 nn (wP (rq g js)))) (hW : wayS un (wF f ai) (rq g js) nn) {p : Program} {e : Env} {s : State} {m : MethodId} {below : List Frame} {meth : Method} {c : Code} {A : Nat → Prop} (hUg : Ug D s.heap ua un) (hSd : Sd D s.heap e0 e1) (hRg : Rg D s.heap ra g) (hFg : Fg D s.heap fa (fq fc) nf) (hOF : ∀ (a : Nat) (v : Q4), Fo D s.heap a v → ¬ A a) (hOS : ∀ (a k : Nat), k = 2 ∨ k = 3 → So D s.heap a k → ¬ A a) (hx : p.tables.exec = Jvm.exec) (hb : c.code = cX0_way) (hr : meth.sig.returnType = (some .int)) (hts : ∀ w ∈ lw_all, w.before ([.ref xo, .int (nI js), .int (nI j), .int (nI ai), .int (nI nn)] : List Value).toArray s = true) (hown : s.vm.findClass yX0_way.cls = some m.cls) (hlocks : meth.locks = false) (hnm : meth.name = yX0_way.name) (hml : c.maxLocals = 8) (hK : va_K D vwCl (tysG ca) s) (hN : NW s) (hA : ∀ q, s.heap.size ≤ q → A q)  :
    ∀ (n : Nat) (k : Nat) (fb : Nat → Nat) (qa : Nat) (lv : Q4), (k ≤ nn - 1) → (lv = lfW un (wF f ai) (rq g js) k) → (nn < n + k) →  ∀ (H : Heap) (locs : List Loc) (ls : Array Slot), va_P D vwCl [(xo, oX xs xu xd xr xq), (xs, rA ca 3 6 sa), (rw, rwE ca 2 n9 f), (xu, rA ca 4 24 (fun i => some (ua i))), (xd, rA ca 5 2 (sdf e0 e1)), (xr, rA ca 4 16 (fun i => some (ra i))), (xq, rA ca 4 nn (uAr fb k)), (pa, aL ca nn (wF f ai))] H → va_D A [(xo, oX xs xu xd xr xq), (xs, rA ca 3 6 sa), (rw, rwE ca 2 n9 f), (xu, rA ca 4 24 (fun i => some (ua i))), (xd, rA ca 5 2 (sdf e0 e1)), (xr, rA ca 4 16 (fun i => some (ra i))), (xq, rA ca 4 nn (uAr fb k)), (pa, aL ca nn (wF f ai))] → va_S A s.heap H locs → lv_has ls 8 [(0, .ref xo), (4, .int (nI nn)), (5, .ref pa), (6, .ref qa), (7, .int (nI k))] → Fo D H qa lv → Fw D H fb un (wF f ai) (rq g js) k → W p l e ({ frames := 12, cells := 2510, slots := 10056, locals := 10400 }) s m ([.ref xo, .int (nI js), .int (nI j), .int (nI ai), .int (nI nn)] : List Value).toArray below meth c H locs (2 + 228 * k) (24 + 912 * k) (MQ below (qI D (fun (r : Int32) (u : Nat × Nat × (Nat → Nat) × AL) => (r, nI u.2.1, u.2.2.2) = wayIf (m_prim (rq g js) ∧ wR (wF f ai) 0 nn (wP (rq g js))) (nI nn, nI nn, w4L (fcW un (wF f ai) (rq g js) fc (nn - 1)) (nn - 1) (lfW un (wF f ai) (rq g js) (nn - 1))) (-2, nI nf, fc) ∧ u.2.1 ≤ 12) (fun u => [(xo, oX xs xu xd xr u.1), (xs, rA ca 3 6 sa), (rw, rwE ca 2 n9 f), (xu, rA ca 4 24 (fun i => some (ua i))), (xd, rA ca 5 2 (sdf e0 e1)), (xr, rA ca 4 16 (fun i => some (ra i))), (u.1, rA ca 4 u.2.1 (fun i => some (u.2.2.1 i)))]) (fun u H => Fg D H u.2.2.1 (fq u.2.2.2) u.2.1) A) ([.ref xo, .int (nI js), .int (nI j), .int (nI ai), .int (nI nn)] : List Value).toArray s 2510 10056 A) (F0 m 152 ls []) := by
  intro n
  induction n with
  | zero =>
    intro k fb qa lv hkn hlv hfuel H locs ls hP hD hS hl hQ hFF
    exact absurd hfuel (by omega)
  | succ n ih =>
    intro k fb qa lv hkn hlv hfuel H locs ls hP hD hS hl hQ hFF
    have hk := NW_ok
    refine lv_iload hx hb dX0_way_152 (lv_at hl 4 rfl) ?_
    refine lv_iload hx hb dX0_way_154 (lv_at hl 1 rfl) ?_
    refine lv_iconst (v := 1) hx hb dX0_way_156 (by decide) ?_
    refine lv_isub hx hb dX0_way_157 ?_
    refine lv_topi (fun z_1 ez_1 => ?_)
    obtain rfl : z_1 = nI (nn - 1) := ez_1.trans (eq_sub (a := nn) (b := 1) rfl rfl (by omega))
    refine lv_icmp_ge (tgt := 228) hx hb dX0_way_158 (by decide) (fun c_2 => ?_) (fun c_2 => ?_)
    · have c_2 := le_y (a := nn - 1) (b := k) rfl rfl (by omega) (by omega) c_2
      refine lv_aload_n hx hb dX0_way_228 rfl (lv_at hl 0 rfl) ?_
      refine va_get (D := D) (ci := 0) (v := .ref xq) (C := RX0) (T := TX0) (N := 5) hx hb hts in_X0 hown hK hP 0 rfl rfl 4 (by decide) (hts _ q297) (fun _ h9 => h9) rfl dX0_way_229 ?_
      refine lv_iload hx hb dX0_way_232 (lv_at hl 1 rfl) ?_
      refine lv_iconst (v := 1) hx hb dX0_way_234 (by decide) ?_
      refine lv_isub hx hb dX0_way_235 ?_
      refine lv_topi (fun z_3 ez_3 => ?_)
      obtain rfl : z_3 = nI k := ez_3.trans ((eq_sub (a := nn) (b := 1) rfl rfl (by omega)).trans (congrArg nI (by omega)))
      refine lv_aload hx hb dX0_way_236 (lv_at hl 3 rfl) ?_
      have hFF0 := hFF
      have hnx : ∀ (q : Nat) (v : Q4), Fo D H q v → q ≠ xq := fun q v h e => k_outA hK (wc := [(xq, rA ca 4 nn (uAr fb k))]) (k_sub hP [6] rfl) (okc (oka 4 (by decide)) okn) (Or.inl rfl) h (Or.inl ⟨0, _, by rw [e]; rfl⟩)
      refine k_astF hx hb hK hP hD hS 6 4 rfl rfl (any_fo hK hQ) (vin_nI (a := k) rfl (by omega) (by omega)) dX0_way_238 (fun H locs ho9 hP hD hS => ?_)
      have hQ := hQ.mov (ho9 _ (hnx _ _ hQ))
      have hFF := hFF.mov (fun q v h => ho9 _ (hnx _ _ h))
      rw [nI_clamp (show k < 2 ^ 31 by omega), uAr_s] at hP hD
      have hP : va_P D vwCl [(xo, oX xs xu xd xr xq), (xs, rA ca 3 6 sa), (rw, rwE ca 2 n9 f), (xu, rA ca 4 24 (fun i => some (ua i))), (xd, rA ca 5 2 (sdf e0 e1)), (xr, rA ca 4 16 (fun i => some (ra i))), (xq, rA ca 4 nn (uAr (va_up fb k qa) (k + 1))), (pa, aL ca nn (wF f ai))] H := hP
      have hD : va_D A [(xo, oX xs xu xd xr xq), (xs, rA ca 3 6 sa), (rw, rwE ca 2 n9 f), (xu, rA ca 4 24 (fun i => some (ua i))), (xd, rA ca 5 2 (sdf e0 e1)), (xr, rA ca 4 16 (fun i => some (ra i))), (xq, rA ca 4 nn (uAr (va_up fb k qa) (k + 1))), (pa, aL ca nn (wF f ai))] := hD
      refine lv_iload hx hb dX0_way_239 (lv_at hl 1 rfl) ?_
      have hPa : va_P D vwCl ([(xq, rA ca 4 nn (uAr (va_up fb k qa) (k + 1)))] ++ [(xo, oX xs xu xd xr xq), (xs, rA ca 3 6 sa), (rw, rwE ca 2 n9 f), (xu, rA ca 4 24 (fun i => some (ua i))), (xd, rA ca 5 2 (sdf e0 e1)), (xr, rA ca 4 16 (fun i => some (ra i)))]) H := hP.sub [6, 0, 1, 2, 3, 4, 5] rfl
      have hDa : va_D A ([(xq, rA ca 4 nn (uAr (va_up fb k qa) (k + 1)))] ++ [(xo, oX xs xu xd xr xq), (xs, rA ca 3 6 sa), (rw, rwE ca 2 n9 f), (xu, rA ca 4 24 (fun i => some (ua i))), (xd, rA ca 5 2 (sdf e0 e1)), (xr, rA ca 4 16 (fun i => some (ra i)))]) := hD.sub [6, 0, 1, 2, 3, 4, 5] (by decide) rfl
      have hPb := vp_cell1 (g := fun i => some (va_up fb k qa i)) hPa (fun i hi => if_pos (by omega))
      have hDb : va_D A ([(xq, rA ca 4 nn (fun i => some (va_up fb k qa i)))] ++ [(xo, oX xs xu xd xr xq), (xs, rA ca 3 6 sa), (rw, rwE ca 2 n9 f), (xu, rA ca 4 24 (fun i => some (ua i))), (xd, rA ca 5 2 (sdf e0 e1)), (xr, rA ca 4 16 (fun i => some (ra i)))]) := vd_cell hDa
      have hk1 : nn - 1 = k := by omega
      rw [hlv] at hQ
      exact k_iret (xq, nn, va_up fb k qa, w4L (fcW un (wF f ai) (rq g js) fc k) k (lfW un (wF f ai) (rq g js) k)) hx hb hr hlocks ⟨by rw [wayIf_y hC, hk1], hn2⟩ (hPb.sub [1, 2, 3, 4, 5, 6, 0] rfl) (hDb.sub [1, 2, 3, 4, 5, 6, 0] (by decide) rfl) (Fw.all hFF hQ (by omega)) hS (by omega) (by omega) dX0_way_241
    · have c_2 := le_no (a := nn - 1) (b := k) rfl rfl (by omega) (by omega) c_2
      obtain ⟨hw1, hw2, hw3⟩ := hW k (by omega)
      rw [← hlv] at hw1 hw2 hw3
      refine lv_aload_n hx hb dX0_way_161 rfl (lv_at hl 0 rfl) ?_
      refine va_get (D := D) (ci := 0) (v := .ref xq) (C := RX0) (T := TX0) (N := 5) hx hb hts in_X0 hown hK hP 0 rfl rfl 4 (by decide) (hts _ q297) (fun _ h9 => h9) rfl dX0_way_162 ?_
      refine lv_iload hx hb dX0_way_165 (lv_at hl 4 rfl) ?_
      refine lv_aload_n hx hb dX0_way_167 rfl (lv_at hl 0 rfl) ?_
      refine va_get (D := D) (ci := 0) (v := .ref xd) (C := RX0) (T := TX0) (N := 5) hx hb hts in_X0 hown hK hP 0 rfl rfl 2 (by decide) (hts _ q295) (fun _ h9 => h9) rfl dX0_way_168 ?_
      refine lv_iconst (v := 1) hx hb dX0_way_171 (by decide) ?_
      refine va_aldq hx hb hK hP 4 5 rfl rfl (vin_nI (a := 1) rfl (by omega) (by omega)) dX0_way_172 ?_
      refine W.eq (g2 := F0 m 173 ls [.ref e1, .int (nI k), .ref xq]) (by rw [show (1 : Int32).toNatClampNeg = 1 from by decide]; rfl) ?_
      have hE_4 := hSd.2
      have nE_4 := hOS _ _ (Or.inr rfl) hE_4
      refine k_newF (ci := 1) (fs := [.long 0, .long 0, .long 0, .long 0]) (C := RX1) (T := TX1) (N := 4) hx hb hts in_X1 tyX1 tyX1_ok hown (hts _ q226) (hts _ q228) (hts _ q20) hK hP hD hS hA rfl (fun j hj => by rcases (show j = 0 ∨ j = 1 ∨ j = 2 ∨ j = 3 by omega) with rfl | rfl | rfl | rfl <;> rfl) (by show _ ≤ 2510; omega) (by show _ ≤ 10056; omega) dX0_way_173 (fun q_5 H hq9 ho9 hP hD hS => ?_)
      have hP : va_P D vwCl [(xo, oX xs xu xd xr xq), (xs, rA ca 3 6 sa), (rw, rwE ca 2 n9 f), (xu, rA ca 4 24 (fun i => some (ua i))), (xd, rA ca 5 2 (sdf e0 e1)), (xr, rA ca 4 16 (fun i => some (ra i))), (xq, rA ca 4 nn (uAr fb k)), (pa, aL ca nn (wF f ai)), (q_5, .inr (1, [.long 0, .long 0, .long 0, .long 0]))] H := hP
      have hD : va_D A [(xo, oX xs xu xd xr xq), (xs, rA ca 3 6 sa), (rw, rwE ca 2 n9 f), (xu, rA ca 4 24 (fun i => some (ua i))), (xd, rA ca 5 2 (sdf e0 e1)), (xr, rA ca 4 16 (fun i => some (ra i))), (xq, rA ca 4 nn (uAr fb k)), (pa, aL ca nn (wF f ai)), (q_5, .inr (1, [.long 0, .long 0, .long 0, .long 0]))] := hD
      have hneQ : qa ≠ q_5 := by have := hQ.lt; omega
      have hne : ∀ i, i < k → fb i ≠ q_5 := fun i hi => by have := (hFF i hi).lt; omega
      have hQ := hQ.mov (ho9 _ hQ.lt)
      have hFF := hFF.mov (fun q v h => ho9 _ h.lt)
      refine lv_dup hx hb dX0_way_176 rfl ?_
      refine lv_ldc2 hx hb hown (hts _ q135) dX0_way_177 ?_
      refine lv_aload hx hb dX0_way_180 (lv_at hl 2 rfl) ?_
      refine lv_iload hx hb dX0_way_182 (lv_at hl 4 rfl) ?_
      refine va_lald hx hb hK hP 7 2 rfl rfl (vin_nI (a := k) rfl (by omega) (by omega)) dX0_way_184 ?_
      refine lv_topl (fun z_6 ez_6 => ?_)
      obtain rfl : z_6 = (wF f ai) k := ez_6.trans (cl_nI (a := k) (wF f ai) rfl (by omega))
      refine lv_lmul hx hb dX0_way_185 ?_
      refine lv_lconst (v := 0) hx hb dX0_way_186 (by decide) ?_
      refine lv_lconst (v := 0) hx hb dX0_way_187 (by decide) ?_
      refine lv_lconst (v := 0) hx hb dX0_way_188 (by decide) ?_
      refine k_callv (wr := [(xo, oX xs xu xd xr xq), (xs, rA ca 3 6 sa), (rw, rwE ca 2 n9 f), (xu, rA ca 4 24 (fun i => some (ua i))), (xd, rA ca 5 2 (sdf e0 e1)), (xr, rA ca 4 16 (fun i => some (ra i))), (xq, rA ca 4 nn (uAr fb k)), (pa, aL ca nn (wF f ai))]) (va_runI (As := [.long (2 * ((wF f ai) k)), .long 0, .long 0, .long 0]) (rest := [.ref q_5, .ref e1, .int (nI k), .ref xq]) ⟨hx, hb, hml, hown, hts⟩ (ct_X1_init hk l D ca H.size q_5 (2 * ((wF f ai) k)) 0 0 0 (0, 0, 0, 0)) (cwI 4 hts (lw_meth q231) rfl rfl rfl (hts _ q20) (hts _ q229) (hts _ q230) rfl (by decide +kernel) ⟨Nat.le_of_ble_eq_true rfl, Nat.le_of_ble_eq_true rfl⟩) (k_pre hk hK hN hP hD [8] (by decide) rfl trivial) rfl rfl hl.1 rfl (lv_room (Nat.le_of_ble_eq_true rfl)) dX0_way_189 ⟨by show _ ≤ 2510; omega, by show _ ≤ 10056; omega⟩) hP hD hS hA [8] [0, 1, 2, 3, 4, 5, 6, 7] rfl rfl (by decide) (by decide) (fun u_8 H locs w_9 hP hD hxw_9 hzw_9 hqw_9 hS => ?_)
      have hP : va_P D vwCl [(xo, oX xs xu xd xr xq), (xs, rA ca 3 6 sa), (rw, rwE ca 2 n9 f), (xu, rA ca 4 24 (fun i => some (ua i))), (xd, rA ca 5 2 (sdf e0 e1)), (xr, rA ca 4 16 (fun i => some (ra i))), (xq, rA ca 4 nn (uAr fb k)), (pa, aL ca nn (wF f ai)), (q_5, f4 (2 * ((wF f ai) k), 0, 0, 0))] H := hP
      have hD : va_D A [(xo, oX xs xu xd xr xq), (xs, rA ca 3 6 sa), (rw, rwE ca 2 n9 f), (xu, rA ca 4 24 (fun i => some (ua i))), (xd, rA ca 5 2 (sdf e0 e1)), (xr, rA ca 4 16 (fun i => some (ra i))), (xq, rA ca 4 nn (uAr fb k)), (pa, aL ca nn (wF f ai)), (q_5, f4 (2 * ((wF f ai) k), 0, 0, 0))] := hD
      have hQ := hQ.mov (hqw_9 _ hQ.lt (va_A1 hneQ hQ.lt))
      have hFF : Fw D H fb un (wF f ai) (rq g js) k := fun i hi => (hFF i hi).mov (hqw_9 _ (hFF i hi).lt (va_A1 (hne i hi) (hFF i hi).lt))
      refine lv_aload hx hb dX0_way_192 (lv_at hl 3 rfl) ?_
      refine lv_aload_n hx hb dX0_way_194 rfl (lv_at hl 0 rfl) ?_
      refine va_get (D := D) (ci := 0) (v := .ref xu) (C := RX0) (T := TX0) (N := 5) hx hb hts in_X0 hown hK hP 0 rfl rfl 1 (by decide) (hts _ q294) (fun _ h9 => h9) rfl dX0_way_195 ?_
      refine k_callr (wr := [(xo, oX xs xu xd xr xq), (xs, rA ca 3 6 sa), (rw, rwE ca 2 n9 f), (xu, rA ca 4 24 (fun i => some (ua i))), (xd, rA ca 5 2 (sdf e0 e1)), (xr, rA ca 4 16 (fun i => some (ra i))), (xq, rA ca 4 nn (uAr fb k)), (pa, aL ca nn (wF f ai)), (q_5, f4 (2 * ((wF f ai) k), 0, 0, 0))]) (va_runU (x := yX2_divisor) (As := [.ref q_5, .ref qa, .ref xu]) (rest := [.int (nI k), .ref xq]) ⟨hx, hb, hml, hown, hts⟩ (ct_X2_divisor_L l D ca H.size e1 q_5 qa xu (2 * ((wF f ai) k), 0, 0, 0) lv ua un (eucBoth_2 hw1)) (va_cwU (C := "FourParts$Left") (owner := "FourParts$Side") (x := yX2_divisor) 3 hts (lw_app (fun w hw => by simp only [List.mem_cons, List.not_mem_nil, or_false] at hw; rcases hw with e | e | e | e | e <;> rw [e] <;> first | exact q459 | exact q461 | exact q462 | exact q460 | exact q21) (lw_meth q464)) rfl rfl rfl rfl (by decide +kernel) ⟨Nat.le_of_ble_eq_true rfl, Nat.le_of_ble_eq_true rfl⟩) (k_preV hk hK hN hP hD [] (by decide) rfl ⟨(hE_4.keep hS nE_4), (Fo.of hP 8 rfl), hQ, ⟨k_sub hP [3] rfl, hUg.keep hS hOF⟩⟩ (hE_4.keep hS nE_4) rfl (q0 := 0) rfl) rfl rfl hl.1 rfl (lv_room (Nat.le_of_ble_eq_true rfl)) dX0_way_198 ⟨by show _ ≤ 2510; omega, by show _ ≤ 10056; omega⟩) hP hD hS hA [] [0, 1, 2, 3, 4, 5, 6, 7, 8] rfl rfl (by decide) (by decide) (fun u_11 r_10 H locs w_12 hP hD hxw_12 hzw_12 hqw_12 hS => ?_)
      have hQ := hQ.mov (hqw_12 _ hQ.lt (va_A_nil hQ.lt))
      have hFF := hFF.mov (fun q v h => hqw_12 _ h.lt (va_A_nil h.lt))
      rw [eucBoth_3 hw1] at hxw_12
      have hr9 : Fo D H r_10 (w_f un ((wF f ai) k) lv) := hxw_12
      have hnx : ∀ (q : Nat) (v : Q4), Fo D H q v → q ≠ xq := fun q v h e => k_outA hK (wc := [(xq, rA ca 4 nn (uAr fb k))]) (k_sub hP [6] rfl) (okc (oka 4 (by decide)) okn) (Or.inl rfl) h (Or.inl ⟨0, _, by rw [e]; rfl⟩)
      refine k_astF hx hb hK hP hD hS 6 4 rfl rfl (any_fo hK hr9) (vin_nI (a := k) rfl (by omega) (by omega)) dX0_way_201 (fun H locs ho9 hP hD hS => ?_)
      have hQ := hQ.mov (ho9 _ (hnx _ _ hQ))
      have hr9 := hr9.mov (ho9 _ (hnx _ _ hr9))
      have hFF := hFF.mov (fun q v h => ho9 _ (hnx _ _ h))
      rw [nI_clamp (show k < 2 ^ 31 by omega), uAr_s] at hP hD
      have hP : va_P D vwCl [(xo, oX xs xu xd xr xq), (xs, rA ca 3 6 sa), (rw, rwE ca 2 n9 f), (xu, rA ca 4 24 (fun i => some (ua i))), (xd, rA ca 5 2 (sdf e0 e1)), (xr, rA ca 4 16 (fun i => some (ra i))), (xq, rA ca 4 nn (uAr (va_up fb k r_10) (k + 1))), (pa, aL ca nn (wF f ai)), (q_5, f4 (2 * ((wF f ai) k), 0, 0, 0))] H := hP
      have hD : va_D A [(xo, oX xs xu xd xr xq), (xs, rA ca 3 6 sa), (rw, rwE ca 2 n9 f), (xu, rA ca 4 24 (fun i => some (ua i))), (xd, rA ca 5 2 (sdf e0 e1)), (xr, rA ca 4 16 (fun i => some (ra i))), (xq, rA ca 4 nn (uAr (va_up fb k r_10) (k + 1))), (pa, aL ca nn (wF f ai)), (q_5, f4 (2 * ((wF f ai) k), 0, 0, 0))] := hD
      have hFF := Fw.snoc hFF (by rw [← hlv]; exact hr9)
      refine lv_aload_n hx hb dX0_way_202 rfl (lv_at hl 0 rfl) ?_
      refine va_get (D := D) (ci := 0) (v := .ref xd) (C := RX0) (T := TX0) (N := 5) hx hb hts in_X0 hown hK hP 0 rfl rfl 2 (by decide) (hts _ q295) (fun _ h9 => h9) rfl dX0_way_203 ?_
      refine lv_iconst (v := 1) hx hb dX0_way_206 (by decide) ?_
      refine va_aldq hx hb hK hP 4 5 rfl rfl (vin_nI (a := 1) rfl (by omega) (by omega)) dX0_way_207 ?_
      refine W.eq (g2 := F0 m 208 ls [.ref e1]) (by rw [show (1 : Int32).toNatClampNeg = 1 from by decide]; rfl) ?_
      refine lv_aload hx hb dX0_way_208 (lv_at hl 3 rfl) ?_
      refine lv_aload_n hx hb dX0_way_210 rfl (lv_at hl 0 rfl) ?_
      refine va_get (D := D) (ci := 0) (v := .ref xq) (C := RX0) (T := TX0) (N := 5) hx hb hts in_X0 hown hK hP 0 rfl rfl 4 (by decide) (hts _ q297) (fun _ h9 => h9) rfl dX0_way_211 ?_
      refine lv_iload hx hb dX0_way_214 (lv_at hl 4 rfl) ?_
      refine va_aldq hx hb hK hP 6 4 rfl rfl (vin_nI (a := k) rfl (by omega) (by omega)) dX0_way_216 ?_
      refine W.eq (g2 := F0 m 217 ls [.ref r_10, .ref qa, .ref e1]) (by rw [nI_clamp (show k < 2 ^ 31 by omega), uAr_at]; rfl) ?_
      refine k_callr (wr := [(xo, oX xs xu xd xr xq), (xs, rA ca 3 6 sa), (rw, rwE ca 2 n9 f), (xu, rA ca 4 24 (fun i => some (ua i))), (xd, rA ca 5 2 (sdf e0 e1)), (xr, rA ca 4 16 (fun i => some (ra i))), (xq, rA ca 4 nn (uAr (va_up fb k r_10) (k + 1))), (pa, aL ca nn (wF f ai)), (q_5, f4 (2 * ((wF f ai) k), 0, 0, 0))]) (va_runU (x := yX2_quotient) (As := [.ref qa, .ref r_10]) (rest := []) ⟨hx, hb, hml, hown, hts⟩ (ct_X2_quotient_L l D ca H.size e1 qa r_10 lv (w_f un ((wF f ai) k) lv) (pos_ne hw2)) (va_cwU (C := "FourParts$Left") (owner := "FourParts$Side") (x := yX2_quotient) 2 hts (lw_app (fun w hw => by simp only [List.mem_cons, List.not_mem_nil, or_false] at hw; rcases hw with e | e | e | e | e <;> rw [e] <;> first | exact q422 | exact q424 | exact q425 | exact q423 | exact q21) (lw_meth q427)) rfl rfl rfl rfl (by decide +kernel) ⟨Nat.le_of_ble_eq_true rfl, Nat.le_of_ble_eq_true rfl⟩) (k_preV hk hK hN hP hD [] (by decide) rfl ⟨(hE_4.keep hS nE_4), hQ, hr9⟩ (hE_4.keep hS nE_4) rfl (q0 := 0) rfl) rfl rfl hl.1 rfl (lv_room (Nat.le_of_ble_eq_true rfl)) dX0_way_217 ⟨by show _ ≤ 2510; omega, by show _ ≤ 10056; omega⟩) hP hD hS hA [] [0, 1, 2, 3, 4, 5, 6, 7, 8] rfl rfl (by decide) (by decide) (fun u_14 r_13 H locs w_15 hP hD hxw_15 hzw_15 hqw_15 hS => ?_)
      have hP : va_P D vwCl [(xo, oX xs xu xd xr xq), (xs, rA ca 3 6 sa), (rw, rwE ca 2 n9 f), (xu, rA ca 4 24 (fun i => some (ua i))), (xd, rA ca 5 2 (sdf e0 e1)), (xr, rA ca 4 16 (fun i => some (ra i))), (xq, rA ca 4 nn (uAr (va_up fb k r_10) (k + 1))), (pa, aL ca nn (wF f ai)), (q_5, f4 (2 * ((wF f ai) k), 0, 0, 0)), (r_13, f4 (nearC (q_norm (w_f un ((wF f ai) k) lv)) (q_times (q_mirror (w_f un ((wF f ai) k) lv)) lv)))] H := hP
      have hD : va_D A [(xo, oX xs xu xd xr xq), (xs, rA ca 3 6 sa), (rw, rwE ca 2 n9 f), (xu, rA ca 4 24 (fun i => some (ua i))), (xd, rA ca 5 2 (sdf e0 e1)), (xr, rA ca 4 16 (fun i => some (ra i))), (xq, rA ca 4 nn (uAr (va_up fb k r_10) (k + 1))), (pa, aL ca nn (wF f ai)), (q_5, f4 (2 * ((wF f ai) k), 0, 0, 0)), (r_13, f4 (nearC (q_norm (w_f un ((wF f ai) k) lv)) (q_times (q_mirror (w_f un ((wF f ai) k) lv)) lv)))] := hD
      have hQ := hQ.mov (hqw_15 _ hQ.lt (va_A_nil hQ.lt))
      have hr9 := hr9.mov (hqw_15 _ hr9.lt (va_A_nil hr9.lt))
      have hFF := hFF.mov (fun q v h => hqw_15 _ h.lt (va_A_nil h.lt))
      refine lv_astore (lv' := [(6, .ref r_13), (0, .ref xo), (4, .int (nI nn)), (5, .ref pa), (7, .int (nI k))]) hx hb dX0_way_220 hl (by decide) rfl (fun ls hl => ?_)
      refine lv_iinc (v := nI (k + 1)) (lv' := [(7, .int (nI (k + 1))), (6, .ref r_13), (0, .ref xo), (4, .int (nI nn)), (5, .ref pa)]) hx hb dX0_way_222 hl (k := 4) rfl (eq_add rfl rfl) (by decide) rfl (fun ls hl => ?_)
      refine lv_goto (tgt := 152) hx hb dX0_way_225 (by decide) ?_
      have hl9 : (nearC (q_norm (w_f un ((wF f ai) k) lv)) (q_times (q_mirror (w_f un ((wF f ai) k) lv)) lv)) = lfW un (wF f ai) (rq g js) (k + 1) := by rw [hw3, dq_c hw2]; rfl
      have hQ9 : Fo D H r_13 (lfW un (wF f ai) (rq g js) (k + 1)) := by rw [← hl9]; exact Fo.of hP 9 rfl
      refine W.widen (k := 2 + 228 * (k + 1)) (n := 24 + 912 * (k + 1)) (by omega) (by omega) ?_
      exact ih (k + 1) (va_up fb k r_10) r_13 _ (by omega) rfl (by omega) _ _ _ (hP.sub [0, 1, 2, 3, 4, 5, 6, 7] rfl) (hD.sub [0, 1, 2, 3, 4, 5, 6, 7] (by decide) rfl) hS (lv_sub hl [2, 3, 4, 1, 0] rfl) hQ9 hFF
set_option maxHeartbeats 4000000 in
set_option maxRecDepth 100000 in
theorem lp_X0_way1_2  {l : Launch} {D : va_G} {ca : Nat → ClassId} (xo : Nat) (xs : Nat) (xu : Nat) (xd : Nat) (xr : Nat) (xf : Nat) (sa : Nat → Option Nat) (ua : Nat → Nat) (un : AI) (e0 : Nat) (e1 : Nat) (ra : Nat → Nat) (g : AI) (nf : Nat) (fa : Nat → Nat) (fc : AL) (js : Nat) (j : Nat) (rw : Nat) (n9 : Nat) (nn : Nat) (ai : Nat) (f : AL) (pa : Nat) (hjs : js < 16) (hj : j < 6) (hs : sa j = some rw) (hn : n9 ≤ 16) (hn1 : 0 < nn) (hn2 : nn ≤ 12) (hai : ai + nn ≤ n9) (hR : okR g) (hU : UnOk un) (hnf : nf ≤ 12) (hcut : ∀ i, i < n9 → ck 2 (f i) = f i) {p : Program} {e : Env} {s : State} {m : MethodId} {below : List Frame} {meth : Method} {c : Code} {A : Nat → Prop} (hUg : Ug D s.heap ua un) (hSd : Sd D s.heap e0 e1) (hRg : Rg D s.heap ra g) (hFg : Fg D s.heap fa (fq fc) nf) (hOF : ∀ (a : Nat) (v : Q4), Fo D s.heap a v → ¬ A a) (hOS : ∀ (a k : Nat), k = 2 ∨ k = 3 → So D s.heap a k → ¬ A a) (hx : p.tables.exec = Jvm.exec) (hb : c.code = cX0_way) (hr : meth.sig.returnType = (some .int)) (hts : ∀ w ∈ lw_all, w.before ([.ref xo, .int (nI js), .int (nI j), .int (nI ai), .int (nI nn)] : List Value).toArray s = true) (hown : s.vm.findClass yX0_way.cls = some m.cls) (hlocks : meth.locks = false) (hnm : meth.name = yX0_way.name) (hml : c.maxLocals = 8) (hK : va_K D vwCl (tysG ca) s) (hN : NW s) (hA : ∀ q, s.heap.size ≤ q → A q)  :
    ∀ (n : Nat) (k : Nat), (k ≤ nn) → (nn < n + k) →  ∀ (H : Heap) (locs : List Loc) (ls : Array Slot), va_P D vwCl [(pa, aL ca nn (prm f ai k)), (xo, oX xs xu xd xr xf), (xs, rA ca 3 6 sa), (rw, rwE ca 2 n9 f), (xu, rA ca 4 24 (fun i => some (ua i))), (xd, rA ca 5 2 (sdf e0 e1)), (xr, rA ca 4 16 (fun i => some (ra i))), (xf, rA ca 4 nf (fun i => some (fa i)))] H → va_D A [(pa, aL ca nn (prm f ai k)), (xo, oX xs xu xd xr xf), (xs, rA ca 3 6 sa), (rw, rwE ca 2 n9 f), (xu, rA ca 4 24 (fun i => some (ua i))), (xd, rA ca 5 2 (sdf e0 e1)), (xr, rA ca 4 16 (fun i => some (ra i))), (xf, rA ca 4 nf (fun i => some (fa i)))] → va_S A s.heap H locs → lv_has ls 8 [(0, .ref xo), (1, .int (nI js)), (2, .int (nI j)), (3, .int (nI ai)), (4, .int (nI nn)), (5, .ref pa), (7, .int (nI k))] → W p l e ({ frames := 12, cells := 2510, slots := 10056, locals := 10400 }) s m ([.ref xo, .int (nI js), .int (nI j), .int (nI ai), .int (nI nn)] : List Value).toArray below meth c H locs 1 12 (MQ below (qI D (fun (r : Int32) (u : Nat × Nat × (Nat → Nat) × AL) => (r, nI u.2.1, u.2.2.2) = wayIf (m_prim (rq g js) ∧ wR (wF f ai) 0 nn (wP (rq g js))) (nI nn, nI nn, w4L (fcW un (wF f ai) (rq g js) fc (nn - 1)) (nn - 1) (lfW un (wF f ai) (rq g js) (nn - 1))) (-2, nI nf, fc) ∧ u.2.1 ≤ 12) (fun u => [(xo, oX xs xu xd xr u.1), (xs, rA ca 3 6 sa), (rw, rwE ca 2 n9 f), (xu, rA ca 4 24 (fun i => some (ua i))), (xd, rA ca 5 2 (sdf e0 e1)), (xr, rA ca 4 16 (fun i => some (ra i))), (u.1, rA ca 4 u.2.1 (fun i => some (u.2.2.1 i)))]) (fun u H => Fg D H u.2.2.1 (fq u.2.2.2) u.2.1) A) ([.ref xo, .int (nI js), .int (nI j), .int (nI ai), .int (nI nn)] : List Value).toArray s 2510 10056 A) (F0 m 64 ls []) := by
  intro n
  induction n with
  | zero =>
    intro k hkn hfuel H locs ls hP hD hS hl 
    exact absurd hfuel (by omega)
  | succ n ih =>
    intro k hkn hfuel H locs ls hP hD hS hl 
    have hk := NW_ok
    refine lv_iload hx hb dX0_way_64 (lv_at hl 6 rfl) ?_
    refine lv_iload hx hb dX0_way_66 (lv_at hl 4 rfl) ?_
    refine lv_icmp_ge (tgt := 95) hx hb dX0_way_68 (by decide) (fun c_1 => ?_) (fun c_1 => ?_)
    · have c_1 := le_y (a := nn) (b := k) rfl rfl (by omega) (by omega) c_1
      refine lv_goto (tgt := 108) hx hb dX0_way_95 (by decide) ?_
      have hP := vp_cellL (g := (wF f ai)) hP (fun i hi => if_pos (by omega))
      have hD : va_D A [(pa, aL ca nn (wF f ai)), (xo, oX xs xu xd xr xf), (xs, rA ca 3 6 sa), (rw, rwE ca 2 n9 f), (xu, rA ca 4 24 (fun i => some (ua i))), (xd, rA ca 5 2 (sdf e0 e1)), (xr, rA ca 4 16 (fun i => some (ra i))), (xf, rA ca 4 nf (fun i => some (fa i)))] := vd_cell hD
      have hP : va_P D vwCl [(pa, aL ca nn (wF f ai)), (xo, oX xs xu xd xr xf), (xs, rA ca 3 6 sa), (rw, rwE ca 2 n9 f), (xu, rA ca 4 24 (fun i => some (ua i))), (xd, rA ca 5 2 (sdf e0 e1)), (xr, rA ca 4 16 (fun i => some (ra i))), (xf, rA ca 4 nf (fun i => some (fa i)))] H := hP
      obtain ⟨hN1, hP9, hP4⟩ := norm_P hR hjs
      refine lv_aload_n hx hb dX0_way_108 rfl (lv_at hl 0 rfl) ?_
      refine va_get (D := D) (ci := 0) (v := .ref xr) (C := RX0) (T := TX0) (N := 5) hx hb hts in_X0 hown hK hP 1 rfl rfl 3 (by decide) (hts _ q296) (fun _ h9 => h9) rfl dX0_way_109 ?_
      refine lv_iload_n hx hb dX0_way_112 rfl (lv_at hl 1 rfl) ?_
      refine va_aldq hx hb hK hP 6 4 rfl rfl (vin_nI (a := js) rfl (by omega) (by omega)) dX0_way_113 ?_
      refine W.eq (g2 := F0 m 114 ls [.ref (ra js)]) (by rw [nI_clamp (show js < 2 ^ 31 by omega)]; rfl) ?_
      have hG_2 := hRg js (by omega)
      have nG_2 := hOF _ _ hG_2
      refine lv_astore (lv' := [(6, .ref (ra js)), (0, .ref xo), (1, .int (nI js)), (2, .int (nI j)), (3, .int (nI ai)), (4, .int (nI nn)), (5, .ref pa), (7, .int (nI k))]) hx hb dX0_way_114 hl (by decide) rfl (fun ls hl => ?_)
      refine lv_aload hx hb dX0_way_116 (lv_at hl 0 rfl) ?_
      refine k_calli (wr := [(pa, aL ca nn (wF f ai)), (xo, oX xs xu xd xr xf), (xs, rA ca 3 6 sa), (rw, rwE ca 2 n9 f), (xu, rA ca 4 24 (fun i => some (ua i))), (xd, rA ca 5 2 (sdf e0 e1)), (xr, rA ca 4 16 (fun i => some (ra i))), (xf, rA ca 4 nf (fun i => some (fa i)))]) (va_runV (As := []) (rest := []) ⟨hx, hb, hml, hown, hts⟩ (ct_X1_isPrimitive l D ca H.size (ra js) (rq g js) (wP (rq g js)) hN1 (by omega)) (cwV 0 hts (lw_V q355 q356 q357 q20 q358) rfl rfl rfl (by decide +kernel) ⟨Nat.le_of_ble_eq_true rfl, Nat.le_of_ble_eq_true rfl⟩) (k_preV hk hK hN hP hD [] (by decide) rfl (hG_2.keep hS nG_2) (hG_2.keep hS nG_2) rfl (q0 := 0) rfl) rfl rfl hl.1 rfl (lv_room (Nat.le_of_ble_eq_true rfl)) dX0_way_118 ⟨by show _ ≤ 2510; omega, by show _ ≤ 10056; omega⟩) hP hD hS hA [] [0, 1, 2, 3, 4, 5, 6, 7] rfl rfl (by decide) (by decide) (fun r_3 u_4 H locs w_5 hP hD hxw_5 hzw_5 hqw_5 hS => ?_)
      obtain ⟨hrr_3, hur_3⟩ := w_5
      subst hrr_3
      have hpm := hur_3.trans (prim_al (hR.hz hjs) (hR.sq hjs) hP4)
      refine lv_if_eq (tgt := 137) hx hb dX0_way_121 (by decide) (fun c_6 => ?_) (fun c_6 => ?_)
      · have c_6 := bI_z0 c_6
        refine lv_bipush (v := (-2)) hx hb dX0_way_137 (by decide) ?_
        exact k_iret (xf, nf, fa, fc) hx hb hr hlocks (⟨by rw [wayIf_n (fun z9 => absurd (hpm.mpr z9.1) (by rw [c_6]; decide))], hnf⟩) (hP.sub [1, 2, 3, 4, 5, 6, None] rfl) (hD.sub [1, 2, 3, 4, 5, 6, None] (by decide) rfl) (hFg.keep hS hOF) hS (by omega) (by omega) dX0_way_139
      · have c_6 := bI_z1 c_6
        refine lv_aload hx hb dX0_way_124 (lv_at hl 6 rfl) ?_
        refine lv_aload hx hb dX0_way_126 (lv_at hl 0 rfl) ?_
        refine k_calll (wr := [(pa, aL ca nn (wF f ai)), (xo, oX xs xu xd xr xf), (xs, rA ca 3 6 sa), (rw, rwE ca 2 n9 f), (xu, rA ca 4 24 (fun i => some (ua i))), (xd, rA ca 5 2 (sdf e0 e1)), (xr, rA ca 4 16 (fun i => some (ra i))), (xf, rA ca 4 nf (fun i => some (fa i)))]) (va_runV (As := []) (rest := [.ref pa]) ⟨hx, hb, hml, hown, hts⟩ (ct_X1_norm l D ca H.size (ra js) (rq g js)) (cwV 0 hts (lw_V q350 q351 q352 q20 q353) rfl rfl rfl (by decide +kernel) ⟨Nat.le_of_ble_eq_true rfl, Nat.le_of_ble_eq_true rfl⟩) (k_preV hk hK hN hP hD [] (by decide) rfl (hG_2.keep hS nG_2) (hG_2.keep hS nG_2) rfl (q0 := 0) rfl) rfl rfl hl.1 rfl (lv_room (Nat.le_of_ble_eq_true rfl)) dX0_way_128 ⟨by show _ ≤ 2510; omega, by show _ ≤ 10056; omega⟩) hP hD hS hA [] [0, 1, 2, 3, 4, 5, 6, 7] rfl rfl (by decide) (by decide) (fun r_7 u_8 H locs w_9 hP hD hxw_9 hzw_9 hqw_9 hS => ?_)
        obtain rfl : r_7 = q_norm (rq g js) := w_9
        refine lv_topl (fun z_10 ez_10 => ?_)
        obtain rfl : z_10 = lN (wP (rq g js)) := ez_10.trans hN1
        have hp9 := hpm.mp c_6
        have hp8 := prim_pos hR hjs hp9
        refine k_calli (wr := [(xo, oX xs xu xd xr xf), (xs, rA ca 3 6 sa), (rw, rwE ca 2 n9 f), (xu, rA ca 4 24 (fun i => some (ua i))), (xd, rA ca 5 2 (sdf e0 e1)), (xr, rA ca 4 16 (fun i => some (ra i))), (xf, rA ca 4 nf (fun i => some (fa i)))]) (va_runS (As := [.ref pa, .long (lN (wP (rq g js)))]) (rest := []) ⟨hx, hb, hml, hown, hts⟩ (ct_X0_refusal hk l D ca H.size pa nn (wF f ai) (wP (rq g js)) hn2 (by omega) (by omega)) (va_cwS 2 hts (lw_S q485 q486 q19 q487) rfl rfl rfl (by decide +kernel) ⟨Nat.le_of_ble_eq_true rfl, Nat.le_of_ble_eq_true rfl⟩) (k_pre hk hK hN hP hD [0] (by decide) rfl trivial) rfl rfl hl.1 rfl (lv_room (Nat.le_of_ble_eq_true rfl)) dX0_way_131 ⟨by show _ ≤ 2510; omega, by show _ ≤ 10056; omega⟩) hP hD hS hA [0] [1, 2, 3, 4, 5, 6, 7] rfl rfl (by decide) (by decide) (fun r_11 u_12 H locs w_13 hP hD hxw_13 hzw_13 hqw_13 hS => ?_)
        have hP : va_P D vwCl [(xo, oX xs xu xd xr xf), (xs, rA ca 3 6 sa), (rw, rwE ca 2 n9 f), (xu, rA ca 4 24 (fun i => some (ua i))), (xd, rA ca 5 2 (sdf e0 e1)), (xr, rA ca 4 16 (fun i => some (ra i))), (xf, rA ca 4 nf (fun i => some (fa i))), (pa, aL ca nn (wF f ai))] H := hP
        have hD : va_D A [(xo, oX xs xu xd xr xf), (xs, rA ca 3 6 sa), (rw, rwE ca 2 n9 f), (xu, rA ca 4 24 (fun i => some (ua i))), (xd, rA ca 5 2 (sdf e0 e1)), (xr, rA ca 4 16 (fun i => some (ra i))), (xf, rA ca 4 nf (fun i => some (fa i))), (pa, aL ca nn (wF f ai))] := hD
        obtain ⟨hrr_11, hu9⟩ := w_13
        subst hrr_11
        refine lv_if_ge (tgt := 140) hx hb dX0_way_134 (by decide) (fun c_14 => ?_) (fun c_14 => ?_)
        · refine lv_aload_n hx hb dX0_way_140 rfl (lv_at hl 1 rfl) ?_
          refine lv_iload hx hb dX0_way_141 (lv_at hl 5 rfl) ?_
          have hC : (m_prim (rq g js) ∧ wR (wF f ai) 0 nn (wP (rq g js))) := ⟨hp9, hu9.mp (low2_ge c_14)⟩
          refine va_newq hx hb hown (hts _ q226) (hN.2.2.2.2.2.1 _ (List.mem_of_getElem? (i := 1) rfl)) hK hP hD hS hA (n := nI nn) (N' := nn) (fun h => absurd (lt_y (a := nn) (b := 0) rfl rfl (by omega) (by decide) h) (Nat.not_lt_zero nn)) (nI_clamp (show nn < 2 ^ 31 by omega)) (by omega) (Nat.le_of_ble_eq_true rfl) (by show 12 + nn ≤ 10056; omega) dX0_way_143 (fun xq cA H hK9 hP hD hS => ?_)
          obtain ⟨-, -, -, -, -, hn9⟩ := (hK9.2 6 _ rfl).2
          obtain ⟨-, -, -, -, -, hn4⟩ := (hK.2 4 _ rfl).2
          have ecA : cA = ca 4 := Option.some.inj (hn9.symm.trans hn4)
          subst ecA
          clear hK9 hn9 hn4
          refine W.widen (k := 2) (n := 24) (by omega) (by show 12 + nn ≤ 24; omega) ?_
          have hP : va_P D vwCl [(xo, oX xs xu xd xr xf), (xs, rA ca 3 6 sa), (rw, rwE ca 2 n9 f), (xu, rA ca 4 24 (fun i => some (ua i))), (xd, rA ca 5 2 (sdf e0 e1)), (xr, rA ca 4 16 (fun i => some (ra i))), (xf, rA ca 4 nf (fun i => some (fa i))), (pa, aL ca nn (wF f ai)), (xq, rA ca 4 nn (uAr (fun _ => 0) 0))] H := hP
          have hD : va_D A [(xo, oX xs xu xd xr xf), (xs, rA ca 3 6 sa), (rw, rwE ca 2 n9 f), (xu, rA ca 4 24 (fun i => some (ua i))), (xd, rA ca 5 2 (sdf e0 e1)), (xr, rA ca 4 16 (fun i => some (ra i))), (xf, rA ca 4 nf (fun i => some (fa i))), (pa, aL ca nn (wF f ai)), (xq, rA ca 4 nn (uAr (fun _ => 0) 0))] := hD
          refine va_put (D := D) (ci := 0) (v := .ref xq) (ty := (.array (.object "FourParts$Four"))) (C := RX0) (T := TX0) (N := 5) hx hb hts in_X0 tyX0 tyX0_ok nmX0 hown hK hP hD hS 0 rfl rfl 4 (by decide) (hts _ q297) (fun _ h9 => h9) rfl (by decide +kernel) rfl rfl (Nat.le_of_ble_eq_true rfl) dX0_way_146 (fun H locs hP hD hS => ?_)
          have hP : va_P D vwCl [(xo, .inr (0, [.ref xs, .ref xu, .ref xd, .ref xr, .ref xq])), (xs, rA ca 3 6 sa), (rw, rwE ca 2 n9 f), (xu, rA ca 4 24 (fun i => some (ua i))), (xd, rA ca 5 2 (sdf e0 e1)), (xr, rA ca 4 16 (fun i => some (ra i))), (xf, rA ca 4 nf (fun i => some (fa i))), (pa, aL ca nn (wF f ai)), (xq, rA ca 4 nn (uAr (fun _ => 0) 0))] H := hP
          have hD : va_D A [(xo, .inr (0, [.ref xs, .ref xu, .ref xd, .ref xr, .ref xq])), (xs, rA ca 3 6 sa), (rw, rwE ca 2 n9 f), (xu, rA ca 4 24 (fun i => some (ua i))), (xd, rA ca 5 2 (sdf e0 e1)), (xr, rA ca 4 16 (fun i => some (ra i))), (xf, rA ca 4 nf (fun i => some (fa i))), (pa, aL ca nn (wF f ai)), (xq, rA ca 4 nn (uAr (fun _ => 0) 0))] := hD
          refine lv_iconst (v := 0) hx hb dX0_way_149 (by decide) ?_
          refine lv_istore (lv' := [(7, .int 0), (6, .ref (ra js)), (0, .ref xo), (1, .int (nI js)), (2, .int (nI j)), (3, .int (nI ai)), (4, .int (nI nn)), (5, .ref pa)]) hx hb dX0_way_150 hl (by decide) rfl (fun ls hl => ?_)
          exact lp_X0_way2_2 xo xs xu xd xr xf sa ua un e0 e1 ra g nf fa fc js j rw n9 nn ai f xq pa hjs hj hs hn hn1 hn2 hai hR hU hnf hC (wayS_of hR hU hjs hC.1 hC.2) hUg hSd hRg hFg hOF hOS hx hb hr hts hown hlocks hnm hml hK hN hA  (nn + 1) 0 (fun _ => 0) (ra js) (rq g js) (by omega) rfl (by omega) _ _ _ (hP.sub [0, 1, 2, 3, 4, 5, 8, 7] rfl) (hD.sub [0, 1, 2, 3, 4, 5, 8, 7] (by decide) rfl) hS (lv_sub hl [2, 6, 7, 1, 0] rfl) (hG_2.keep hS nG_2) (fun i hi => absurd hi (Nat.not_lt_zero i))
        · refine lv_bipush (v := (-2)) hx hb dX0_way_137 (by decide) ?_
          exact k_iret (xf, nf, fa, fc) hx hb hr hlocks (⟨by rw [wayIf_n (fun z9 => absurd (hu9.mpr z9.2) (by rw [low2_lt c_14]; decide))], hnf⟩) (hP.sub [0, 1, 2, 3, 4, 5, None] rfl) (hD.sub [0, 1, 2, 3, 4, 5, None] (by decide) rfl) (hFg.keep hS hOF) hS (by omega) (by omega) dX0_way_139
    · have c_1 := le_no (a := nn) (b := k) rfl rfl (by omega) (by omega) c_1
      refine lv_aload hx hb dX0_way_71 (lv_at hl 5 rfl) ?_
      refine lv_iload hx hb dX0_way_73 (lv_at hl 6 rfl) ?_
      refine lv_aload_n hx hb dX0_way_75 rfl (lv_at hl 0 rfl) ?_
      refine va_get (D := D) (ci := 0) (v := .ref xs) (C := RX0) (T := TX0) (N := 5) hx hb hts in_X0 hown hK hP 1 rfl rfl 0 (by decide) (hts _ q293) (fun _ h9 => h9) rfl dX0_way_76 ?_
      refine lv_iload_n hx hb dX0_way_79 rfl (lv_at hl 2 rfl) ?_
      refine va_aldq hx hb hK hP 2 3 rfl rfl (vin_nI (a := j) rfl (by omega) (by decide)) dX0_way_80 ?_
      refine W.eq (g2 := F0 m 81 ls [.ref rw, .int (nI k), .ref pa]) (by rw [nI_clamp (show j < 2 ^ 31 by omega), hs]; rfl) ?_
      refine lv_iload_n hx hb dX0_way_81 rfl (lv_at hl 3 rfl) ?_
      refine lv_iload hx hb dX0_way_82 (lv_at hl 6 rfl) ?_
      refine lv_iadd hx hb dX0_way_84 ?_
      refine nt_get (ty := .long) (w := f (ai + k)) (v := .long (f (ai + k))) hx hb (hml.trans hl.1.symm) hown (hts _ q317) (hts _ q319) (hts _ q318) (hts _ q34) hK hP 3 2 rfl rfl (by rw [show ((nI ai) + (nI k) : Int32) = nI (ai + k) from (eq_add rfl rfl)]; exact fun z => absurd (lt_y (a := ai + k) (b := 0) rfl rfl (by omega) (by decide) z) (Nat.not_lt_zero _)) (by rw [show ((nI ai) + (nI k) : Int32) = nI (ai + k) from (eq_add rfl rfl), nI_clamp (by omega)]; omega) rfl rfl (by rw [show ((nI ai) + (nI k)).toNatClampNeg = ai + k from (by rw [show ((nI ai) + (nI k) : Int32) = nI (ai + k) from (eq_add rfl rfl)]; exact nI_clamp (by omega))]; exact arrV_read _ _ (by omega)) rfl (by decide) (Nat.le_of_ble_eq_true rfl) dX0_way_85 ?_
      refine va_last hx hb hK hP hD hS 0 2 rfl rfl (vin_nI (a := k) rfl (by omega) (by omega)) dX0_way_88 (fun H locs hP hD hS => ?_)
      rw [cn_nI (i := nI k) (a := k) rfl (by omega)] at hP hD
      have hP : va_P D vwCl [(pa, aL ca nn (vp_updL (prm f ai k) k (f (ai + k)))), (xo, oX xs xu xd xr xf), (xs, rA ca 3 6 sa), (rw, rwE ca 2 n9 f), (xu, rA ca 4 24 (fun i => some (ua i))), (xd, rA ca 5 2 (sdf e0 e1)), (xr, rA ca 4 16 (fun i => some (ra i))), (xf, rA ca 4 nf (fun i => some (fa i)))] H := hP
      have hD : va_D A [(pa, aL ca nn (vp_updL (prm f ai k) k (f (ai + k)))), (xo, oX xs xu xd xr xf), (xs, rA ca 3 6 sa), (rw, rwE ca 2 n9 f), (xu, rA ca 4 24 (fun i => some (ua i))), (xd, rA ca 5 2 (sdf e0 e1)), (xr, rA ca 4 16 (fun i => some (ra i))), (xf, rA ca 4 nf (fun i => some (fa i)))] := hD
      rw [prm_s] at hP hD
      have hP : va_P D vwCl [(pa, aL ca nn (prm f ai (k + 1))), (xo, oX xs xu xd xr xf), (xs, rA ca 3 6 sa), (rw, rwE ca 2 n9 f), (xu, rA ca 4 24 (fun i => some (ua i))), (xd, rA ca 5 2 (sdf e0 e1)), (xr, rA ca 4 16 (fun i => some (ra i))), (xf, rA ca 4 nf (fun i => some (fa i)))] H := hP
      have hD : va_D A [(pa, aL ca nn (prm f ai (k + 1))), (xo, oX xs xu xd xr xf), (xs, rA ca 3 6 sa), (rw, rwE ca 2 n9 f), (xu, rA ca 4 24 (fun i => some (ua i))), (xd, rA ca 5 2 (sdf e0 e1)), (xr, rA ca 4 16 (fun i => some (ra i))), (xf, rA ca 4 nf (fun i => some (fa i)))] := hD
      refine lv_iinc (v := nI (k + 1)) (lv' := [(7, .int (nI (k + 1))), (0, .ref xo), (1, .int (nI js)), (2, .int (nI j)), (3, .int (nI ai)), (4, .int (nI nn)), (5, .ref pa)]) hx hb dX0_way_89 hl (k := 6) rfl (eq_add rfl rfl) (by decide) rfl (fun ls hl => ?_)
      refine lv_goto (tgt := 64) hx hb dX0_way_92 (by decide) ?_
      exact ih (k + 1) (by omega) (by omega) _ _ _ hP hD hS (lv_sub hl [1, 2, 3, 4, 5, 6, 0] rfl) 
set_option maxHeartbeats 4000000 in
set_option maxRecDepth 100000 in
theorem ct_X0_way_K2 (l : Launch) (hl0 : l.stackTraces = false) (D : va_G) (ca : Nat → ClassId) (zH : Nat) (xo : Nat) (xs : Nat) (xu : Nat) (xd : Nat) (xr : Nat) (xf : Nat) (sa : Nat → Option Nat) (ua : Nat → Nat) (un : AI) (e0 : Nat) (e1 : Nat) (ra : Nat → Nat) (g : AI) (nf : Nat) (fa : Nat → Nat) (fc : AL) (js : Nat) (j : Nat) (rw : Nat) (n9 : Nat) (nn : Nat) (ai : Nat) (f : AL) (hjs : js < 16) (hj : j < 6) (hs : sa j = some rw) (hn : n9 ≤ 16) (hn1 : 0 < nn) (hn2 : nn ≤ 12) (hai : ai + nn ≤ n9) (hR : okR g) (hU : UnOk un) (hnf : nf ≤ 12) (hcut : ∀ i, i < n9 → ck 2 (f i) = f i) : vx_Met l yX0_way (wsH_ yX0_way cX0_way 8 (some .int) [((28 : Nat), (60 : Nat), (98 : Nat), (37 : Nat)), ((61 : Nat), (95 : Nat), (98 : Nat), (37 : Nat)), ((28 : Nat), (60 : Nat), (103 : Nat), (25 : Nat)), ((61 : Nat), (95 : Nat), (103 : Nat), (25 : Nat))]) ({ frames := 12, cells := 2510, slots := 10056, locals := 10400 }) (va_Pc [.ref xo, .int (nI js), .int (nI j), .int (nI ai), .int (nI nn)] (prX NW D ca [(xo, oX xs xu xd xr xf), (xs, rA ca 3 6 sa), (rw, rwE ca 2 n9 f), (xu, rA ca 4 24 (fun i => some (ua i))), (xd, rA ca 5 2 (sdf e0 e1)), (xr, rA ca 4 16 (fun i => some (ra i))), (xf, rA ca 4 nf (fun i => some (fa i)))] zH (fun H => Ug D H ua un ∧ Sd D H e0 e1 ∧ Rg D H ra g ∧ Fg D H fa (fq fc) nf))) (qI D (fun (r : Int32) (u : Nat × Nat × (Nat → Nat) × AL) => (r, nI u.2.1, u.2.2.2) = wayIf (m_prim (rq g js) ∧ wR (wF f ai) 0 nn (wP (rq g js))) (nI nn, nI nn, w4L (fcW un (wF f ai) (rq g js) fc (nn - 1)) (nn - 1) (lfW un (wF f ai) (rq g js) (nn - 1))) (-2, nI nf, fc) ∧ u.2.1 ≤ 12) (fun u => [(xo, oX xs xu xd xr u.1), (xs, rA ca 3 6 sa), (rw, rwE ca 2 n9 f), (xu, rA ca 4 24 (fun i => some (ua i))), (xd, rA ca 5 2 (sdf e0 e1)), (xr, rA ca 4 16 (fun i => some (ra i))), (u.1, rA ca 4 u.2.1 (fun i => some (u.2.2.1 i)))]) (fun u H => Fg D H u.2.2.1 (fq u.2.2.2) u.2.1) (va_A [(xo, oX xs xu xd xr xf), (xs, rA ca 3 6 sa), (rw, rwE ca 2 n9 f), (xu, rA ca 4 24 (fun i => some (ua i))), (xd, rA ca 5 2 (sdf e0 e1)), (xr, rA ca 4 16 (fun i => some (ra i))), (xf, rA ca 4 nf (fun i => some (fa i)))] zH)) noX 2510 10056 (va_A [(xo, oX xs xu xd xr xf), (xs, rA ca 3 6 sa), (rw, rwE ca 2 n9 f), (xu, rA ca 4 24 (fun i => some (ua i))), (xd, rA ca 5 2 (sdf e0 e1)), (xr, rA ca 4 16 (fun i => some (ra i))), (xf, rA ca 4 nf (fun i => some (fa i)))] zH) := by
  have hk := NW_ok
  refine k_ofH (Qc := qI D (fun (r : Int32) (u : Nat × Nat × (Nat → Nat) × AL) => (r, nI u.2.1, u.2.2.2) = wayIf (m_prim (rq g js) ∧ wR (wF f ai) 0 nn (wP (rq g js))) (nI nn, nI nn, w4L (fcW un (wF f ai) (rq g js) fc (nn - 1)) (nn - 1) (lfW un (wF f ai) (rq g js) (nn - 1))) (-2, nI nf, fc) ∧ u.2.1 ≤ 12) (fun u => [(xo, oX xs xu xd xr u.1), (xs, rA ca 3 6 sa), (rw, rwE ca 2 n9 f), (xu, rA ca 4 24 (fun i => some (ua i))), (xd, rA ca 5 2 (sdf e0 e1)), (xr, rA ca 4 16 (fun i => some (ra i))), (u.1, rA ca 4 u.2.1 (fun i => some (u.2.2.1 i)))]) (fun u H => Fg D H u.2.2.1 (fq u.2.2.2) u.2.1)) (by decide) (Nat.le_of_ble_eq_true rfl) ?_
  intro p e s m below meth c ls A H hH hx hb hr hts hown hlocks hnm hml hsz hP hD hK hN hA hAn hS hro hl hX hZ htb
  have hl : lv_has ls 8 [(0, .ref xo), (1, .int (nI js)), (2, .int (nI j)), (3, .int (nI ai)), (4, .int (nI nn))] := hl
  refine vx_ret ?_
  have hOF := k_outF hK (hH ▸ hP) (okc (oko 0 (by decide)) (okc (oka 3 (by decide)) (okc okR_row (okc (oka 4 (by decide)) (okc (oka 5 (by decide)) (okc (oka 4 (by decide)) (okc (oka 4 (by decide)) (okn)))))))) hAn
  have hOS := k_outS hK (hH ▸ hP) (okc (oko 0 (by decide)) (okc (oka 3 (by decide)) (okc okR_row (okc (oka 4 (by decide)) (okc (oka 5 (by decide)) (okc (oka 4 (by decide)) (okc (oka 4 (by decide)) (okn)))))))) hAn
  obtain ⟨hUg, hSd, hRg, hFg⟩ := hro
  refine lv_iload_n hx hb dX0_way_0 rfl (lv_at hl 1 rfl) ?_
  refine k_calli (wr := [(xo, oX xs xu xd xr xf), (xs, rA ca 3 6 sa), (rw, rwE ca 2 n9 f), (xu, rA ca 4 24 (fun i => some (ua i))), (xd, rA ca 5 2 (sdf e0 e1)), (xr, rA ca 4 16 (fun i => some (ra i))), (xf, rA ca 4 nf (fun i => some (fa i)))]) (va_runS (As := [.int (nI js)]) (rest := []) ⟨hx, hb, hml, hown, hts⟩ (ct_X0_isRegister hk l D ca H.size (nI js)) (va_cwS 1 hts (lw_S q313 q314 q19 q315) rfl rfl rfl (by decide +kernel) ⟨Nat.le_of_ble_eq_true rfl, Nat.le_of_ble_eq_true rfl⟩) (k_pre hk hK hN hP hD [] (by decide) rfl trivial) rfl rfl hl.1 rfl (lv_room (Nat.le_of_ble_eq_true rfl)) dX0_way_1 ⟨Nat.le_of_ble_eq_true rfl, Nat.le_of_ble_eq_true rfl⟩) hP hD hS hA [] [0, 1, 2, 3, 4, 5, 6] rfl rfl (by decide) (by decide) (fun r_1 u_2 H locs w_3 hP hD hxw_3 hzw_3 hqw_3 hS => ?_)
  obtain rfl : r_1 = bI (p_in (nI js).toInt64 0 15) := w_3
  refine lv_if_eq (tgt := 26) hx hb dX0_way_4 (by decide) (fun c_4 => absurd c_4 (by rw [in_15 hjs]; decide)) (fun c_4 => ?_)
  refine lv_iload_n hx hb dX0_way_7 rfl (lv_at hl 2 rfl) ?_
  refine k_calli (wr := [(xo, oX xs xu xd xr xf), (xs, rA ca 3 6 sa), (rw, rwE ca 2 n9 f), (xu, rA ca 4 24 (fun i => some (ua i))), (xd, rA ca 5 2 (sdf e0 e1)), (xr, rA ca 4 16 (fun i => some (ra i))), (xf, rA ca 4 nf (fun i => some (fa i)))]) (va_runS (As := [.int (nI j)]) (rest := []) ⟨hx, hb, hml, hown, hts⟩ (ct_X0_isSheet hk l D ca H.size (nI j)) (va_cwS 1 hts (lw_S q127 q128 q19 q129) rfl rfl rfl (by decide +kernel) ⟨Nat.le_of_ble_eq_true rfl, Nat.le_of_ble_eq_true rfl⟩) (k_pre hk hK hN hP hD [] (by decide) rfl trivial) rfl rfl hl.1 rfl (lv_room (Nat.le_of_ble_eq_true rfl)) dX0_way_8 ⟨Nat.le_of_ble_eq_true rfl, Nat.le_of_ble_eq_true rfl⟩) hP hD hS hA [] [0, 1, 2, 3, 4, 5, 6] rfl rfl (by decide) (by decide) (fun r_5 u_6 H locs w_7 hP hD hxw_7 hzw_7 hqw_7 hS => ?_)
  obtain rfl : r_5 = bI (p_in (nI j).toInt64 0 5) := w_7
  refine lv_if_eq (tgt := 26) hx hb dX0_way_11 (by decide) (fun c_8 => absurd c_8 (by rw [in_5 hj]; decide)) (fun c_8 => ?_)
  refine lv_iload hx hb dX0_way_14 (lv_at hl 4 rfl) ?_
  refine lv_if_eq (tgt := 26) hx hb dX0_way_16 (by decide) (fun c_9 => absurd c_9 (nI_ne0 hn1 (by omega))) (fun c_9 => ?_)
  refine lv_iload hx hb dX0_way_19 (lv_at hl 4 rfl) ?_
  refine lv_bipush (v := 12) hx hb dX0_way_21 (by decide) ?_
  refine lv_icmp_le (tgt := 28) hx hb dX0_way_23 (by decide) (fun c_10 => ?_) (fun c_10 => absurd (nI_le (b := 12) hn2 (by decide)) c_10)
  refine lv_aload_n hx hb dX0_way_28 rfl (lv_at hl 0 rfl) ?_
  refine va_get (D := D) (ci := 0) (v := .ref xs) (C := RX0) (T := TX0) (N := 5) hx hb hts in_X0 hown hK hP 0 rfl rfl 0 (by decide) (hts _ q293) (fun _ h9 => h9) rfl dX0_way_29 ?_
  refine lv_iload_n hx hb dX0_way_32 rfl (lv_at hl 2 rfl) ?_
  refine va_aldq hx hb hK hP 1 3 rfl rfl (vin_nI (a := j) rfl (by omega) (by decide)) dX0_way_33 ?_
  refine W.eq (g2 := F0 m 34 ls [.ref rw]) (by rw [nI_clamp (show j < 2 ^ 31 by omega), hs]; rfl) ?_
  refine nt_len (ty := .long) (v := nI n9) hx hb (hml.trans hl.1.symm) hown (hts _ q336) (hts _ q338) (hts _ q337) (hts _ q34) hK hP 2 2 rfl rfl rfl (by decide) (Nat.le_of_ble_eq_true rfl) dX0_way_34 ?_
  refine lv_istore (lv' := [(6, .int (nI n9)), (0, .ref xo), (1, .int (nI js)), (2, .int (nI j)), (3, .int (nI ai)), (4, .int (nI nn))]) hx hb dX0_way_37 hl (by decide) rfl (fun ls hl => ?_)
  refine lv_iload hx hb dX0_way_39 (lv_at hl 5 rfl) ?_
  refine va_newa (atype := .long) (a0 := (nn, .inr (.inl (fun _ => 0)))) hx hb (hts _ q140) rfl hK hP hD hS hA (fun _ => rfl) (fun h => absurd (lt_y (a := nn) (b := 0) rfl rfl (by omega) (by decide) h) (Nat.not_lt_zero nn)) (nI_clamp (show nn < 2 ^ 31 by omega)) (by show nn * 8 ≤ 536870912; omega) (Nat.le_of_ble_eq_true rfl) (by show 0 + nn ≤ 10056; omega) dX0_way_41 (fun pa cA H hK9 hP hD hS => ?_)
  have ecA : cA = ca 2 := Option.some.inj (((hK9.2 6 _ rfl).2).symm.trans ((hK.2 2 _ rfl).2))
  subst ecA
  refine W.widen (k := 1) (n := 12) (by omega) (by show 0 + nn ≤ 12; omega) ?_
  have hP : va_P D vwCl [(xo, oX xs xu xd xr xf), (xs, rA ca 3 6 sa), (rw, rwE ca 2 n9 f), (xu, rA ca 4 24 (fun i => some (ua i))), (xd, rA ca 5 2 (sdf e0 e1)), (xr, rA ca 4 16 (fun i => some (ra i))), (xf, rA ca 4 nf (fun i => some (fa i))), (pa, aL ca nn (fun _ => 0))] H := hP
  have hD : va_D A [(xo, oX xs xu xd xr xf), (xs, rA ca 3 6 sa), (rw, rwE ca 2 n9 f), (xu, rA ca 4 24 (fun i => some (ua i))), (xd, rA ca 5 2 (sdf e0 e1)), (xr, rA ca 4 16 (fun i => some (ra i))), (xf, rA ca 4 nf (fun i => some (fa i))), (pa, aL ca nn (fun _ => 0))] := hD
  refine lv_astore (lv' := [(5, .ref pa), (6, .int (nI n9)), (0, .ref xo), (1, .int (nI js)), (2, .int (nI j)), (3, .int (nI ai)), (4, .int (nI nn))]) hx hb dX0_way_43 hl (by decide) rfl (fun ls hl => ?_)
  refine lv_iload_n hx hb dX0_way_45 rfl (lv_at hl 5 rfl) ?_
  refine lv_if_lt (tgt := 58) hx hb dX0_way_46 (by decide) (fun c_11 => absurd c_11 (fun z => absurd (lt_y (a := ai) (b := 0) rfl rfl (by omega) (by decide) z) (Nat.not_lt_zero _))) (fun c_11 => ?_)
  refine lv_iload_n hx hb dX0_way_49 rfl (lv_at hl 5 rfl) ?_
  refine lv_iload hx hb dX0_way_50 (lv_at hl 1 rfl) ?_
  refine lv_iload hx hb dX0_way_52 (lv_at hl 6 rfl) ?_
  refine lv_isub hx hb dX0_way_54 ?_
  refine lv_icmp_le (tgt := 61) hx hb dX0_way_55 (by decide) (fun c_12 => ?_) (fun c_12 => absurd ((subn_le hn hn2 (by omega)).mpr hai) c_12)
  refine lv_iconst (v := 0) hx hb dX0_way_61 (by decide) ?_
  refine lv_istore (lv' := [(7, .int 0), (5, .ref pa), (6, .int (nI n9)), (0, .ref xo), (1, .int (nI js)), (2, .int (nI j)), (3, .int (nI ai)), (4, .int (nI nn))]) hx hb dX0_way_62 hl (by decide) rfl (fun ls hl => ?_)
  have hpr0 : (fun _ => 0 : AL) = prm f ai 0 := rfl
  have hP : va_P D vwCl [(xo, oX xs xu xd xr xf), (xs, rA ca 3 6 sa), (rw, rwE ca 2 n9 f), (xu, rA ca 4 24 (fun i => some (ua i))), (xd, rA ca 5 2 (sdf e0 e1)), (xr, rA ca 4 16 (fun i => some (ra i))), (xf, rA ca 4 nf (fun i => some (fa i))), (pa, aL ca nn (prm f ai 0))] H := hP
  have hD : va_D A [(xo, oX xs xu xd xr xf), (xs, rA ca 3 6 sa), (rw, rwE ca 2 n9 f), (xu, rA ca 4 24 (fun i => some (ua i))), (xd, rA ca 5 2 (sdf e0 e1)), (xr, rA ca 4 16 (fun i => some (ra i))), (xf, rA ca 4 nf (fun i => some (fa i))), (pa, aL ca nn (prm f ai 0))] := hD
  exact lp_X0_way1_2 xo xs xu xd xr xf sa ua un e0 e1 ra g nf fa fc js j rw n9 nn ai f pa hjs hj hs hn hn1 hn2 hai hR hU hnf hcut hUg hSd hRg hFg hOF hOS hx hb hr hts hown hlocks hnm hml hK hN hA  (nn + 1) 0 (by omega) (by omega) _ _ _ (hP.sub [7, 0, 1, 2, 3, 4, 5, 6] rfl) (hD.sub [7, 0, 1, 2, 3, 4, 5, 6] (by decide) rfl) hS (lv_sub hl [3, 4, 5, 6, 7, 1, 0] rfl) 
