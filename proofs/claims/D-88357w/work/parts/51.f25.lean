/-- the static NOUGHT holds no -/
def ZN (no : Nat) (U : State) : Prop := va_Z RX0 "NOUGHT" "LFourParts$Four;" (.ref no) (fun _ => False) U U.heap
def prZ (no : Nat) (KN : State → Prop) (D : va_G) (ca : Nat → ClassId) (ws : va_W) (sz : Nat) (ro : Heap → Prop) (U : State) : Prop := pr_ KN D ca ws sz ro U ∧ ZN no U
theorem ZN.to {no : Nat} {A : Nat → Prop} {s U : State} {H : Heap} (h : va_Z RX0 "NOUGHT" "LFourParts$Four;" (.ref no) A s H) (hal : s.vm.Alike U.vm) (hH : U.heap = H) : ZN no U := by
  obtain ⟨cf, kf, fi, f, a, cell, h1, h2, h3, h4, h5, h6, h7, h8⟩ := va_Z.moved hal h
  exact ⟨cf, kf, fi, f, a, cell, h1, h2, h3, h4, by rw [hH]; exact h5, h6, h7, fun z => z⟩
section HZ
variable {l : Launch} {KN : State → Prop} {D : va_G} {ca : Nat → ClassId} {no : Nat}
theorem k_preZ {av : List Value} {s : State} {H : Heap} {A : Nat → Prop} {ws wc : va_W} {ro : Heap → Prop} (hk : KNok KN) (hK : va_K D vwCl (tysG ca) s) (hN : KN s) (hP : va_P D vwCl ws H) (hD : va_D A ws) (isC : List Nat) (hn : va_nd isC = true) (hC : isC.map (fun i => ws[i]?) = wc.map some) (hro : ro H) (hZ : va_Z RX0 "NOUGHT" "LFourParts$Four;" (.ref no) A s H) :
    PreS s H (va_Pc av (prZ no KN D ca wc H.size ro)) av := by
  refine ⟨?_, fun U hU hW => ?_⟩
  · intro a U g mk q
    obtain ⟨q0, q1, qx⟩ := q
    have h := k_blind (D := D) (ca := ca) (av := av) (ws := wc) (sz := H.size) (ro := ro) hk a U g mk ⟨q0, q1⟩
    exact ⟨h.1, h.2, ZN.to (U := U.calling g mk a) qx (Vm.Alike.refl U.vm) rfl⟩
  · obtain ⟨h1, h2⟩ := (k_pre (av := av) (ro := ro) hk hK hN hP hD isC hn hC hro).2 U hU hW
    exact ⟨h1, h2, ZN.to hZ hW.alike hU⟩
theorem k_ofZ {y : MethodName} {cc : ByteArray} {L : Nat} {ret : Option FieldType} {rm : Room} {av : List Value} {ws : va_W} {sz : Nat} {ro : Heap → Prop} {Qc : (Nat → Prop) → Array Value → State → Outcome → State → Prop} {mc ms : Nat} (hy : plainFor y = true) (hn : (lg_sl av).length ≤ L)
    (body : ∀ (p : Program) (e : Env) (s : State) (m : MethodId) (below : List Frame) (meth : Method) (c : Code) (ls : Array Slot) (A : Nat → Prop) (H : Heap), H = s.heap → p.tables.exec = Jvm.exec → c.code = cc → meth.sig.returnType = ret → (∀ w ∈ lw_all, w.before av.toArray s = true) → s.vm.findClass y.cls = some m.cls → meth.locks = false → meth.name = y.name → c.maxLocals = L → s.heap.size = sz →
      va_P D vwCl ws H → va_D A ws → va_K D vwCl (tysG ca) s → KN s → (∀ q, s.heap.size ≤ q → A q) → (∀ q, A q → (∃ (k : Nat) (e : va_E), ws[k]? = some (q, e)) ∨ s.heap.size ≤ q) → va_S A s.heap H [] → ro s.heap → lv_has ls L (lv_args 0 av) → va_Z RX0 "NOUGHT" "LFourParts$Four;" (.ref no) A s s.heap →
      W p l e rm s m av.toArray below meth c H [] 0 0 (MQ below (Qc A) av.toArray s mc ms A) (F0 m 0 ls [])) :
    Met l y (ws_ y cc L ret) rm (va_Pc av (prZ no KN D ca ws sz ro)) (Qc (va_A ws sz)) mc ms (va_A ws sz) := by
  refine va_MetF (cc := cc) (maxL := L) (ret := ret) hy rfl ?_
  intro p e s m args below meth c s₁ B hml hv
  obtain ⟨rfl, ⟨hsz, hP, hD0, hK, hN, hro⟩, hZ⟩ := hv
  have hts := atoms_spec (ws := ws_ y cc L ret) B.pre
  have hts : ∀ w ∈ lw_all, w.before _ s = true := fun w h => hts w (List.mem_cons_of_mem _ h)
  have hown : s.vm.findClass y.cls = some m.cls := findClass_of_methodNamed B.named
  have hin : meth.name = y.name := (name_of_methodNamed B.named B.method).1
  have hl := lv_entry av (n := L) hn
  rw [lg_entry_eq]
  subst hsz
  exact body p e s m below meth c _ (va_A ws s.heap.size) s.heap rfl B.exec B.bytes B.returns hts hown B.notSynchronized hin hml rfl hP hD0.self hK hN (fun q h => Or.inr h) (fun q h => h) va_S.rf hro hl (hZ.wide (fun a cell hc hs => zq_free hP (fun q h => h) hc hs))
variable {p : Program} {e : Env} {R : Room} {s : State} {m : MethodId} {args : Array Value} {below : List Frame} {meth : Method} {c : Code} {H : Heap} {locs : List Loc} {cells slots : Nat} {Q : State → Prop} {A : Nat → Prop}
variable {pc : Nat} {ls : Array Slot} {st0 rest : List Value} {mc ms : Nat} {a : Array Value} {S : Type} {X pl wc wr : va_W}
theorem k_callrP {post : S → Prop} {w' : S → Nat → va_W} {rx : S → Nat → Heap → Prop} (hr : va_Run p l e R s m args below meth c H locs cells slots mc ms (F0 m pc ls st0) rest (qR D post w' rx (va_A wc H.size) a) (va_A wc H.size))
    (hP : va_P D vwCl (X ++ pl) H) (hD : va_D A (X ++ pl)) (hS : va_S A s.heap H locs) (hA : ∀ q, s.heap.size ≤ q → A q) (isC isR : List Nat) (hC : isC.map (fun i => X[i]?) = wc.map some) (hR : isR.map (fun i => X[i]?) = wr.map some) (hn : va_nd isR = true) (hdis : ∀ i ∈ isR, i ∉ isC)
    (kk : ∀ (u : S) (ra : Nat) (H1 : Heap) (locs1 : List Loc), post u → va_P D vwCl ((wr ++ w' u ra) ++ pl) H1 → va_D A ((wr ++ w' u ra) ++ pl) → rx u ra H1 → H.size ≤ H1.size → (∀ q : Nat, q < H.size → ¬ va_A wc H.size q → H1[q]? = H[q]?) → va_S A s.heap H1 locs1 → W p l e R s m args below meth c H1 locs1 (cells + mc) (slots + ms) Q (F0 m (pc + 3) ls (.ref ra :: rest))) : W p l e R s m args below meth c H locs cells slots Q (F0 m pc ls st0) := by
  have hFc := va_free (wc := wc) (vd_pre hD) hS hA isC hC
  refine va_callr hr hS (fun q _ h => hFc q h) hFc (fun u ra t H1 locs1 ht hvm hw hB hz1 hk1 hS1 => ?_)
  obtain ⟨hP1, hD1, hx1⟩ := hB
  rw [ht] at hP1 hx1
  obtain ⟨hP2, hD2⟩ := va_joinQ (wr := wr) (w1 := w' u ra) hP hD isC isR hC hR hn hdis hk1 hFc hP1 hD1
  exact kk u ra H1 locs1 hw hP2 hD2 hx1 hz1 hk1 hS1
end HZ
theorem up_no {no n : Nat} : va_up (fun _ => no) n no = (fun _ => no) := by
  funext i
  simp only [va_up]
  split <;> rfl
set_option maxHeartbeats 4000000 in
set_option maxRecDepth 100000 in
theorem lp_X0_registers  {l : Launch} {D : va_G} {ca : Nat → ClassId} (no : Nat) (xa : Nat)  {p : Program} {e : Env} {s : State} {m : MethodId} {below : List Frame} {meth : Method} {c : Code} {A : Nat → Prop} (hZn : va_Z RX0 "NOUGHT" "LFourParts$Four;" (.ref no) A s s.heap) (hF0 : Fo D s.heap no (0, 0, 0, 0)) (nF0 : ¬ A no) (hx : p.tables.exec = Jvm.exec) (hb : c.code = cX0_registers) (hr : meth.sig.returnType = (some (.array (.object "FourParts$Four")))) (hts : ∀ w ∈ lw_all, w.before ([] : List Value).toArray s = true) (hown : s.vm.findClass yX0_registers.cls = some m.cls) (hlocks : meth.locks = false) (hnm : meth.name = yX0_registers.name) (hml : c.maxLocals = 2) (hK : va_K D vwCl (tysG ca) s) (hN : NW s) (hA : ∀ q, s.heap.size ≤ q → A q)  :
    ∀ (n : Nat) (k : Nat), (k ≤ 16) → (16 < n + k) →  ∀ (H : Heap) (locs : List Loc) (ls : Array Slot), va_P D vwCl [(xa, rA ca 4 16 (uAr (fun _ => no) k))] H → va_D A [(xa, rA ca 4 16 (uAr (fun _ => no) k))] → va_S A s.heap H locs → lv_has ls 2 [(1, .int (nI k)), (0, .ref xa)] → W p l e ({ frames := 0, cells := 1, slots := 16, locals := 0 }) s m ([] : List Value).toArray below meth c H locs 1 16 (MQ below (qR D (fun (u : Unit) => True) (fun u a => [(a, rA ca 4 16 (fun _ => some no))]) (fun u a H => True) A) ([] : List Value).toArray s 1 16 A) (F0 m 8 ls []) := by
  intro n
  induction n with
  | zero =>
    intro k hk1 hfuel H locs ls hP hD hS hl 
    exact absurd hfuel (by omega)
  | succ n ih =>
    intro k hk1 hfuel H locs ls hP hD hS hl 
    have hk := NW_ok
    refine lv_iload_n hx hb dX0_registers_8 rfl (lv_at hl 0 rfl) ?_
    refine lv_bipush (v := 16) hx hb dX0_registers_9 (by decide) ?_
    refine lv_icmp_ge (tgt := 26) hx hb dX0_registers_11 (by decide) (fun c_1 => ?_) (fun c_1 => ?_)
    · have c_1 := le_y (a := 16) (b := k) rfl rfl (by omega) (by omega) c_1
      refine lv_aload_n hx hb dX0_registers_26 rfl (lv_at hl 1 rfl) ?_
      obtain rfl : k = 16 := by omega
      have hP : va_P D vwCl [(xa, rA ca 4 16 (fun _ => some no))] H := vp_cell1 (pl := []) hP (fun i hi => if_pos hi)
      have hD : va_D A [(xa, rA ca 4 16 (fun _ => some no))] := vd_cell (pl := []) hD
      exact k_aret () hx hb hr (Or.inr ⟨_, rfl⟩) hlocks trivial hP hD trivial hS (by omega) (by omega) dX0_registers_27
    · have c_1 := le_no (a := 16) (b := k) rfl rfl (by omega) (by omega) c_1
      refine lv_aload_n hx hb dX0_registers_14 rfl (lv_at hl 1 rfl) ?_
      refine lv_iload_n hx hb dX0_registers_15 rfl (lv_at hl 0 rfl) ?_
      refine va_gets hx hb hZn hS hown (hts _ q291) (fun _ h9 => h9) dX0_registers_16 ?_
      refine va_astqM hx hb hK hP hD hS 0 4 rfl rfl (any_fo hK (hF0.keep hS nF0)) (vin_nI (a := k) rfl (by omega) (by decide)) dX0_registers_19 (fun H locs hP hD hS => ?_)
      rw [nI_clamp (show k < 2 ^ 31 by omega), uAr_s, up_no] at hP hD
      have hP : va_P D vwCl [(xa, rA ca 4 16 (uAr (fun _ => no) (k + 1)))] H := hP
      have hD : va_D A [(xa, rA ca 4 16 (uAr (fun _ => no) (k + 1)))] := hD
      refine lv_iinc (v := nI (k + 1)) (lv' := [(1, .int (nI (k + 1))), (0, .ref xa)]) hx hb dX0_registers_20 hl (k := 0) rfl (eq_add rfl rfl) (by decide) rfl (fun ls hl => ?_)
      refine lv_goto (tgt := 8) hx hb dX0_registers_23 (by decide) ?_
      exact ih (k + 1) (by omega) (by omega) _ _ _ hP hD hS (lv_sub hl [0, 1] rfl) 
set_option maxHeartbeats 4000000 in
set_option maxRecDepth 100000 in
theorem ct_X0_registers (l : Launch) (D : va_G) (ca : Nat → ClassId) (zH : Nat) (no : Nat)  : Met l yX0_registers (ws_ yX0_registers cX0_registers 2 (some (.array (.object "FourParts$Four")))) ({ frames := 0, cells := 1, slots := 16, locals := 0 }) (va_Pc [] (prZ no NW D ca [] zH (fun H => Fo D H no (0, 0, 0, 0)))) (qR D (fun (u : Unit) => True) (fun u a => [(a, rA ca 4 16 (fun _ => some no))]) (fun u a H => True) (va_A [] zH)) 1 16 (va_A [] zH) := by
  have hk := NW_ok
  refine k_ofZ (Qc := qR D (fun (u : Unit) => True) (fun u a => [(a, rA ca 4 16 (fun _ => some no))]) (fun u a H => True)) (by decide) (Nat.le_of_ble_eq_true rfl) ?_
  intro p e s m below meth c ls A H hH hx hb hr hts hown hlocks hnm hml hsz hP hD hK hN hA hAn hS hro hl hZn
  have hl : lv_has ls 2 [] := hl
  have nF0 := k_new hAn hro.lt
  refine lv_bipush (v := 16) hx hb dX0_registers_0 (by decide) ?_
  refine va_newq hx hb hown (hts _ q226) (hN.2.2.2.2.2.1 _ (List.mem_of_getElem? (i := 1) rfl)) hK hP hD hS hA (n := 16) (N' := 16) (by decide) (by decide) (by decide) (Nat.le_of_ble_eq_true rfl) (Nat.le_of_ble_eq_true rfl) dX0_registers_2 (fun xa cA H hK9 hP hD hS => ?_)
  obtain ⟨-, -, -, -, -, hn9⟩ := (hK9.2 6 _ rfl).2
  obtain ⟨-, -, -, -, -, hn4⟩ := (hK.2 4 _ rfl).2
  have ecA : cA = ca 4 := Option.some.inj (hn9.symm.trans hn4)
  subst ecA
  clear hK9 hn9 hn4
  have hP : va_P D vwCl [(xa, rA ca 4 16 (fun _ => none))] H := hP
  have hD : va_D A [(xa, rA ca 4 16 (fun _ => none))] := hD
  have hP : va_P D vwCl [(xa, rA ca 4 16 (uAr (fun _ => no) 0))] H := hP
  have hD : va_D A [(xa, rA ca 4 16 (uAr (fun _ => no) 0))] := hD
  refine lv_astore_n (lv' := [(0, .ref xa)]) hx hb dX0_registers_5 rfl hl (by decide) rfl (fun ls hl => ?_)
  refine lv_iconst (v := 0) hx hb dX0_registers_6 (by decide) ?_
  refine lv_istore_n (lv' := [(1, .int 0), (0, .ref xa)]) hx hb dX0_registers_7 rfl hl (by decide) rfl (fun ls hl => ?_)
  exact lp_X0_registers no xa hZn hro nF0 hx hb hr hts hown hlocks hnm hml hK hN hA  17 0 (by omega) (by omega) _ _ _ hP hD hS (lv_sub hl [0, 1] rfl) 
