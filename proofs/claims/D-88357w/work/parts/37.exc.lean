/-! THE WORDS OF EXCEPTIONS, and entries of methods with handlers -/
/-- the constructors that exceptions' words speak of -/
def nxD : List MethodName := [⟨"java/lang/RuntimeException", "<init>", "()V"⟩, ⟨"java/lang/Exception", "<init>", "()V"⟩, ⟨"java/lang/Throwable", "<init>", "()V"⟩, ⟨"java/lang/IndexOutOfBoundsException", "<init>", "()V"⟩, ⟨"java/lang/RuntimeException", "<init>", "(Ljava/lang/String;)V"⟩, ⟨"java/lang/Exception", "<init>", "(Ljava/lang/String;)V"⟩, ⟨"java/lang/Throwable", "<init>", "(Ljava/lang/String;)V"⟩, ⟨"java/lang/IndexOutOfBoundsException", "<init>", "(Ljava/lang/String;)V"⟩]
def nxC : List (String × String) := [("java/lang/NegativeArraySizeException", "java/lang/NegativeArraySizeException"), ("java/lang/NullPointerException", "java/lang/NullPointerException"), ("java/lang/ArrayIndexOutOfBoundsException", "java/lang/ArrayIndexOutOfBoundsException"), ("java/lang/RuntimeException", "java/lang/Throwable")]
def nxW : List Cond := nxC.map (fun q => .castable q.1 q.2) ++ nxD.map .declares
abbrev aioN : String := "java/lang/ArrayIndexOutOfBoundsException"
abbrev aioU : List String := ["java/lang/IndexOutOfBoundsException", "java/lang/RuntimeException", "java/lang/Exception"]
abbrev nasN : String := "java/lang/NegativeArraySizeException"
abbrev nasU : List String := ["java/lang/RuntimeException", "java/lang/Exception"]
def NX (U : State) : Prop := (∀ q ∈ nxC, va_Nw (.castable q.1 q.2) U) ∧ ∀ x ∈ nxD, va_Nw (.declares x) U
def ZQ (A : Nat → Prop) (U : State) (H : Heap) : Prop := vx_Zq Bundle.tN "UNASSIGNED_STACK" Bundle.steD A U H ∧ vx_Zq Bundle.tN "SUPPRESSED_SENTINEL" Bundle.listD A U H
/-- what a method that makes exceptions asks of the state -/
def XS (U : State) : Prop := NX U ∧ ZQ (fun _ => False) U U.heap
theorem nx_big {args : Array Value} {s : State} (hts : ∀ w ∈ lw_all, w.before args s = true) (hN : NX s) : ∀ w ∈ lw_all ++ nxW, w.before args s = true := by
  intro w hw
  rcases List.mem_append.mp hw with h | h
  · exact hts w h
  · rcases List.mem_append.mp h with h | h
    · obtain ⟨q, hq, rfl⟩ := List.mem_map.mp h
      exact hN.1 q hq
    · obtain ⟨x, hx, rfl⟩ := List.mem_map.mp h
      exact hN.2 x hx
theorem nx_of {L : List Cond} {ps : List Nat} (hp : L = ps.filterMap (fun i => (lw_all ++ nxW)[i]?)) {args : Array Value} {s : State} (hts : ∀ w ∈ lw_all, w.before args s = true) (hN : NX s) : ∀ w ∈ L, w.before args s = true := by
  intro w hw
  rw [hp] at hw
  obtain ⟨i, -, hi⟩ := List.mem_filterMap.mp hw
  exact nx_big hts hN w (List.mem_of_getElem? hi)
set_option maxRecDepth 100000 in
theorem nx_N : vx_atN 8 = ([25, 106, 60, 76, 78, 80, 107, 108, 55, 56, 54, 59, 77, 83, 100, 84, 101, 85, 102, 57, 58, 103, 73, 65, 66, 143, 145, 71, 72, 761, 134, 135, 136, 137, 762, 137, 138, 139, 140, 763, 140, 141, 142, 107, 764, 30, 69, 759, 155, 64, 151, 152, 154, 81, 104, 149] : List Nat).filterMap (fun i => (lw_all ++ nxW)[i]?) := by decide +kernel
set_option maxRecDepth 100000 in
theorem nx_A : vx_atM aioN aioU = ([25, 106, 60, 76, 78, 80, 107, 108, 55, 56, 54, 59, 77, 83, 100, 84, 101, 85, 102, 57, 58, 103, 52, 53, 82, 103, 158, 159, 160, 161, 769, 161, 162, 163, 46, 766, 46, 47, 48, 49, 767, 49, 50, 51, 52, 768, 29, 109, 110, 111, 113, 112, 114, 32, 157, 760, 171, 62, 166, 167, 169, 165, 81, 104, 164] : List Nat).filterMap (fun i => (lw_all ++ nxW)[i]?) := by decide +kernel
set_option maxRecDepth 100000 in
theorem nx_S : vx_atM nasN nasU = ([25, 106, 60, 76, 78, 80, 107, 108, 55, 56, 54, 59, 77, 83, 100, 84, 101, 85, 102, 57, 58, 103, 52, 53, 82, 103, 43, 44, 45, 46, 766, 46, 47, 48, 49, 767, 49, 50, 51, 52, 768, 29, 109, 110, 111, 113, 112, 114, 28, 42, 758, 99, 63, 90, 92, 96, 88, 81, 104, 86] : List Nat).filterMap (fun i => (lw_all ++ nxW)[i]?) := by decide +kernel
set_option maxRecDepth 100000 in
theorem nx_0 : nt_at0 aioN aioU = ([25, 106, 60, 76, 78, 80, 107, 108, 55, 56, 54, 59, 77, 83, 100, 84, 101, 85, 102, 57, 58, 103, 172, 173, 174, 175, 765, 175, 176, 177, 137, 762, 137, 138, 139, 140, 763, 140, 141, 142, 107, 764, 32, 157, 760, 171, 62, 166, 167, 169, 81, 104, 164] : List Nat).filterMap (fun i => (lw_all ++ nxW)[i]?) := by decide +kernel
theorem ot_all {L : List Cond} (h : L.all vx_ot = true) : ∀ w ∈ L, vx_ot w = true := fun w hw => List.all_eq_true.mp h w hw
theorem nx_oN : ∀ w ∈ vx_atN 8, vx_ot w = true := ot_all (by decide +kernel)
theorem nx_oA : ∀ w ∈ vx_atM aioN aioU, vx_ot w = true := ot_all (by decide +kernel)
theorem nx_oS : ∀ w ∈ vx_atM nasN nasU, vx_ot w = true := ot_all (by decide +kernel)
theorem nx_o0 : ∀ w ∈ nt_at0 aioN aioU, vx_ot w = true := ot_all (by decide +kernel)
theorem NX.moved {s U : State} (hW : s.WarmedH U.vm) (h : NX s) : NX U := ⟨fun q hq => va_Nw.warmC hW (h.1 q hq), fun x hx => va_Nw.warmD hW (h.2 x hx)⟩
theorem NX.same {s U : State} (hvm : s.vm = U.vm) (h : NX s) : NX U := ⟨fun q hq => va_Nw.same rfl hvm (h.1 q hq), fun x hx => va_Nw.same rfl hvm (h.2 x hx)⟩
theorem ZQ.moved {u U : State} {A : Nat → Prop} {H : Heap} (hvm : u.vm.Alike U.vm) (h : ZQ A u H) : ZQ A U H := ⟨vx_Zq.moved hvm h.1, vx_Zq.moved hvm h.2⟩
theorem ZQ.kept {A : Nat → Prop} {U : State} {H H1 : Heap} (h : ZQ A U H) (hq : ∀ a : Nat, a < H.size → ¬ A a → H1[a]? = H[a]?) : ZQ A U H1 := ⟨h.1.kept hq, h.2.kept hq⟩
theorem ZQ.narrow {A B : Nat → Prop} {U : State} {H : Heap} (h : ZQ A U H) (hAB : ∀ q, B q → A q) : ZQ B U H := ⟨h.1.narrow hAB, h.2.narrow hAB⟩
theorem zq_free {D : va_G} {ws : va_W} {s : State} {A : Nat → Prop} (hP : va_P D vwCl ws s.heap) (hAn : ∀ q, A q → (∃ (k : Nat) (e : va_E), ws[k]? = some (q, e)) ∨ s.heap.size ≤ q) {a : Nat} {cell : Cell} (hc : s.heap[a]? = some cell) (hst : cell.vm.isStatics = true) : ¬ A a := by
  intro hA
  rcases hAn a hA with ⟨k, e, hk⟩ | h
  · have h0 := hP k _ hk
    rcases e with ⟨cA, n, x⟩ | ⟨ci, fs⟩
    · have h1 : s.heap[a]? = some (vp_cell cA (n, x)) := h0
      have e1 := Option.some.inj (hc.symm.trans h1)
      rw [e1] at hst
      rcases x with f | f | f | f | f <;> exact absurd (show false = true from hst) (by decide)
    · obtain ⟨r, -, c9, h1, -, h3, -⟩ := h0
      have e1 := Option.some.inj (hc.symm.trans h1)
      rw [e1, h3] at hst
      exact absurd hst (by decide)
  · have := (Array.getElem?_eq_some_iff.mp hc).1
    omega
theorem va_Z.wide {C n d : String} {v : Value} {A : Nat → Prop} {s : State} (h : va_Z C n d v (fun _ => False) s s.heap) (hf : ∀ (a : Nat) (cell : Cell), s.heap[a]? = some cell → cell.vm.isStatics = true → ¬ A a) : va_Z C n d v A s s.heap := by
  obtain ⟨cf, kf, fi, f, a, cell, h1, h2, h3, h4, h5, h6, h7, -⟩ := h
  exact ⟨cf, kf, fi, f, a, cell, h1, h2, h3, h4, h5, h6, h7, hf a cell h5 h6⟩
theorem vx_Zq.wide {C n d : String} {A : Nat → Prop} {s : State} (h : vx_Zq C n d (fun _ => False) s s.heap) (hf : ∀ (a : Nat) (cell : Cell), s.heap[a]? = some cell → cell.vm.isStatics = true → ¬ A a) : vx_Zq C n d A s s.heap := by
  refine ⟨?_, ?_⟩
  · rcases h.1 with h | ⟨t, h⟩
    · exact Or.inl (h.wide hf)
    · exact Or.inr ⟨t, h.wide hf⟩
  · obtain ⟨c, k, i, f, a, cell, h1, h2, h3, h4, h5, h6, h7, h8, h9, -⟩ := h.2
    exact ⟨c, k, i, f, a, cell, h1, h2, h3, h4, h5, h6, h7, h8, h9, hf a cell h5 h6⟩
theorem zq_A {D : va_G} {ws : va_W} {s : State} {A : Nat → Prop} (hP : va_P D vwCl ws s.heap) (hAn : ∀ q, A q → (∃ (k : Nat) (e : va_E), ws[k]? = some (q, e)) ∨ s.heap.size ≤ q) (h : ZQ (fun _ => False) s s.heap) : ZQ A s s.heap :=
  ⟨h.1.wide (fun a cell hc hs => zq_free hP hAn hc hs), h.2.wide (fun a cell hc hs => zq_free hP hAn hc hs)⟩
/-- the start of a method that makes exceptions -/
def prX (KN : State → Prop) (D : va_G) (ca : Nat → ClassId) (ws : va_W) (sz : Nat) (ro : Heap → Prop) (U : State) : Prop := pr_ KN D ca ws sz ro U ∧ XS U
def wsH_ (y : MethodName) (cc : ByteArray) (L : Nat) (ret : Option FieldType) (hh : List (Nat × Nat × Nat × Nat)) : List Cond := Cond.codeWith y cc L ret hh :: lw_all
section HX
variable {l : Launch} {KN : State → Prop} {D : va_G} {ca : Nat → ClassId}
theorem k_blindX {av : List Value} {ws : va_W} {sz : Nat} {ro : Heap → Prop} (hk : KNok KN) : FrameBlind (va_Pc av (prX KN D ca ws sz ro)) := by
  intro a U g mk q
  obtain ⟨q0, q1, qx⟩ := q
  have h := k_blind (D := D) (ca := ca) (av := av) (ws := ws) (sz := sz) (ro := ro) hk a U g mk ⟨q0, q1⟩
  exact ⟨h.1, h.2, NX.same rfl qx.1, ZQ.moved (u := U) (U := U.calling g mk a) (Vm.Alike.refl U.vm) qx.2⟩
theorem k_preX {av : List Value} {s : State} {H : Heap} {A : Nat → Prop} {ws wc : va_W} {ro : Heap → Prop} (hk : KNok KN) (hK : va_K D vwCl (tysG ca) s) (hN : KN s) (hP : va_P D vwCl ws H) (hD : va_D A ws) (isC : List Nat) (hn : va_nd isC = true) (hC : isC.map (fun i => ws[i]?) = wc.map some) (hro : ro H) (hX : NX s) (hZ : ZQ A s H) :
    PreS s H (va_Pc av (prX KN D ca wc H.size ro)) av := by
  refine ⟨k_blindX hk, fun U hU hW => ?_⟩
  obtain ⟨h1, h2⟩ := (k_pre (av := av) (ro := ro) hk hK hN hP hD isC hn hC hro).2 U hU hW
  exact ⟨h1, h2, hX.moved hW, by rw [hU]; exact (hZ.moved hW.alike).narrow (fun _ h => h.elim)⟩
theorem k_preVX {b ci q0 : Nat} {fs : List Value} {wv : va_W} {q : vw_C} {As : List Value} {s : State} {H : Heap} {A : Nat → Prop} {ws wc : va_W} {ro : Heap → Prop} (hk : KNok KN) (hK : va_K D vwCl (tysG ca) s) (hN : KN s) (hP : va_P D vwCl ws H) (hD : va_D A ws) (isC : List Nat) (hn : va_nd isC = true) (hC : isC.map (fun i => ws[i]?) = wc.map some) (hro : ro H) (hX : NX s) (hZ : ZQ A s H)
    (hv : va_P D vwCl wv H) (hc : vwCl[ci]? = some q) (he : wv[q0]? = some (b, .inr (ci, fs))) : PreV s H q.1 b (va_Pc (.ref b :: As) (prX KN D ca wc H.size ro)) As :=
  ⟨(k_preX (av := .ref b :: As) hk hK hN hP hD isC hn hC hro hX hZ).1, va_recv hK hv hc he, (k_preX (av := .ref b :: As) hk hK hN hP hD isC hn hC hro hX hZ).2⟩
abbrev noX : String → State → State → Prop := fun _ _ _ => False
/-- the entry of a method with handlers -/
theorem k_ofH {y : MethodName} {cc : ByteArray} {L : Nat} {ret : Option FieldType} {hh : List (Nat × Nat × Nat × Nat)} {rm : Room} {av : List Value} {ws : va_W} {sz : Nat} {ro : Heap → Prop} {Qc : (Nat → Prop) → Array Value → State → Outcome → State → Prop} {mc ms : Nat} (hy : plainName y.cls = true) (hn : (lg_sl av).length ≤ L)
    (body : ∀ (p : Program) (e : Env) (s : State) (m : MethodId) (below : List Frame) (meth : Method) (c : Code) (ls : Array Slot) (A : Nat → Prop) (H : Heap), H = s.heap → p.tables.exec = Jvm.exec → c.code = cc → meth.sig.returnType = ret → (∀ w ∈ lw_all, w.before av.toArray s = true) → s.vm.findClass y.cls = some m.cls → meth.locks = false → meth.name = y.name → c.maxLocals = L → s.heap.size = sz →
      va_P D vwCl ws H → va_D A ws → va_K D vwCl (tysG ca) s → KN s → (∀ q, s.heap.size ≤ q → A q) → (∀ q, A q → (∃ (k : Nat) (e : va_E), ws[k]? = some (q, e)) ∨ s.heap.size ≤ q) → va_S A s.heap H [] → ro s.heap → lv_has ls L (lv_args 0 av) → NX s → ZQ A s s.heap → c.exceptionTable.toList = tableOf hh →
      W p l e rm s m av.toArray below meth c H [] 0 0 (vx_MQ below (Qc A) noX av.toArray s mc ms A) (F0 m 0 ls [])) :
    vx_Met l y (wsH_ y cc L ret hh) rm (va_Pc av (prX KN D ca ws sz ro)) (Qc (va_A ws sz)) noX mc ms (va_A ws sz) := by
  refine vx_ofWH (cc := cc) (maxL := L) (ret := ret) (hh := hh) hy rfl ?_
  intro p e s m args below meth c s₁ B hml hv
  obtain ⟨rfl, ⟨hsz, hP, hD0, hK, hN, hro⟩, hX, hZ⟩ := hv
  have hts := atoms_spec (ws := wsH_ y cc L ret hh) B.pre
  have htb := vx_table (x := y) B (hts _ List.mem_cons_self)
  have hts : ∀ w ∈ lw_all, w.before _ s = true := fun w h => hts w (List.mem_cons_of_mem _ h)
  have hown : s.vm.findClass y.cls = some m.cls := findClass_of_methodNamed B.named
  have hin : meth.name = y.name := (name_of_methodNamed B.named B.method).1
  have hl := lv_entry av (n := L) hn
  rw [lg_entry_eq]
  subst hsz
  exact body p e s m below meth c _ (va_A ws s.heap.size) s.heap rfl B.exec B.bytes B.returns hts hown B.notSynchronized hin hml rfl hP hD0.self hK hN (fun q h => Or.inr h) (fun q h => h) va_S.rf hro hl hX (zq_A hP (fun q h => h) hZ) htb
/-- the entry of a method that may throw and has no handlers -/
theorem k_ofT {y : MethodName} {cc : ByteArray} {L : Nat} {ret : Option FieldType} {rm : Room} {av : List Value} {ws : va_W} {sz : Nat} {ro : Heap → Prop} {Qc : (Nat → Prop) → Array Value → State → Outcome → State → Prop} {XC : String → State → State → Prop} {mc ms : Nat} (hy : plainName y.cls = true) (hn : (lg_sl av).length ≤ L)
    (body : ∀ (p : Program) (e : Env) (s : State) (m : MethodId) (below : List Frame) (meth : Method) (c : Code) (ls : Array Slot) (A : Nat → Prop) (H : Heap), H = s.heap → p.tables.exec = Jvm.exec → c.code = cc → meth.sig.returnType = ret → (∀ w ∈ lw_all, w.before av.toArray s = true) → s.vm.findClass y.cls = some m.cls → meth.locks = false → meth.name = y.name → c.maxLocals = L → s.heap.size = sz →
      va_P D vwCl ws H → va_D A ws → va_K D vwCl (tysG ca) s → KN s → (∀ q, s.heap.size ≤ q → A q) → (∀ q, A q → (∃ (k : Nat) (e : va_E), ws[k]? = some (q, e)) ∨ s.heap.size ≤ q) → va_S A s.heap H [] → ro s.heap → lv_has ls L (lv_args 0 av) → NX s → ZQ A s s.heap → (∀ x ∈ c.exceptionTable.toList, False) →
      W p l e rm s m av.toArray below meth c H [] 0 0 (vx_MQ below (Qc A) XC av.toArray s mc ms A) (F0 m 0 ls [])) :
    vx_Met l y (ws_ y cc L ret) rm (va_Pc av (prX KN D ca ws sz ro)) (Qc (va_A ws sz)) XC mc ms (va_A ws sz) := by
  refine vx_ofW (cc := cc) (maxL := L) (ret := ret) hy rfl ?_
  intro p e s m args below meth c s₁ B hml htb hv
  obtain ⟨rfl, ⟨hsz, hP, hD0, hK, hN, hro⟩, hX, hZ⟩ := hv
  have hts := atoms_spec (ws := ws_ y cc L ret) B.pre
  have hts : ∀ w ∈ lw_all, w.before _ s = true := fun w h => hts w (List.mem_cons_of_mem _ h)
  have hown : s.vm.findClass y.cls = some m.cls := findClass_of_methodNamed B.named
  have hin : meth.name = y.name := (name_of_methodNamed B.named B.method).1
  have hl := lv_entry av (n := L) hn
  rw [lg_entry_eq]
  subst hsz
  exact body p e s m below meth c _ (va_A ws s.heap.size) s.heap rfl B.exec B.bytes B.returns hts hown B.notSynchronized hin hml rfl hP hD0.self hK hN (fun q h => Or.inr h) (fun q h => h) va_S.rf hro hl hX (zq_A hP (fun q h => h) hZ) htb
end HX
