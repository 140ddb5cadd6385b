section NTN
variable {p : Program} {l : Launch} {e : Env} {R : Room} {s : State} {m : MethodId} {args : Array Value} {below : List Frame} {meth : Method} {c : Code} {H : Heap} {locs : List Loc} {cells slots : Nat}
/-- from a native's note over the frame g to its exception over both frames: k cells, n slots are made -/
def nt_Note (p : Program) (l : Launch) (e : Env) (R : Room) (s : State) (m : MethodId) (args : Array Value) (below : List Frame) (meth : Method) (c : Code) (H : Heap) (locs : List Loc) (cells slots : Nat) (g : JFrame) (E : String) (msg : Option String) (k n : Nat) : Prop :=
  ∀ (T : State) (nf : NFrame), T.heap = H → nf.words = 0 → Stand p l e R s m args below meth c T locs cells slots → ∃ (S : State) (q : Addr) (ce : Cell),
    Steps p.tables e below (T.setFrames (.throwNew E msg none :: .native nf :: .java g :: below)) (S.setFrames (.throwing q :: .native nf :: .java g :: below)) ∧
    Stand p l e R s m args below meth c S locs (cells + k) (slots + n) ∧ H.size ≤ S.heap.size ∧ (∀ a : Nat, a < H.size → S.heap[a]? = H[a]?) ∧ S.heap[q]? = some ce ∧ ce.vm = .none ∧ s.vm.findClass E = some ce.cls
variable {A : Nat → Prop} {pc : Nat} {ls : Array Slot} {rest : List Value}
theorem nt_noteN (hexec : p.tables.exec = Jvm.exec) (hl : l.stackTraces = false) {nb : Nat} (hat : ∀ w ∈ vx_atN nb, w.before args s = true) (hgood : ∀ w ∈ vx_atN nb, vx_ot w = true)
    (hU : vx_Zq Bundle.tN "UNASSIGNED_STACK" Bundle.steD A s s.heap) (hN : vx_Zq Bundle.tN "SUPPRESSED_SENTINEL" Bundle.listD A s s.heap) (hS : va_S A s.heap H locs) (hsize : ls.size = c.maxLocals)
    (hRframes : 8 < R.frames) (hRlocals : (rest.map fun v => v.category).sum + 10240 ≤ R.locals) (hRcells : cells + 1 ≤ R.cells) (hRslots : slots + nb ≤ R.slots) :
    nt_Note p l e R s m args below meth c H locs cells slots (F0 m pc ls rest) "java/lang/NullPointerException" none 1 nb := by
  intro T nf hT hnf X
  have htr : e.platform.stackTraces = false := (show e.platform.stackTraces = l.stackTraces by rw [X.admits.platform]).trans hl
  have Y := vx_rebase X (R' := { frames := R.frames, locals := R.locals, cells := 1, slots := nb }) (Nat.le_refl _) (Nat.le_refl _) hRcells hRslots
  have hhp : ((T.setVm s.vm).setFrames (.invoking m args :: below)).heap = H := hT
  have hW0 : s.WarmedH ((T.setVm s.vm).setFrames (.invoking m args :: below)).vm := State.WarmedH.refl s
  have hat' : ∀ w ∈ vx_atN nb, w.before args ((T.setVm s.vm).setFrames (.invoking m args :: below)) = true := fun w hw => vx_ot_at hW0 rfl (hgood w hw) (hat w hw)
  have hU' : vx_Zq Bundle.tN "UNASSIGNED_STACK" Bundle.steD A ((T.setVm s.vm).setFrames (.invoking m args :: below)) ((T.setVm s.vm).setFrames (.invoking m args :: below)).heap := by rw [hhp]; exact vx_Zq.moved hW0.alike (hU.kept hS.2.1)
  have hN' : vx_Zq Bundle.tN "SUPPRESSED_SENTINEL" Bundle.listD A ((T.setVm s.vm).setFrames (.invoking m args :: below)) ((T.setVm s.vm).setFrames (.invoking m args :: below)).heap := by rw [hhp]; exact vx_Zq.moved hW0.alike (hN.kept hS.2.1)
  obtain ⟨S, q, ce, st, Z, hce, hcl', hv⟩ := nt_npeAt Y hexec htr (n := nb) (vx_own hat' (vx_isRefq hU'.1) (vx_isRefq hN'.1) hU'.2.word hN'.2.word) (fun x hx => nomatch hx)
    (g := F0 m pc ls rest) hsize hnf hRframes (by show 2 * 0 + (rest.map fun v => v.category).sum + 10240 ≤ R.locals; omega) (by show 0 + 1 ≤ 1; omega) (by show 0 + nb ≤ nb; omega)
  obtain ⟨f1, f2⟩ := vx_frame Z.same
  have X5 := vx_back9 X Y Z
  rw [Nat.zero_add, Nat.zero_add] at X5
  exact ⟨S, q, ce, st, X5, by rw [← hT]; exact f1, fun a ha => by rw [← hT]; exact f2 a (by rw [← hT] at ha; exact ha) (fun z hz => nomatch hz), hce, hv, hcl'⟩
/-- the words of a native's plain exception, but the four that speak of the heap -/
def nt_at0 (X : String) (names : List String) : List Cond := (nt_pA X names).filter vx_no
theorem nt_note0 (hexec : p.tables.exec = Jvm.exec) (hl : l.stackTraces = false) {cls : String} {names : List String}
    (hcls : Bundle.fit cls = true) (hnames : ∀ n ∈ names, Bundle.fit n = true) (hsoe : (cls == "java/lang/StackOverflowError") = false) (hoom : (cls == "java/lang/OutOfMemoryError") = false)
    (hat : ∀ w ∈ nt_at0 cls names, w.before args s = true) (hgood : ∀ w ∈ nt_at0 cls names, vx_ot w = true)
    (hU : vx_Zq Bundle.tN "UNASSIGNED_STACK" Bundle.steD A s s.heap) (hN : vx_Zq Bundle.tN "SUPPRESSED_SENTINEL" Bundle.listD A s s.heap) (hS : va_S A s.heap H locs) (hsize : ls.size = c.maxLocals)
    (hRframes : names.length + 5 < R.frames) (hRlocals : (rest.map fun v => v.category).sum + 10240 ≤ R.locals) (hshort : 13 * names.length + 55 ≤ 10240) (hRcells : cells + 1 ≤ R.cells) (hRslots : slots + 6 ≤ R.slots) :
    nt_Note p l e R s m args below meth c H locs cells slots (F0 m pc ls rest) cls none 1 6 := by
  intro T nf hT hnf X
  have htr : e.platform.stackTraces = false := (show e.platform.stackTraces = l.stackTraces by rw [X.admits.platform]).trans hl
  have Y := vx_rebase X (R' := { frames := R.frames, locals := R.locals, cells := 1, slots := 6 }) (Nat.le_refl _) (Nat.le_refl _) hRcells hRslots
  have hhp : ((T.setVm s.vm).setFrames (.invoking m args :: below)).heap = H := hT
  have hW0 : s.WarmedH ((T.setVm s.vm).setFrames (.invoking m args :: below)).vm := State.WarmedH.refl s
  have hat' : ∀ w ∈ nt_at0 cls names, w.before args ((T.setVm s.vm).setFrames (.invoking m args :: below)) = true := fun w hw => vx_ot_at hW0 rfl (hgood w hw) (hat w hw)
  have hU' : vx_Zq Bundle.tN "UNASSIGNED_STACK" Bundle.steD A ((T.setVm s.vm).setFrames (.invoking m args :: below)) ((T.setVm s.vm).setFrames (.invoking m args :: below)).heap := by rw [hhp]; exact vx_Zq.moved hW0.alike (hU.kept hS.2.1)
  have hN' : vx_Zq Bundle.tN "SUPPRESSED_SENTINEL" Bundle.listD A ((T.setVm s.vm).setFrames (.invoking m args :: below)) ((T.setVm s.vm).setFrames (.invoking m args :: below)).heap := by rw [hhp]; exact vx_Zq.moved hW0.alike (hN.kept hS.2.1)
  obtain ⟨S, q, ce, st, Z, hce, hcl', hv⟩ := nt_plainAt Y hexec htr (cls := cls) (names := names) hcls hnames hsoe hoom (vx_own hat' (vx_isRefq hU'.1) (vx_isRefq hN'.1) hU'.2.word hN'.2.word) (fun x hx => nomatch hx)
    (g := F0 m pc ls rest) hsize hnf hRframes (by show 2 * 0 + (rest.map fun v => v.category).sum + 10240 ≤ R.locals; omega) hshort (by show 0 + 1 ≤ 1; omega) (by show 0 + 6 ≤ 6; omega)
  obtain ⟨f1, f2⟩ := vx_frame Z.same
  have X5 := vx_back9 X Y Z
  rw [Nat.zero_add, Nat.zero_add] at X5
  exact ⟨S, q, ce, st, X5, by rw [← hT]; exact f1, fun a ha => by rw [← hT]; exact f2 a (by rw [← hT] at ha; exact ha) (fun z hz => nomatch hz), hce, hv, hcl'⟩
theorem nt_noteM (hexec : p.tables.exec = Jvm.exec) (hl : l.stackTraces = false) {cls text : String} {names : List String} {nb : Nat}
    (hcls : Bundle.fit cls = true) (hnames : ∀ n ∈ names, Bundle.fit n = true) (hsoe : (cls == "java/lang/StackOverflowError") = false) (hoom : (cls == "java/lang/OutOfMemoryError") = false)
    (hat : ∀ w ∈ vx_atM cls names, w.before args s = true) (hgood : ∀ w ∈ vx_atM cls names, vx_ot w = true)
    (hU : vx_Zq Bundle.tN "UNASSIGNED_STACK" Bundle.steD A s s.heap) (hN : vx_Zq Bundle.tN "SUPPRESSED_SENTINEL" Bundle.listD A s s.heap) (hS : va_S A s.heap H locs) (hsize : ls.size = c.maxLocals)
    (htext : (text == notModelled) = false) (hnb : (stringBytes (stringToUtf16 text)).size ≤ nb) (hnb1 : nb ≤ 1000)
    (hRframes : names.length + 5 < R.frames) (hRlocals : (rest.map fun v => v.category).sum + 10240 ≤ R.locals) (hshort : 13 * names.length + 55 ≤ 10240) (hRcells : cells + 3 ≤ R.cells) (hRslots : slots + (nb + 10) ≤ R.slots) :
    nt_Note p l e R s m args below meth c H locs cells slots (F0 m pc ls rest) cls (some text) 3 (nb + 10) := by
  intro T nf hT hnf X
  have htr : e.platform.stackTraces = false := (show e.platform.stackTraces = l.stackTraces by rw [X.admits.platform]).trans hl
  have Y := vx_rebase X (R' := { frames := R.frames, locals := R.locals, cells := 3, slots := nb + 10 }) (Nat.le_refl _) (Nat.le_refl _) hRcells hRslots
  have hhp : ((T.setVm s.vm).setFrames (.invoking m args :: below)).heap = H := hT
  have hW0 : s.WarmedH ((T.setVm s.vm).setFrames (.invoking m args :: below)).vm := State.WarmedH.refl s
  have hat' : ∀ w ∈ vx_atM cls names, w.before args ((T.setVm s.vm).setFrames (.invoking m args :: below)) = true := fun w hw => vx_ot_at hW0 rfl (hgood w hw) (hat w hw)
  have hU' : vx_Zq Bundle.tN "UNASSIGNED_STACK" Bundle.steD A ((T.setVm s.vm).setFrames (.invoking m args :: below)) ((T.setVm s.vm).setFrames (.invoking m args :: below)).heap := by rw [hhp]; exact vx_Zq.moved hW0.alike (hU.kept hS.2.1)
  have hN' : vx_Zq Bundle.tN "SUPPRESSED_SENTINEL" Bundle.listD A ((T.setVm s.vm).setFrames (.invoking m args :: below)) ((T.setVm s.vm).setFrames (.invoking m args :: below)).heap := by rw [hhp]; exact vx_Zq.moved hW0.alike (hN.kept hS.2.1)
  obtain ⟨S, q, ce, st, Z, hce, hcl', hv⟩ := nt_msgAt Y hexec htr (cls := cls) (names := names) (text := text) hcls hnames hsoe hoom (vx_own hat' (vx_isRefq hU'.1) (vx_isRefq hN'.1) hU'.2.word hN'.2.word) (fun x hx => nomatch hx) htext
    (by rw [Launch.admits_arrayLengthLimit X.admits]; omega) (by rw [Launch.admits_maxHeapBytes X.admits]; simp only [componentBytes]; omega)
    (g := F0 m pc ls rest) hsize hnf hRframes (by show 2 * 0 + (rest.map fun v => v.category).sum + 10240 ≤ R.locals; omega) hshort (by show 0 + 3 ≤ 3; omega) (by show 0 + (_ + 4 + 6) ≤ nb + 10; omega)
  obtain ⟨f1, f2⟩ := vx_frame Z.same
  have X5 := vx_back9 X Y Z
  have X6 : Stand p l e R s m args below meth c S locs (cells + 3) (slots + (nb + 10)) := { X5 with same := X5.same.mono (by omega) (by omega) }
  exact ⟨S, q, ce, st, X6, by rw [← hT]; exact f1, fun a ha => by rw [← hT]; exact f2 a (by rw [← hT] at ha; exact ha) (fun z hz => nomatch hz), hce, hv, hcl'⟩
/-- a static native that throws: from the call to the exception over the caller's frame -/
theorem nt_call {Q : State → Prop} {cc : ByteArray} (hexec : p.tables.exec = Jvm.exec) (hb : c.code = cc) (hml : c.maxLocals = ls.size) {own : String} {index : Nat} {y : MethodName} {ps : List FieldType} {ret : Option FieldType} {row : NativeRow} {E : String} {msg : Option String} {k n words : Nat} {As : List Value}
    (hown : s.vm.findClass own = some m.cls) (hlink : (Cond.methodLink own index y).before args s = true) (hnat : (Cond.native y).before args s = true) (hstat : (Cond.static y).before args s = true) (hini : (Cond.initialized y.cls).before args s = true)
    (hdesc : parseMethodDescriptor y.desc = some { parameters := ps, returnType := ret }) (hrow : NativeRow.find? p.tables.natives y.cls y.name y.desc = some row) (hy : y.cls ≠ "java/lang/invoke/MethodHandle" ∧ y.cls ≠ "java/lang/invoke/VarHandle") (hlen : As.length = ps.length) (hwords : operandWords As = words)
    (hseen : ∀ x : Method, x.isStatic = true → x.sig.parameters = ps → seenByNative x As.toArray = As.toArray)
    (hsem : ∀ (U : State) (fs : List Frame) (P : CtlPost), U.heap = H → s.vm.Alike U.vm → (∀ acts', P (.throwNew E msg) acts' (U.setFrames fs)) → wp (row.sem As.toArray) (fun _ _ _ _ => False) P e false [] (U.setFrames fs))
    (hdg : decode cc pc = .ok (.invokestatic index, 3)) (hframes : 1 ≤ R.frames) (hlocals : (rest.map fun v => v.category).sum + (nativeFrameWords y.cls y.name words + 11) ≤ R.locals)
    (hnote : nt_Note p l e R s m args below meth c H locs cells slots (F0 m pc ls rest) E msg k n)
    (kk : ∀ (H1 : Heap) (q9 : Addr) (ce : Cell), H.size ≤ H1.size → (∀ q : Nat, q < H.size → H1[q]? = H[q]?) → H1[q9]? = some ce → ce.vm = .none → s.vm.findClass E = some ce.cls → vx_W p l e R s m args below meth c H1 locs (cells + k) (slots + n) Q (F0 m pc ls rest) q9) :
    W p l e R s m args below meth c H locs cells slots Q (F0 m pc ls (As.reverse ++ rest)) := by
  intro T hT X
  obtain ⟨r, kS, methS, hnS, hmS, hkS, N⟩ := NativeOf.of_static hnat hstat hdesc
  have hinitS : kS.init = .initialized := Cond.initialized_spec (findClass_of_methodNamed hnS) hkS hini
  obtain ⟨vm', X', step⟩ := X.invokestatic hexec hown hlink hnS hmS N.static hkS hinitS hy (g := F0 m pc ls (As.reverse ++ rest)) rfl (argsL := As) (rest := rest) (by rw [N.sig]; exact hlen) rfl (by rw [hb]; exact hdg)
  obtain ⟨k', N'⟩ := N.alike X'.warmed.alike
  obtain ⟨S, q, ce, st, XS, f1, f2, hce, hv, hcl⟩ := hnote (T.setVm vm') { method := r, args := As.toArray, locked := none } hT rfl X'
  obtain ⟨t, a1, b1⟩ := kk S.heap q ce f1 f2 hce hv hcl S rfl XS
  refine ⟨t, step t fun acts => ?_, b1⟩
  rw [doInvoke_state]
  refine Steps.trans ?_ a1
  obtain ⟨g₀, hfr⟩ := X'.frames_eq
  obtain ⟨g₁, hfrB⟩ := XS.frames_eq
  have hU : ((T.setVm vm').setTop (F0 m pc ls rest)).pushFrame (.native { method := r, args := seenByNative methS As.toArray, locked := none }) = (T.setVm vm').setFrames (.native { method := r, args := seenByNative methS As.toArray, locked := none } :: .java (F0 m pc ls rest) :: below) := by
    rw [State.pushFrame, State.frames_setTop _ hfr, State.setTop_of_frames _ hfr, State.setFrames_setFrames]
  have hcurT : (T.setVm vm').cur < (T.setVm vm').threads.size := State.cur_lt_of_frames hfr
  have hs9 := hseen methS N.static N.sig
  refine Steps.nativeThrowsNote (row := row) (cls := E) (msg := msg) (T := fun U => U) (g := F0 m pc ls rest) X'.here [] N'.cls N'.meth N'.boot N'.native N'.noCode N'.noLock
    (by rw [N'.className, N'.name, N'.desc]; exact hrow)
    (by rw [N'.className, N'.name]; show e.platform.stackFull _ _ (nativeFrameWords y.cls y.name (operandWords As.toArray.toList)) = false; rw [hwords]; exact X'.notFull (g := F0 m pc ls rest) hml.symm hframes (by show 2 * 0 + (rest.map fun v => v.category).sum + _ ≤ _; omega)) ?_ ?_
  · intro P hP
    rw [hU] at hP ⊢
    rw [hs9] at hP ⊢
    exact hsem _ _ P hT X'.warmed.alike hP
  · rw [hU, hs9, State.pushFrame, State.frames_setFrames _ hcurT, State.setFrames_setFrames]
    refine st.trans ?_
    refine Steps.throwingLeavesNative ⟨XS.here.running, XS.here.runnable, XS.here.alone⟩ (State.cur_lt_of_frames hfrB) ⟨[.java (F0 m pc ls rest)], rfl⟩ rfl rfl ?_
    have hV : (S.setTop (F0 m pc ls rest)).pushFrame (.throwing q) = S.setFrames (.throwing q :: .java (F0 m pc ls rest) :: below) := by
      rw [State.pushFrame, State.frames_setTop _ hfrB, State.setTop_of_frames _ hfrB, State.setFrames_setFrames]
    rw [hV]
    exact Steps.refl _
end NTN
section NTK
variable {p : Program} {l : Launch} {e : Env} {R : Room} {s : State} {m : MethodId} {args : Array Value} {below : List Frame} {meth : Method} {c : Code} {H : Heap} {locs : List Loc} {cells slots : Nat} {Q : State → Prop}
variable {cc : ByteArray} {pc : Nat} {ls : Array Slot} {rest : List Value} {D : va_G} {cl : List vw_C} {a : Nat} {tys : List (ClassId × FieldType)} {ws : va_W} {own : String} {index : Nat}
/-- a static native that answers w and changes nothing -/
theorem nt_back {y : MethodName} {W9 : Nat} {Pre : Pt → Array Value → Prop} {Post : Pt → Array Value → Option Value → Pt → Prop} {As : List Value} {w : Value} {ps : List FieldType} {ret : Option FieldType} (hexec : p.tables.exec = Jvm.exec) (hb : c.code = cc) (hml : c.maxLocals = ls.size)
    (hown : s.vm.findClass own = some m.cls) (hlink : (Cond.methodLink own index y).before args s = true) (hnat : (Cond.native y).before args s = true) (hstat : (Cond.static y).before args s = true) (hini : (Cond.initialized y.cls).before args s = true)
    (hdesc : parseMethodDescriptor y.desc = some { parameters := ps, returnType := ret }) (hy : y.cls ≠ "java/lang/invoke/MethodHandle" ∧ y.cls ≠ "java/lang/invoke/VarHandle") (hlen : As.length = ps.length) (hB : Back l R p e below s args y 3 W9 Pre Post) (hW : (rest.map fun v => v.category).sum ≤ W9)
    (hpre : ∀ U : State, U.heap = H → s.vm.Alike U.vm → Pre ⟨U, locs, cells, slots⟩ As.toArray) (hpost : ∀ (U : State) (v : Option Value) (B : Pt), U.heap = H → s.vm.Alike U.vm → Post ⟨U, locs, cells, slots⟩ As.toArray v B → B = ⟨U, locs, cells, slots⟩ ∧ v = some w)
    (hdg : decode cc pc = .ok (.invokestatic index, 3)) (kk : W p l e R s m args below meth c H locs cells slots Q (F0 m (pc + 3) ls (w :: rest))) : W p l e R s m args below meth c H locs cells slots Q (F0 m pc ls (As.reverse ++ rest)) := by
  intro T hT X
  obtain ⟨r, kS, methS, hnS, hmS, hkS, N⟩ := NativeOf.of_static hnat hstat hdesc
  have hinitS : kS.init = .initialized := Cond.initialized_spec (findClass_of_methodNamed hnS) hkS hini
  obtain ⟨vm', X', step⟩ := X.invokestatic hexec hown hlink hnS hmS N.static hkS hinitS hy (g := F0 m pc ls (As.reverse ++ rest)) rfl (argsL := As) (rest := rest) (by rw [N.sig]; exact hlen) rfl (by rw [hb]; exact hdg)
  obtain ⟨v, B, XB, hp, st⟩ := hB m meth c ⟨T.setVm vm', locs, cells, slots⟩ (F0 m pc ls rest) (.invokestatic index) r As.toArray X' rfl hml.symm (by rw [hb]; exact hdg) (by show 2 * 0 + (rest.map fun v => v.category).sum ≤ W9; omega) (X'.named hnS) (hpre _ hT X'.warmed.alike)
  obtain ⟨rfl, rfl⟩ := hpost (T.setVm vm') v B hT X'.warmed.alike hp
  obtain ⟨t, a1, b1⟩ := kk (T.setVm vm') hT X'
  refine ⟨t, step t fun acts => ?_, b1⟩
  rw [doInvoke_state]
  exact st.trans a1
theorem nt_len (hexec : p.tables.exec = Jvm.exec) (hb : c.code = cc) (hml : c.maxLocals = ls.size) (hown : s.vm.findClass own = some m.cls) (hlink : (Cond.methodLink own index NT.getLengthN).before args s = true) (hnat : (Cond.native NT.getLengthN).before args s = true) (hstat : (Cond.static NT.getLengthN).before args s = true) (hini : (Cond.initialized "java/lang/reflect/Array").before args s = true)
    (hK : va_K D cl tys s) (hP : va_P D cl ws H) (q0 t0 : Nat) {cA : ClassId} {n : Nat} {x : (Nat → Int32) ⊕ (Nat → Int64) ⊕ (Nat → UInt32) ⊕ (Nat → UInt64) ⊕ (Nat → Option Nat)} {ty : FieldType} (ha : ws[q0]? = some (a, .inl (cA, n, x))) (ht : tys[t0]? = some (cA, ty)) {v : Int32} (hv : n.toInt32 = v)
    (hframes : 1 ≤ R.frames) (hlocals : (rest.map fun v => v.category).sum + 14 ≤ R.locals) (hdg : decode cc pc = .ok (.invokestatic index, 3)) (kk : W p l e R s m args below meth c H locs cells slots Q (F0 m (pc + 3) ls (.int v :: rest))) : W p l e R s m args below meth c H locs cells slots Q (F0 m pc ls (.ref a :: rest)) := by
  have hc : H[a]? = some (vp_cell cA (n, x)) := hP q0 _ ha
  have hsz : (vp_cell cA (n, x)).slots.size = n := by
    rcases x with f | f | f | f | f <;> exact arrV_size _ _ _
  have hst : (vp_cell cA (n, x)).vm.isStatics = false := by
    rcases x with f | f | f | f | f <;> rfl
  obtain ⟨-, k0, hk0, cm0, hkk0⟩ := (hK.2 t0 _ ht).1 n (fun j => .null)
  have hk0 : s.vm.classes[cA]? = some k0 := hk0
  have hmk : ∀ U : State, U.heap = H → s.vm.Alike U.vm → NT.GetLength.P (a, vp_cell cA (n, x)) #[.ref a] U := fun U hU hal => by
    obtain ⟨k', hk', he⟩ := hal.2.2 _ _ hk0
    exact ⟨rfl, by rw [hU]; exact hc, hst, k', by rw [vp_cell_cls]; exact hk', by rw [he]; simp [Class.isArray, hkk0]⟩
  exact nt_back (As := [.ref a]) (w := .int v) (ps := [.object "java/lang/Object"]) (ret := some .int) hexec hb hml hown hlink hnat hstat hini (by decide +kernel) (by decide) rfl (NT.GetLength.pays hnat hstat hframes hlocals) (Nat.le_refl _)
    (fun U hU hal => ⟨_, hmk U hU hal⟩) (fun U v' B hU hal ⟨h1, h2⟩ => ⟨h1, by rw [h2 _ (hmk U hU hal)]; show some (Value.int (vp_cell cA (n, x)).slots.size.toInt32) = _; rw [hsz, hv]⟩) hdg kk
theorem nt_get (hexec : p.tables.exec = Jvm.exec) (hb : c.code = cc) (hml : c.maxLocals = ls.size) (hown : s.vm.findClass own = some m.cls) (hlink : (Cond.methodLink own index NT.getLongN).before args s = true) (hnat : (Cond.native NT.getLongN).before args s = true) (hstat : (Cond.static NT.getLongN).before args s = true) (hini : (Cond.initialized "java/lang/reflect/Array").before args s = true)
    (hK : va_K D cl tys s) (hP : va_P D cl ws H) (q0 t0 : Nat) {cA : ClassId} {n : Nat} {x : (Nat → Int32) ⊕ (Nat → Int64) ⊕ (Nat → UInt32) ⊕ (Nat → UInt64) ⊕ (Nat → Option Nat)} {ty : FieldType} (ha : ws[q0]? = some (a, .inl (cA, n, x))) (ht : tys[t0]? = some (cA, ty)) {i : Int32} {w : Int64} {v : Value} (hi : ¬ i < 0) (hlt : i.toNatClampNeg < n) (href : Native.java_lang_reflect_Array.elements.isReference ty = false) (hfl : (ty == FieldType.float && FieldType.long == FieldType.double) = false)
    (hv : (vp_cell cA (n, x)).slots[i.toNatClampNeg]? = some v) (hw : Native.java_lang_reflect_Array.elements.widen ty .long v = some (.long w))
    (hframes : 1 ≤ R.frames) (hlocals : (rest.map fun v => v.category).sum + 15 ≤ R.locals) (hdg : decode cc pc = .ok (.invokestatic index, 3)) (kk : W p l e R s m args below meth c H locs cells slots Q (F0 m (pc + 3) ls (.long w :: rest))) : W p l e R s m args below meth c H locs cells slots Q (F0 m pc ls (.int i :: .ref a :: rest)) := by
  have hc : H[a]? = some (vp_cell cA (n, x)) := hP q0 _ ha
  have hsz : (vp_cell cA (n, x)).slots.size = n := by
    rcases x with f | f | f | f | f <;> exact arrV_size _ _ _
  have hst : (vp_cell cA (n, x)).vm.isStatics = false := by
    rcases x with f | f | f | f | f <;> rfl
  have hun : (vp_cell cA (n, x)).vm ≠ .unknown := by
    rcases x with f | f | f | f | f <;> exact fun h => by cases h
  obtain ⟨-, k0, hk0, cm0, hkk0⟩ := (hK.2 t0 _ ht).1 n (fun j => .null)
  have hk0 : s.vm.classes[cA]? = some k0 := hk0
  have hmk : ∀ U : State, U.heap = H → s.vm.Alike U.vm → NT.GetX.P .long ⟨a, vp_cell cA (n, x), i, .long w⟩ #[.ref a, .int i] U := fun U hU hal => by
    obtain ⟨k', hk', he⟩ := hal.2.2 _ _ hk0
    exact ⟨rfl, by rw [hU]; exact hc, hst, hun, hi, by show _ < (vp_cell cA (n, x)).slots.size; rw [hsz]; exact hlt, k', cm0, ty, v, by show U.vm.classes[(vp_cell cA (n, x)).cls]? = _; rw [vp_cell_cls]; exact hk', by rw [he]; exact hkk0, href, hv, hw, hfl⟩
  exact nt_back (As := [.ref a, .int i]) (w := .long w) (ps := [.object "java/lang/Object", .int]) (ret := some .long) hexec hb hml hown hlink hnat hstat hini (by decide +kernel) (by decide) rfl (NT.GetLong.pays hnat hstat hframes hlocals) (Nat.le_refl _)
    (fun U hU hal => ⟨_, hmk U hU hal⟩) (fun U v' B hU hal ⟨h1, h2⟩ => ⟨h1, by rw [h2 _ (hmk U hU hal)]⟩) hdg kk
end NTK
