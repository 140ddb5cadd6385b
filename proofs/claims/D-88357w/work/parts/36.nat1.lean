/-! EXCEPTIONS OUT OF NATIVES, without a message, no traces kept: the note over a native's frame. The library has this for messages (Stand.nativeThrowsMessageColdBareV); its laws for the plain ones (Shelf42/NT21, NT26, NT34, NT46) aren't reached by the kit's imports: their road is followed here for launches without traces -/
section NTP
variable {below base : List Frame} {self : Addr}
theorem nt_in {W : State} (hW : Over W base below) (a : Addr) {m : MethodId} {meth : Method} {code : Code} (hm : W.vm.method? m = some meth) (hc : meth.code = some code) (hp : W.plainMethod m) :
    (W.setFrames (.thenThrow a :: base)).frames = .thenThrow a :: base ∧ At ((W.setFrames (.thenThrow a :: base)).pushFrame (.java (pass0J m a 0 []))) m code below ∧ ((W.setFrames (.thenThrow a :: base)).pushFrame (.java (pass0J m a 0 []))).frames = .java (pass0J m a 0 []) :: .thenThrow a :: base := by
  obtain ⟨mid, hmid⟩ := hW.above
  have f1 : (W.setFrames (.thenThrow a :: base)).frames = .thenThrow a :: base := State.frames_setFrames _ hW.cur
  have f2 := State.cur_lt_of_frames f1
  refine ⟨f1, At.pushOn _ ⟨hW.running, by simpa using hW.runnable, by simpa using hW.alone⟩ f2 ⟨.thenThrow a :: mid, by rw [f1, hmid]; rfl⟩ hm hc hp, ?_⟩
  exact (State.frames_setFrames _ f2).trans (by rw [f1])
theorem nt_start {tb : Tables} {e : Env} {s target : State} (h : Over s base below) {cls : String} {cX : ClassId} {kX : Class} {i : Nat} (hsoe : (cls == "java/lang/StackOverflowError") = false) (hoom : (cls == "java/lang/OutOfMemoryError") = false)
    (hfound : s.vm.findClass cls = some cX) (hk : s.vm.classes[cX]? = some kX) (hinit : kX.init = .initialized) (hord : kX.kind = .ordinary) (hhot : e.platform.hotImplicitExceptions = false)
    (hbeyond : e.platform.stackBeyond ((((s.setFrames (.throwNew cls none none :: base)).threads[s.cur]?).map (·.stackBytes)).getD 0) (s.setFrames (.throwNew cls none none :: base)).frames = false)
    (hfree : e.platform.vmThrowRoom ≤ e.platform.stackFree ((((s.setFrames (.throwNew cls none none :: base)).threads[s.cur]?).map (·.stackBytes)).getD 0) (s.setFrames (.throwNew cls none none :: base)).frames)
    (hctor : kX.findMethod "<init>" "()V" = some i) (hcells : s.heap.size + 1 ≤ e.platform.maxCells) (hslots : s.slotsUsed + kX.instanceTypes.size ≤ e.platform.maxSlots)
    (hrest : Steps tb e below (doInvoke e ((s.pushCell (freshCell cX kX)).setFrames (.thenThrow s.heap.size :: base)) [] ⟨cX, i⟩ #[.ref s.heap.size]).1 target) : Steps tb e below (s.setFrames (.throwNew cls none none :: base)) target := by
  obtain ⟨mid, hmid⟩ := h.above
  have f0 : (s.setFrames (.throwNew cls none none :: base)).frames = .throwNew cls none none :: base := State.frames_setFrames _ h.cur
  refine Steps.head ⟨h.running, by simpa using h.runnable, by simpa using h.alone⟩ ⟨.throwNew cls none none :: mid, by rw [f0, hmid]; rfl, by simp, by simp⟩ ?_
  rw [stepThread_throwNew f0, stepThrowNew_plain (s := s.setFrames (.throwNew cls none none :: base)) (c := cX) (k := kX) (i := i) hsoe hoom hfound hk hinit hord hhot hbeyond hfree hctor hcells hslots]
  rw [State.pushCell_setFrames, State.setFrames_setFrames]
  exact hrest
theorem nt_ret {tb : Tables} [Ours tb] {e : Env} {W target : State} (hW : Over W base below) (hexec : tb.exec = Jvm.exec) {H : State → State} (hH : HeapOnly H) (a : Addr) {m : MethodId} {meth : Method} {code : Code}
    (hm : W.vm.method? m = some meth) (hc : meth.code = some code) (hp : W.plainMethod m) (hl : meth.locks = false) (h5 : decode code.code 4 = .ok (.return_, 1)) (hrest : Steps tb e below ((H W).setFrames (.throwing a :: base)) target) :
    Steps tb e below ((H ((W.setFrames (.thenThrow a :: base)).pushFrame (.java (pass0J m a 0 [])))).setTop (pass0J m a 4 [])) target := by
  obtain ⟨f1, hI, f2⟩ := nt_in hW a hm hc hp
  obtain ⟨mid, hmid⟩ := hW.above
  have hB := hH.at_ hI
  jvm_step hB [hexec, h5, return_.wp_sem]
  intro acts2
  have f3 : (H ((W.setFrames (.thenThrow a :: base)).pushFrame (.java (pass0J m a 0 [])))).frames = .java (pass0J m a 0 []) :: .thenThrow a :: base := by rw [hH.frames]; exact f2
  rw [ret_to (f := pass0J m a 4 []) (f₀ := pass0J m a 0 []) (below := .thenThrow a :: base) (fs := .thenThrow a :: base) (meth := meth) f3 (by rw [hH.vm]; exact hm) hl rfl rfl rfl acts2]
  have f4 : ((H ((W.setFrames (.thenThrow a :: base)).pushFrame (.java (pass0J m a 0 [])))).setFrames (.thenThrow a :: base)).frames = .thenThrow a :: base := State.frames_setFrames _ (State.cur_lt_of_frames f3)
  refine Steps.head ⟨hB.running, by simpa using hB.runnable, by simpa using hB.alone⟩ ⟨.thenThrow a :: mid, by rw [f4, hmid]; rfl, by simp, by simp⟩ ?_
  rw [stepThread_thenThrow f4]
  show Steps tb e below (((H ((W.setFrames (.thenThrow a :: base)).pushFrame (.java (pass0J m a 0 [])))).setFrames (.thenThrow a :: base)).setFrames (.throwing a :: base)) target
  rw [State.pushFrame, hH.setFrames, hH.setFrames, State.setFrames_setFrames, State.setFrames_setFrames, State.setFrames_setFrames]
  exact hrest
theorem nt_ctor {tb : Tables} [Ours tb] {e : Env} {s₀ W : State} (hW : Over W base below) (hexec : tb.exec = Jvm.exec) {H : State → State} (hH : HeapOnly H) (P1 : PassC) (L1 : P1.Links0 e.platform s₀) (hw : s₀.WarmedH W.vm) (a : Addr)
    (hroom : e.platform.stackFull (((W.setFrames (.thenThrow a :: base)).threads[(W.setFrames (.thenThrow a :: base)).cur]?).getD { frames := [] }) (W.setFrames (.thenThrow a :: base)).frames 1 = false)
    (hsup : ∀ vm1, s₀.WarmedH vm1 → At (((W.setVm vm1).setFrames (.thenThrow a :: base)).pushFrame (.java (pass0J P1.m a 0 []))) P1.m P1.code below → (((W.setVm vm1).setFrames (.thenThrow a :: base)).pushFrame (.java (pass0J P1.m a 0 []))).frames = .java (pass0J P1.m a 0 []) :: .thenThrow a :: base → ∃ vm2, s₀.WarmedH vm2 ∧ ∀ t' : State,
      Steps tb e below ((H (((W.setVm vm2).setFrames (.thenThrow a :: base)).pushFrame (.java (pass0J P1.m a 0 [])))).setTop (pass0J P1.m a 4 [])) t' →
      Steps tb e below (doInvoke e ((((W.setVm vm1).setFrames (.thenThrow a :: base)).pushFrame (.java (pass0J P1.m a 0 []))).setTop (pass0J P1.m a 1 [])) [] P1.sup #[.ref a]).1 t') :
    ∃ vm', s₀.WarmedH vm' ∧ ∀ target, Steps tb e below ((H (W.setVm vm')).setFrames (.throwing a :: base)) target → Steps tb e below (doInvoke e (W.setFrames (.thenThrow a :: base)) [] P1.m #[.ref a]).1 target := by
  have hmW := hw.methodAt L1.method
  obtain ⟨f1, hI, f2⟩ := nt_in hW a hmW L1.code (hw.plainAt L1.plain)
  obtain ⟨vm1, hW1, st1⟩ := Steps.invokeInitCold (tb := tb) (s₀ := s₀) (U := ((W.setFrames (.thenThrow a :: base)).pushFrame (.java (pass0J P1.m a 0 [])))) (f := pass0J P1.m a 1 [.ref a]) (args := []) (rest := []) (a := a) hI hexec L1.at1 hw L1.links L1.right L1.notHandle L1.cls L1.file L1.pool
    L1.supClass L1.supMethod L1.supName L1.supStatic L1.supAbstract L1.supFound L1.supParams.symm rfl
  have hW' := hW.setVm (hw.alike.symm.trans hW1.alike)
  obtain ⟨-, -, f3⟩ := nt_in hW' a (hW1.methodAt L1.method) L1.code (hW1.plainAt (U := W.setVm vm1) L1.plain)
  obtain ⟨vm2, hW2, st2⟩ := hsup vm1 hW1 (hI.setVm (hw.alike.symm.trans hW1.alike)) f3
  refine ⟨vm2, hW2, fun target hrest => ?_⟩
  rw [(doInvoke_java (s := (W.setFrames (.thenThrow a :: base))) (e := e) (acts := []) (args := #[.ref a]) (meth := P1.meth) (code := P1.code) hmW L1.code L1.locks (by rw [L1.locals]; exact hroom)).1, L1.locals]
  show Steps tb e below ((W.setFrames (.thenThrow a :: base)).pushFrame (.java (pass0J P1.m a 0 []))) target
  rw [← State.setTop_self (s := ((W.setFrames (.thenThrow a :: base)).pushFrame (.java (pass0J P1.m a 0 [])))) (State.topJava?_of_frames f2)]
  jvm_step hI [hexec, L1.at0, Value.isRef]
  refine st1 target (st2 target ?_)
  exact nt_ret (W := W.setVm vm2) (hW.setVm (hw.alike.symm.trans hW2.alike)) hexec hH a (hW2.methodAt L1.method) L1.code (hW2.plainAt (U := W.setVm vm2) L1.plain) L1.locks L1.at4 hrest
theorem nt_ctorNpe (p : Program) {e : Env} {s₀ W : State} (hWat : Over W base below) (hexec : p.tables.exec = Jvm.exec)
    (T : ThrowableC) (L : T.Links e.platform s₀) (Z : Init0T) (LZ : Z.Laid T.toThrowableT) (N : NpeC) (LN : N.Links T e.platform s₀) (hW : s₀.WarmedH W.vm) {t : ThreadId} (ht : W.cur = t) (htr : e.platform.stackTraces = false)
    {u0 sen : RefV} {cell cellS cN : Cell} {kcell : Class} (ecN : cN = (npeCell N.toNpeT (preparedCellV T.toThrowableT cell self u0 sen) t).withEntry t)
    (hcell : W.heap[self]? = some cell) (hobj : ∀ k, cell.vm ≠ .statics k) (hknown : cell.vm ≠ .unknown) (hfree : cell.monitor.owner = none)
    (hkcell : s₀.vm.classes[cell.cls]? = some kcell) (hsel0 : selectMethod e.platform s₀.vm cell.cls T.fill0 = .method T.fill0)
    (hcellS : W.heap[T.aS]? = some cellS) (hneS : T.aS ≠ self) (hknownS : cellS.vm ≠ .unknown) (hvU : cellS.slots[T.fUnassigned.slot]? = some u0.v)
    (hv0 : cell.slots[N.fState.slot]? = some (.int 0)) (hneC : T.fCause.slot ≠ N.fState.slot) (hneSt : T.fStack.slot ≠ N.fState.slot) (hneP : T.fSupp.slot ≠ N.fState.slot)
    (htS : Takes s₀ cell T.fStack u0.v) (ht1 : Takes s₀ cell N.fState (.int 1)) (hskip : SkipFacts T e.platform s₀ (fun u => u) u0 cN)
    (hselF : selectMethod e.platform s₀.vm cell.cls T.fill = .method N.fill) (hvSen : cellS.slots[T.fSentinel.slot]? = some sen.v)
    (htC : Takes s₀ cell T.fCause (.ref self)) (htP : Takes s₀ cell T.fSupp sen.v) (hobjLocals : T.codeObj.maxLocals = 1)
    (P1 : PassC) (L1 : P1.Links0 e.platform s₀) (Ps : List PassC) (hL : ∀ P, P ∈ Ps → P.Links0 e.platform s₀) (hlink1 : P1.sup = firstOf (Z.m T.toThrowableT) (Ps.map (·.toPassT))) (hlink : PassesOn (Z.m T.toThrowableT) (Ps.map (·.toPassT)))
    {lim : Nat × Nat} (hlim : e.platform.stackLimits W.me = lim) (hframes : base.length + Ps.length + 5 < lim.1) (hwords : (stackUse base).2 + 13 * Ps.length + 68 ≤ lim.2) :
    ∃ vm', s₀.WarmedH vm' ∧ ∀ target, Steps p.tables e below (((W.setVm vm').setCell self (cN.setSlot T.fStack.slot u0.v).left.left).setFrames (.throwing self :: base)) target →
      Steps p.tables e below (doInvoke e (W.setFrames (.thenThrow self :: base)) [] P1.m #[.ref self]).1 target := by
  have e1 : cN.cls = cell.cls := by rw [ecN]; rfl
  have e2 : cN.vm = cell.vm := by rw [ecN]; rfl
  have e3 : cN.slots.size = cell.slots.size := by rw [ecN]; simp [npeCell, preparedCellV, Cell.setSlot, Cell.withEntry]
  have e4 : cN.monitor = ((npeCell N.toNpeT (preparedCellV T.toThrowableT cell self u0 sen) t).withEntry t).monitor := by rw [ecN]
  obtain ⟨f1, -, -⟩ := nt_in hWat self (hW.methodAt L1.method) L1.code (hW.plainAt L1.plain)
  have hroom := roomAbove (pl := e.platform) (u := W.setFrames (.thenThrow self :: base)) (vars := 1) (pushed := [.thenThrow self]) (base := base) (free := 13 * Ps.length + 68) (lim := lim) f1 (by rw [State.stackLimits_setFrames]; exact hlim)
    (by simp only [List.length_cons, List.length_nil]; omega) (by omega) (by rw [stackUse_light _ _ (fun f hf => by cases hf) rfl, stackUse_nil]; show 0 + 1 + 11 ≤ _; omega)
  refine nt_ctor hWat hexec (H := fun u => u.setCell self (cN.setSlot T.fStack.slot u0.v).left.left) (heapOnly_id.thenSetCell self _) P1 L1 hW self hroom (fun vm1 hW1 hI1 hXfr => ?_)
  rw [hlink1]
  have hXvm : ∀ w, (((W.setVm vm1).setFrames (.thenThrow self :: base)).pushFrame (.java (pass0J P1.m self 0 []))).setVm w = (((W.setVm w).setFrames (.thenThrow self :: base)).pushFrame (.java (pass0J P1.m self 0 []))) := fun w => by rw [State.pushFrame_setVm, State.setFrames_setVm, State.setVm_twice]
  have hXc : (((W.setVm vm1).setFrames (.thenThrow self :: base)).pushFrame (.java (pass0J P1.m self 0 []))).heap[self]? = some cell := hcell
  have hXS : (((W.setVm vm1).setFrames (.thenThrow self :: base)).pushFrame (.java (pass0J P1.m self 0 []))).heap[T.aS]? = some cellS := hcellS
  have hXcur : (((W.setVm vm1).setFrames (.thenThrow self :: base)).pushFrame (.java (pass0J P1.m self 0 []))).cur = t := ht
  have hXW : s₀.WarmedH (((W.setVm vm1).setFrames (.thenThrow self :: base)).pushFrame (.java (pass0J P1.m self 0 []))).vm := hW1
  have hXlim : e.platform.stackLimits (((W.setVm vm1).setFrames (.thenThrow self :: base)).pushFrame (.java (pass0J P1.m self 0 []))).me = lim := by rw [State.stackLimits_pushFrame, State.stackLimits_setFrames]; exact hlim
  suffices hs : ∃ vm2, s₀.WarmedH vm2 ∧ ∀ t' : State, Steps p.tables e below ((((((W.setVm vm1).setFrames (.thenThrow self :: base)).pushFrame (.java (pass0J P1.m self 0 []))).setVm vm2).setCell self (cN.setSlot T.fStack.slot u0.v).left.left).setTop (pass0J P1.m self 4 [])) t' →
      Steps p.tables e below (doInvoke e ((((W.setVm vm1).setFrames (.thenThrow self :: base)).pushFrame (.java (pass0J P1.m self 0 []))).setTop (pass0J P1.m self 1 [])) [] (firstOf (Z.m T.toThrowableT) (Ps.map (·.toPassT))) #[.ref self]).1 t' by
    obtain ⟨vm2, hW2, st⟩ := hs
    exact ⟨vm2, hW2, fun t' h' => st t' (by rw [hXvm]; exact h')⟩
  clear hXvm
  generalize (((W.setVm vm1).setFrames (.thenThrow self :: base)).pushFrame (.java (pass0J P1.m self 0 []))) = V at hI1 hXfr hXc hXS hXcur hXW hXlim ⊢
  exact Steps.initNpe0ColdByV p (V := V) (g := pass0J P1.m self 1 []) (c := P1.code) (self := self) hI1 hexec T L Z LZ N LN hXW hXcur (Nn := fun u => u) heapOnly_id (fun _ _ => rfl) (fun _ => rfl) (fun u x y => setCell_twice _ _ _ _) (fun _ => Nat.le_refl _) hXc
    hobj hknown hfree hkcell hsel0 hXS hneS hknownS hvU hv0 hneC hneSt hneP htS ht1 (cN := cN) (fun _ hu => by rw [ecN]; exact hu) (fun _ hu => hu) e1 e2 e4 e3 (by rw [← ecN]; exact hskip) (fun _ _ hA hW _ hroom _ hrest => L.nativeOff p htr hA hW hroom hrest) hselF hvSen htC htP hobjLocals Ps hL hlink (ig := .invokespecial P1.index) (len := 3) [] hXlim
    (by rw [hXfr]; simp only [List.length_cons]; omega)
    (by rw [hXfr, List.tail_cons, stackUse_java, stackUse_light _ _ (fun f hf => by cases hf) rfl]
        show (stackUse base).2 + (1 + 11 + 2 * 0 + operandWords []) + 13 * Ps.length + 55 ≤ lim.2
        simp only [operandWords, List.foldl_nil]
        omega)
    L1.at1
theorem nt_ctor0 (p : Program) {e : Env} {s₀ W : State} (hWat : Over W base below) (hexec : p.tables.exec = Jvm.exec)
    (T : ThrowableC) (L : T.Links e.platform s₀) (Z : Init0T) (LZ : Z.Laid T.toThrowableT) (hW : s₀.WarmedH W.vm) {t : ThreadId} (ht : W.cur = t) (htr : e.platform.stackTraces = false)
    {u0 sen : RefV} {cell cellS cN : Cell} (ecN : cN = (preparedCellV T.toThrowableT cell self u0 sen).withEntry t)
    (hcell : W.heap[self]? = some cell) (hobj : ∀ k, cell.vm ≠ .statics k) (hknown : cell.vm ≠ .unknown) (hfree : cell.monitor.owner = none)
    (hsel0 : selectMethod e.platform s₀.vm cell.cls T.fill0 = .method T.fill0)
    (hcellS : W.heap[T.aS]? = some cellS) (hneS : T.aS ≠ self) (hknownS : cellS.vm ≠ .unknown) (hvU : cellS.slots[T.fUnassigned.slot]? = some u0.v)
    (htS : Takes s₀ cell T.fStack u0.v) (hskip : SkipFacts T e.platform s₀ (fun u => u) u0 cN)
    (hselF : selectMethod e.platform s₀.vm cell.cls T.fill = .method T.fill) (hvSen : cellS.slots[T.fSentinel.slot]? = some sen.v)
    (htC : Takes s₀ cell T.fCause (.ref self)) (htP : Takes s₀ cell T.fSupp sen.v) (hobjLocals : T.codeObj.maxLocals = 1)
    (P1 : PassC) (L1 : P1.Links0 e.platform s₀) (Ps : List PassC) (hL : ∀ P, P ∈ Ps → P.Links0 e.platform s₀) (hlink1 : P1.sup = firstOf (Z.m T.toThrowableT) (Ps.map (·.toPassT))) (hlink : PassesOn (Z.m T.toThrowableT) (Ps.map (·.toPassT)))
    {lim : Nat × Nat} (hlim : e.platform.stackLimits W.me = lim) (hframes : base.length + Ps.length + 4 < lim.1) (hwords : (stackUse base).2 + 13 * Ps.length + 55 ≤ lim.2) :
    ∃ vm', s₀.WarmedH vm' ∧ ∀ target, Steps p.tables e below (((W.setVm vm').setCell self (cN.setSlot T.fStack.slot u0.v).left).setFrames (.throwing self :: base)) target →
      Steps p.tables e below (doInvoke e (W.setFrames (.thenThrow self :: base)) [] P1.m #[.ref self]).1 target := by
  have e1 : cN.cls = cell.cls := by rw [ecN]; rfl
  have e2 : cN.vm = cell.vm := by rw [ecN]; rfl
  have e3 : cN.slots.size = cell.slots.size := by rw [ecN]; simp [preparedCellV, Cell.setSlot, Cell.withEntry]
  have e4 : cN.monitor = ((preparedCellV T.toThrowableT cell self u0 sen).withEntry t).monitor := by rw [ecN]
  obtain ⟨f1, -, -⟩ := nt_in hWat self (hW.methodAt L1.method) L1.code (hW.plainAt L1.plain)
  have hroom := roomAbove (pl := e.platform) (u := W.setFrames (.thenThrow self :: base)) (vars := 1) (pushed := [.thenThrow self]) (base := base) (free := 13 * Ps.length + 55) (lim := lim) f1 (by rw [State.stackLimits_setFrames]; exact hlim)
    (by simp only [List.length_cons, List.length_nil]; omega) (by omega) (by rw [stackUse_light _ _ (fun f hf => by cases hf) rfl, stackUse_nil]; show 0 + 1 + 11 ≤ _; omega)
  refine nt_ctor hWat hexec (H := fun u => u.setCell self (cN.setSlot T.fStack.slot u0.v).left) (heapOnly_id.thenSetCell self _) P1 L1 hW self hroom (fun vm1 hW1 hI1 hXfr => ?_)
  rw [hlink1]
  have hXvm : ∀ w, (((W.setVm vm1).setFrames (.thenThrow self :: base)).pushFrame (.java (pass0J P1.m self 0 []))).setVm w = (((W.setVm w).setFrames (.thenThrow self :: base)).pushFrame (.java (pass0J P1.m self 0 []))) := fun w => by rw [State.pushFrame_setVm, State.setFrames_setVm, State.setVm_twice]
  have hXc : (((W.setVm vm1).setFrames (.thenThrow self :: base)).pushFrame (.java (pass0J P1.m self 0 []))).heap[self]? = some cell := hcell
  have hXS : (((W.setVm vm1).setFrames (.thenThrow self :: base)).pushFrame (.java (pass0J P1.m self 0 []))).heap[T.aS]? = some cellS := hcellS
  have hXcur : (((W.setVm vm1).setFrames (.thenThrow self :: base)).pushFrame (.java (pass0J P1.m self 0 []))).cur = t := ht
  have hXW : s₀.WarmedH (((W.setVm vm1).setFrames (.thenThrow self :: base)).pushFrame (.java (pass0J P1.m self 0 []))).vm := hW1
  have hXlim : e.platform.stackLimits (((W.setVm vm1).setFrames (.thenThrow self :: base)).pushFrame (.java (pass0J P1.m self 0 []))).me = lim := by rw [State.stackLimits_pushFrame, State.stackLimits_setFrames]; exact hlim
  suffices hs : ∃ vm2, s₀.WarmedH vm2 ∧ ∀ t' : State, Steps p.tables e below ((((((W.setVm vm1).setFrames (.thenThrow self :: base)).pushFrame (.java (pass0J P1.m self 0 []))).setVm vm2).setCell self (cN.setSlot T.fStack.slot u0.v).left).setTop (pass0J P1.m self 4 [])) t' →
      Steps p.tables e below (doInvoke e ((((W.setVm vm1).setFrames (.thenThrow self :: base)).pushFrame (.java (pass0J P1.m self 0 []))).setTop (pass0J P1.m self 1 [])) [] (firstOf (Z.m T.toThrowableT) (Ps.map (·.toPassT))) #[.ref self]).1 t' by
    obtain ⟨vm2, hW2, st⟩ := hs
    exact ⟨vm2, hW2, fun t' h' => st t' (by rw [hXvm]; exact h')⟩
  clear hXvm
  generalize (((W.setVm vm1).setFrames (.thenThrow self :: base)).pushFrame (.java (pass0J P1.m self 0 []))) = V at hI1 hXfr hXc hXS hXcur hXW hXlim ⊢
  exact Steps.initThrowable0ColdByV p (V := V) (g := pass0J P1.m self 1 []) (c := P1.code) (self := self) hI1 hexec T L Z LZ hXW hXcur (Nn := fun u => u) heapOnly_id (fun _ _ => rfl) (fun _ => rfl) (fun u x y => setCell_twice _ _ _ _) hXc
    hobj hknown hfree hsel0 hXS hneS hknownS hvU htS (cN := cN) (fun _ hu => by rw [ecN]; exact hu) (fun _ hu => hu) e1 e2 e4 e3 (by rw [← ecN]; exact hskip) (fun _ _ hA hW _ hroom _ hrest => L.nativeOff p htr hA hW hroom hrest) hselF hvSen htC htP hobjLocals Ps hL hlink (ig := .invokespecial P1.index) (len := 3) [] hXlim
    (by rw [hXfr]; simp only [List.length_cons]; omega)
    (by rw [hXfr, List.tail_cons, stackUse_java, stackUse_light _ _ (fun f hf => by cases hf) rfl]
        show (stackUse base).2 + (1 + 11 + 2 * 0 + operandWords []) + 13 * Ps.length + 41 ≤ lim.2
        simp only [operandWords, List.foldl_nil]
        omega)
    L1.at1
end NTP
set_option maxHeartbeats 1000000 in
/-- a native throws NullPointerException, no traces kept (the set-up is that of vx_npeAt) -/
theorem nt_npeAt {p : Program} {l : Launch} {e : Env} {R : Room} {s : State} {m₀ : MethodId} {args : Array Value} {below : List Frame} {meth : Method} {c : Code} {W : State} {locs : List Loc} {cells slots : Nat}
    (X : Stand p l e R s m₀ args below meth c W locs cells slots) (hexec : p.tables.exec = Jvm.exec) (htr : e.platform.stackTraces = false) {n : Nat}
    (h : ∀ a ∈ Bundle.npeArmAtoms n, a.before args s = true) (hlocs : ∀ x ∈ locs, ∀ cell, s.heap[x.base]? = some cell → cell.vm.isStatics = false)
    {g : JFrame} (hsize : g.locals.size = c.maxLocals) {nf : NFrame} (hnf : nf.words = 0)
    (hRframes : 8 < R.frames) (hRlocals : 2 * g.monitorRoom + (g.stack.map fun v => v.category).sum + 10240 ≤ R.locals) (hRcells : cells + 1 ≤ R.cells) (hRslots : slots + n ≤ R.slots) :
    ∃ (S : State) (q : Addr) (ce : Cell), Steps p.tables e below (W.setFrames (.throwNew "java/lang/NullPointerException" none none :: .native nf :: .java g :: below)) (S.setFrames (.throwing q :: .native nf :: .java g :: below)) ∧
      Stand p l e R s m₀ args below meth c S locs (cells + 1) (slots + n) ∧ S.heap[q]? = some ce ∧ s.vm.findClass "java/lang/NullPointerException" = some ce.cls ∧ ce.vm = .none := by
  have howns : e.platform.frameOwnsMonitors = true := by rw [X.admits.platform]
  have hfin : e.platform.finalization = false := by rw [X.admits.platform]
  have hpl : e.platform.magicAccessors = ({} : Platform).magicAccessors := by rw [X.admits.platform]
  have hpl2 : e.platform.arrayCloneIsPublic = true := by rw [X.admits.platform]
  have a' : ∀ x, x ∈ Bundle.npeArmAtoms n → x.holds args s none s [] = true := fun x hx => h x hx
  obtain ⟨T, Z, L, LZ, Y⟩ := ThrowableC.of_atoms (args := args) howns hfin hpl (fun x hx => h x (by simp [Bundle.npeArmAtoms, hx]))
  obtain ⟨N, LN, hcN, hnNF, hordN, hffS⟩ := NpeC.of_atoms (args := args) hpl hpl2 L Y (fun x hx => h x (by simp [Bundle.npeArmAtoms, hx]))
  obtain ⟨P1, L1, hP1m, hP1s⟩ := PassC.of_atoms (args := args) (s := s) hpl (X := Bundle.nN) (Y := Bundle.rN) (by decide) (by decide) LibCode.NullPointerException.Init0.at_0 LibCode.NullPointerException.Init0.at_1 LibCode.NullPointerException.Init0.at_4 (fun x hx => h x (by simp [Bundle.npeArmAtoms, hx]))
  obtain ⟨PR, LR, hPRm, hPRs⟩ := PassC.of_atoms (args := args) (s := s) hpl (X := Bundle.rN) (Y := Bundle.eN) (by decide) (by decide) LibCode.RuntimeException.Init0.at_0 LibCode.RuntimeException.Init0.at_1 LibCode.RuntimeException.Init0.at_4 (fun x hx => h x (by simp [Bundle.npeArmAtoms, hx]))
  obtain ⟨PE, LEx, hPEm, hPEs⟩ := PassC.of_atoms (args := args) (s := s) hpl (X := Bundle.eN) (Y := Bundle.tN) (by decide) (by decide) LibCode.Exception.Init0.at_0 LibCode.Exception.Init0.at_1 LibCode.Exception.Init0.at_4 (fun x hx => h x (by simp [Bundle.npeArmAtoms, hx]))
  have hfound : s.vm.findClass Bundle.nN = some P1.m.cls := findClass_of_methodNamed hP1m
  have ecls : N.cN = P1.m.cls := Option.some.inj (hcN.symm.trans hfound)
  have hk : s.vm.classes[P1.m.cls]? = some N.kN := by rw [← ecls]; exact LN.cls
  have hinit := Cond.initialized_spec hfound hk (a' (.initialized Bundle.nN) (by simp [Bundle.npeArmAtoms]))
  have hctor : N.kN.findMethod "<init>" "()V" = some P1.m.idx := findMethod_of_methodNamed hP1m hk
  obtain ⟨c1, k1, hc1, hk1, -, -, -, hn⟩ := Cond.instantiable_spec (a' (.instantiable Bundle.nN n) (by simp [Bundle.npeArmAtoms]))
  cases Option.some.inj (hc1.symm.trans hfound)
  cases Option.some.inj (hk1.symm.trans hk)
  have hfsz : (freshCell P1.m.cls N.kN).slots.size = n := by simp [hn]
  have hlink1 : P1.sup = PR.m := Option.some.inj (hP1s.symm.trans hPRm)
  have hlinkR : PR.sup = PE.m := Option.some.inj (hPRs.symm.trans hPEm)
  have hlinkE : PE.sup = Z.m T.toThrowableT := Option.some.inj (hPEs.symm.trans Y.init0)
  have hLs : ∀ P, P ∈ [PR, PE] → P.Links0 e.platform s := fun P hP => by
    simp only [List.mem_cons, List.not_mem_nil, or_false] at hP
    rcases hP with rfl | rfl
    · exact LR
    · exact LEx
  have hsel0 : selectMethod e.platform s.vm P1.m.cls T.fill0 = .method T.fill0 := by
    obtain ⟨c2, r2, m2, q1, q2, q3, q4, -⟩ := Cond.selects_spec (a' (.selects Bundle.nN Bundle.tFill0 Bundle.tFill0) (by simp [Bundle.npeArmAtoms]))
    cases Option.some.inj (q1.symm.trans hfound)
    cases Option.some.inj (q2.symm.trans (State.methodFound?_of_named Y.fill0 (by decide)))
    cases Option.some.inj (q3.symm.trans Y.fill0)
    rw [Launch.admits_selectMethod X.admits]; exact q4
  have hselF : selectMethod e.platform s.vm P1.m.cls T.fill = .method N.fill := by
    obtain ⟨c2, r2, m2, q1, q2, q3, q4, -⟩ := Cond.selects_spec (a' (.selects Bundle.nN Bundle.tFill Bundle.nFill) (by simp [Bundle.npeArmAtoms]))
    cases Option.some.inj (q1.symm.trans hfound)
    cases Option.some.inj (q2.symm.trans (State.methodFound?_of_named Y.fill (by decide)))
    cases Option.some.inj (q3.symm.trans hnNF)
    rw [Launch.admits_selectMethod X.admits]; exact q4
  obtain ⟨cellS0, hcS0, hiss⟩ := Y.statics
  obtain ⟨u0, hu0⟩ := Cond.staticRefV Y.unassigned L.unassignedStatic L.statics hcS0 hiss (a' (.isRef (.static Bundle.tN "UNASSIGNED_STACK" Bundle.steD)) (by simp [Bundle.npeArmAtoms]))
  obtain ⟨sen, hsen⟩ := Cond.staticRefV Y.sentinel L.sentinelStatic L.statics hcS0 hiss (a' (.isRef (.static Bundle.tN "SUPPRESSED_SENTINEL" Bundle.listD)) (by simp [Bundle.npeArmAtoms]))
  obtain ⟨ci198, i198, fB, hk198, hg198, ha198, hsB, -, hnB, htB, hffB⟩ := Cond.ownField (t := .object "java/lang/Object") Y.found L.cls (by decide +kernel) (a' (.fieldLink Bundle.tN 198 Bundle.tN "backtrace" Bundle.objD) (by simp [Bundle.npeArmAtoms])) (a' (.lays Bundle.tN Bundle.tN "backtrace" Bundle.objD) (by simp [Bundle.npeArmAtoms])) e.platform hpl
  obtain ⟨cellS, hcS', heS, -, hkeep⟩ := X.same.2.2.2.2.2 T.aS cellS0 hcS0
  have hcellS : W.heap[T.aS]? = some cellS := hcS'
  have hout' : ∀ i, (⟨T.aS, i⟩ : Loc) ∉ locs := fun i hmem => by
    have := hlocs _ hmem cellS0 hcS0
    rw [hiss] at this; cases this
  have hknownS : cellS.vm ≠ .unknown := by
    rw [heS]; intro hu
    rw [show cellS0.vm = .unknown from hu] at hiss
    cases hiss
  have hvU : cellS.slots[T.fUnassigned.slot]? = some u0.v := by rw [hkeep _ (hout' _)]; exact hu0
  have hvSen : cellS.slots[T.fSentinel.slot]? = some sen.v := by rw [hkeep _ (hout' _)]; exact hsen
  obtain ⟨tyC, dC, hdC, hdnC⟩ := Cond.laysAt hfound hk Y.cause (a' (.lays Bundle.nN Bundle.tN "cause" "Ljava/lang/Throwable;") (by simp [Bundle.npeArmAtoms]))
  obtain ⟨tyS, dS, hdS, hdnS⟩ := Cond.laysAt hfound hk Y.stack (a' (.lays Bundle.nN Bundle.tN "stackTrace" Bundle.steD) (by simp [Bundle.npeArmAtoms]))
  obtain ⟨tyP, dP, hdP, hdnP⟩ := Cond.laysAt hfound hk Y.supp (a' (.lays Bundle.nN Bundle.tN "suppressedExceptions" Bundle.listD) (by simp [Bundle.npeArmAtoms]))
  obtain ⟨tyX, dX, hdX, hdnX⟩ := Cond.laysAt hfound hk hffS (a' (.lays Bundle.nN Bundle.nN "extendedMessageState" "I") (by simp [Bundle.npeArmAtoms, Bundle.npeAtoms]))
  obtain ⟨hnX, htX⟩ := State.fieldFound?_type hffS (t := .int) (by decide +kernel)
  have xC := Cond.laysApart hdC hdX hdnC hdnX (by rw [hnX, Y.causeName]; decide)
  have xS := Cond.laysApart hdS hdX hdnS hdnX (by rw [hnX, Y.stackName]; decide)
  have xP := Cond.laysApart hdP hdX hdnP hdnX (by rw [hnX, Y.suppName]; decide)
  have hv0 : (freshCell P1.m.cls N.kN).slots[N.fState.slot]? = some (.int 0) := by
    have := fresh_default (c := P1.m.cls) tyX
    rw [htX] at this; exact this
  obtain ⟨tyB, dB, hdB, hdnB⟩ := Cond.laysAt hfound hk hffB (a' (.lays Bundle.nN Bundle.tN "backtrace" Bundle.objD) (by simp [Bundle.npeArmAtoms]))
  have bC := Cond.laysApart hdB hdC hdnB hdnC (by rw [hnB, Y.causeName]; decide)
  have bS := Cond.laysApart hdB hdS hdnB hdnS (by rw [hnB, Y.stackName]; decide)
  have bP := Cond.laysApart hdB hdP hdnB hdnP (by rw [hnB, Y.suppName]; decide)
  have bX := Cond.laysApart hdB hdX hdnB hdnX (by rw [hnB, hnX]; decide)
  have hbk : ((npeCell N.toNpeT (preparedCellV T.toThrowableT (freshCell P1.m.cls N.kN) W.heap.size u0 sen) W.cur).withEntry W.cur).slots[fB.slot]? = some .null := by
    have := fresh_default (c := P1.m.cls) tyB
    rw [htB] at this
    simpa [npeCell, preparedCellV, Cell.setSlot, Cell.withEntry, Array.getElem?_setIfInBounds, bC, bS, bP, bX, bC.symm, bS.symm, bP.symm, bX.symm, defaultValue] using this
  have tkC := Takes.of_laid (v := .ref W.heap.size) hk hordN tyC (by rw [Y.causeType]; rfl)
  have tkS := Takes.of_laid (v := u0.v) hk hordN tyS (by rw [Y.stackType]; exact fits_refV_array _ u0)
  have tkP := Takes.of_laid (v := sen.v) hk hordN tyP (by rw [Y.suppType]; exact fits_refV_object _ sen)
  have tkX := Takes.of_laid (v := .int 1) hk hordN tyX (by rw [htX]; rfl)
  have hskip : SkipFacts T e.platform s (fun u => u) u0 ((npeCell N.toNpeT (preparedCellV T.toThrowableT (freshCell P1.m.cls N.kN) W.heap.size u0 sen) W.cur).withEntry W.cur) := ⟨{ ci198 := ci198, i198 := i198, fBack := fB }, ⟨hk198, hg198, ha198, hsB⟩, hbk, fun _ _ => rfl⟩
  have hov := X.overNative g nf
  obtain ⟨hbeyond, hfreeW⟩ := X.vmMayThrowNative hsize hnf (.throwNew "java/lang/NullPointerException" none none) (fun f hf => by cases hf) rfl hRlocals
  have hfr' : (Frame.native nf :: .java g :: below).length + 7 < (e.platform.stackLimits W.me).1 := by have := X.framesAboveNative g nf (n := 7) (by omega); omega
  have hwd' : (stackUse (.native nf :: .java g :: below)).2 + 94 ≤ (e.platform.stackLimits W.me).2 := by have := X.stackAboveNative hsize hnf (K := 94) (by omega); omega
  generalize hbs : (Frame.native nf :: .java g :: below) = base at hov hbeyond hfreeW hfr' hwd' ⊢
  have hW := X.warmed
  obtain ⟨kX', hk', he'⟩ := hW.alike.2.2 _ _ hk
  have hty : kX'.instanceTypes = N.kN.instanceTypes := by rw [he']
  have hfresh : freshCell P1.m.cls kX' = freshCell P1.m.cls N.kN := by
    show ({ cls := P1.m.cls, slots := kX'.instanceTypes.map defaultValue, vm := .none } : Cell) = _
    rw [hty]
  have hltS : T.aS < W.heap.size := (Array.getElem?_eq_some_iff.mp hcellS).1
  have hWat : Over (W.pushCell (freshCell P1.m.cls N.kN)) base below := (Over.pushCell_iff _).mpr hov
  have w5 : (W.pushCell (freshCell P1.m.cls N.kN)).heap[T.aS]? = some cellS := by
    rw [← hcellS]
    simp [State.pushCell, Array.getElem?_push, Nat.ne_of_lt hltS]
  obtain ⟨vm', hW', st⟩ := nt_ctorNpe p (self := W.heap.size) hWat hexec T L Z LZ N LN hW (t := W.cur) rfl htr rfl (State.heap_pushCell_size W (freshCell P1.m.cls N.kN)) (by intro k hk'; cases hk') (by intro hk'; cases hk') rfl hk hsel0 w5 (Nat.ne_of_lt hltS) hknownS hvU hv0 xC xS xP tkS tkX hskip hselF hvSen tkC tkP Y.objLocals P1 L1 [PR, PE] hLs hlink1 ⟨hlinkR, hlinkE, trivial⟩ (lim := e.platform.stackLimits W.me) rfl (by simp only [List.length_cons, List.length_nil]; omega) (by simp only [List.length_cons, List.length_nil]; omega)
  have hcell : (W.pushCell (freshCell P1.m.cls N.kN)).heap[W.heap.size]? = some (freshCell P1.m.cls N.kN) := State.heap_pushCell_size W (freshCell P1.m.cls N.kN)
  rw [npeBareV_eq T.toThrowableT N.toNpeT W.heap.size u0 sen W.cur rfl rfl] at st
  have X2 := (X.pushed (freshCell P1.m.cls N.kN)).noted hW'
  have ha : W.heap.size < ((W.pushCell (freshCell P1.m.cls N.kN)).setVm vm').heap.size := by
    show W.heap.size < (W.pushCell (freshCell P1.m.cls N.kN)).heap.size
    rw [State.heap_size_pushCell]; omega
  have X3 := ((((X2.stored hcell T.fCause.slot (.ref W.heap.size)).storedAgain ha T.fStack.slot u0.v).storedAgain ha T.fSupp.slot sen.v).storedAgain ha N.fState.slot (.int 1)).storedAgain ha T.fStack.slot u0.v
  rw [hfsz] at X3
  simp only [List.append_assoc, List.cons_append, List.nil_append] at X3
  refine ⟨_, W.heap.size, _, ?_, X3.forget (fun y hy => ?_), heapAt_setCell_self _ ha, hfound, rfl⟩
  · refine nt_start hov (cls := "java/lang/NullPointerException") (cX := P1.m.cls) (kX := kX') (i := P1.m.idx) (by decide) (by decide) (by rw [hW.alike.findClass]; exact hfound) hk' (by rw [he']; exact hinit) (by rw [he']; exact hordN)
      (Launch.admits_hotImplicitExceptions X.admits) hbeyond hfreeW (by rw [he']; exact hctor) (X.cellsAbove hRcells) (by rw [hty, hn]; exact X.slotsAbove hRslots) ?_
    rw [hfresh]
    exact st _ (Steps.refl _)
  · simp only [List.mem_cons, List.not_mem_nil, or_false] at hy
    have hge : s.heap.size ≤ W.heap.size := X.same.2.1
    rcases hy with rfl | rfl | rfl | rfl | rfl <;> exact hge
set_option maxHeartbeats 1000000 in
/-- a native throws cls with a message, no traces kept (the set-up is that of vx_vmAt) -/
theorem nt_msgAt {p : Program} {l : Launch} {e : Env} {R : Room} {s : State} {m₀ : MethodId} {args : Array Value} {below : List Frame} {meth : Method} {c : Code} {W : State} {locs : List Loc} {cells slots : Nat}
    (X : Stand p l e R s m₀ args below meth c W locs cells slots) (hexec : p.tables.exec = Jvm.exec) (htr : e.platform.stackTraces = false) {cls : String} {names : List String} {text : String}
    (hcls : Bundle.fit cls = true) (hnames : ∀ n ∈ names, Bundle.fit n = true) (hsoe : (cls == "java/lang/StackOverflowError") = false) (hoom : (cls == "java/lang/OutOfMemoryError") = false)
    (h : ∀ a ∈ Bundle.messageArmAtoms cls names, a.before args s = true) (hlocs : ∀ x ∈ locs, ∀ cell, s.heap[x.base]? = some cell → cell.vm.isStatics = false)
    (htext : (text == notModelled) = false) (hlimit : ¬ (stringBytes (stringToUtf16 text)).size > e.platform.arrayLengthLimit) (hheap : ¬ (stringBytes (stringToUtf16 text)).size * componentBytes .byte > e.platform.maxHeapBytes)
    {g : JFrame} (hsize : g.locals.size = c.maxLocals) {nf : NFrame} (hnf : nf.words = 0)
    (hRframes : names.length + 5 < R.frames) (hRlocals : 2 * g.monitorRoom + (g.stack.map fun v => v.category).sum + 10240 ≤ R.locals) (hshort : 13 * names.length + 55 ≤ 10240)
    (hRcells : cells + 3 ≤ R.cells) (hRslots : slots + ((stringBytes (stringToUtf16 text)).size + 4 + 6) ≤ R.slots) :
    ∃ (S : State) (q : Addr) (ce : Cell), Steps p.tables e below (W.setFrames (.throwNew cls (some text) none :: .native nf :: .java g :: below)) (S.setFrames (.throwing q :: .native nf :: .java g :: below)) ∧
      Stand p l e R s m₀ args below meth c S locs (cells + 3) (slots + ((stringBytes (stringToUtf16 text)).size + 4 + 6)) ∧ S.heap[q]? = some ce ∧ s.vm.findClass cls = some ce.cls ∧ ce.vm = .none := by
  have howns : e.platform.frameOwnsMonitors = true := by rw [X.admits.platform]
  have hfin : e.platform.finalization = false := by rw [X.admits.platform]
  have hpl : e.platform.magicAccessors = ({} : Platform).magicAccessors := by rw [X.admits.platform]
  have a : ∀ x, x ∈ Bundle.messageArmAtoms cls names → x.holds args s none s [] = true := fun x hx => h x hx
  obtain ⟨T, Z0, L, -, Y⟩ := ThrowableC.of_atoms (args := args) howns hfin hpl (fun x hx => h x (by simp [Bundle.messageArmAtoms, hx]))
  obtain ⟨Z, M, LZ, LM, hnZ⟩ := Init0T.ofS_atoms (args := args) hpl L Y (fun x hx => h x (by simp [Bundle.messageArmAtoms, hx]))
  obtain ⟨P1, Ps, hlen, L1, hL, hP1m, hlink1, hlink⟩ := Bundle.chainS (args := args) hpl hnZ names cls hcls hnames (fun x hx => h x (by simp [Bundle.messageArmAtoms, hx]))
  obtain ⟨Zs, LZs, hn4, hfitv, hfitc⟩ := StringT.of_atoms (args := args) (fun x hx => h x (by simp [Bundle.messageArmAtoms, hx]))
  have hfound : s.vm.findClass cls = some P1.m.cls := findClass_of_methodNamed hP1m
  obtain ⟨c1, kX, hc1, hk, hord, -, -, hn6⟩ := Cond.instantiable_spec (a (.instantiable cls 6) (by simp [Bundle.messageArmAtoms]))
  cases Option.some.inj (hc1.symm.trans hfound)
  have hinit := Cond.initialized_spec hfound hk (a (.initialized cls) (by simp [Bundle.messageArmAtoms]))
  have hctor : kX.findMethod "<init>" "(Ljava/lang/String;)V" = some P1.m.idx := findMethod_of_methodNamed hP1m hk
  have hsel0 : selectMethod e.platform s.vm P1.m.cls T.fill0 = .method T.fill0 := by
    obtain ⟨c2, r2, m2, q1, q2, q3, q4, -⟩ := Cond.selects_spec (a (.selects cls Bundle.tFill0 Bundle.tFill0) (by simp [Bundle.messageArmAtoms]))
    cases Option.some.inj (q1.symm.trans hfound)
    cases Option.some.inj (q2.symm.trans (State.methodFound?_of_named Y.fill0 (by decide)))
    cases Option.some.inj (q3.symm.trans Y.fill0)
    rw [Launch.admits_selectMethod X.admits]; exact q4
  have hselF : selectMethod e.platform s.vm P1.m.cls T.fill = .method T.fill := by
    obtain ⟨c2, r2, m2, q1, q2, q3, q4, -⟩ := Cond.selects_spec (a (.selects cls Bundle.tFill Bundle.tFill) (by simp [Bundle.messageArmAtoms]))
    cases Option.some.inj (q1.symm.trans hfound)
    cases Option.some.inj (q2.symm.trans (State.methodFound?_of_named Y.fill (by decide)))
    cases Option.some.inj (q3.symm.trans Y.fill)
    rw [Launch.admits_selectMethod X.admits]; exact q4
  obtain ⟨cellS0, hcS0, hiss⟩ := Y.statics
  obtain ⟨u0, hu0⟩ := Cond.staticRefV Y.unassigned L.unassignedStatic L.statics hcS0 hiss (a (.isRef (.static Bundle.tN "UNASSIGNED_STACK" Bundle.steD)) (by simp [Bundle.messageArmAtoms]))
  obtain ⟨sen, hsen⟩ := Cond.staticRefV Y.sentinel L.sentinelStatic L.statics hcS0 hiss (a (.isRef (.static Bundle.tN "SUPPRESSED_SENTINEL" Bundle.listD)) (by simp [Bundle.messageArmAtoms]))
  obtain ⟨ci198, i198, fB, hk198, hg198, ha198, hsB, -, hnB, htB, hffB⟩ := Cond.ownField (t := .object "java/lang/Object") Y.found L.cls (by decide +kernel) (a (.fieldLink Bundle.tN 198 Bundle.tN "backtrace" "Ljava/lang/Object;") (by simp [Bundle.messageArmAtoms])) (a (.lays Bundle.tN Bundle.tN "backtrace" "Ljava/lang/Object;") (by simp [Bundle.messageArmAtoms])) e.platform hpl
  obtain ⟨cellS, hcS', heS, -, hkeep⟩ := X.same.2.2.2.2.2 T.aS cellS0 hcS0
  have hcellS : W.heap[T.aS]? = some cellS := hcS'
  have hout' : ∀ i, (⟨T.aS, i⟩ : Loc) ∉ locs := fun i hmem => by
    have := hlocs _ hmem cellS0 hcS0
    rw [hiss] at this; cases this
  have hknownS : cellS.vm ≠ .unknown := by
    rw [heS]; intro hu
    rw [show cellS0.vm = .unknown from hu] at hiss
    cases hiss
  have hvU : cellS.slots[T.fUnassigned.slot]? = some u0.v := by rw [hkeep _ (hout' _)]; exact hu0
  have hvSen : cellS.slots[T.fSentinel.slot]? = some sen.v := by rw [hkeep _ (hout' _)]; exact hsen
  obtain ⟨iM, hffM⟩ := Y.msg
  obtain ⟨tyC, dC, hdC, hdnC⟩ := Cond.laysAt hfound hk Y.cause (a (.lays cls Bundle.tN "cause" "Ljava/lang/Throwable;") (by simp [Bundle.messageArmAtoms]))
  obtain ⟨tyS, dS, hdS, hdnS⟩ := Cond.laysAt hfound hk Y.stack (a (.lays cls Bundle.tN "stackTrace" Bundle.steD) (by simp [Bundle.messageArmAtoms]))
  obtain ⟨tyP, dP, hdP, hdnP⟩ := Cond.laysAt hfound hk Y.supp (a (.lays cls Bundle.tN "suppressedExceptions" Bundle.listD) (by simp [Bundle.messageArmAtoms]))
  obtain ⟨tyM, dM, hdM, hdnM⟩ := Cond.laysAt hfound hk hffM (a (.lays cls Bundle.tN "detailMessage" "Ljava/lang/String;") (by simp [Bundle.messageArmAtoms]))
  obtain ⟨tyB, dB, hdB, hdnB⟩ := Cond.laysAt hfound hk hffB (a (.lays cls Bundle.tN "backtrace" "Ljava/lang/Object;") (by simp [Bundle.messageArmAtoms]))
  have bC := Cond.laysApart hdB hdC hdnB hdnC (by rw [hnB, Y.causeName]; decide)
  have bS := Cond.laysApart hdB hdS hdnB hdnS (by rw [hnB, Y.stackName]; decide)
  have bP := Cond.laysApart hdB hdP hdnB hdnP (by rw [hnB, Y.suppName]; decide)
  have hbk : ((preparedCellV T.toThrowableT (freshCell P1.m.cls kX) (W.heap.size + 2) u0 sen).withEntry W.cur).slots[fB.slot]? = some .null := by
    have := fresh_default (c := P1.m.cls) tyB
    rw [htB] at this
    simpa [preparedCellV, Cell.setSlot, Cell.withEntry, Array.getElem?_setIfInBounds, bC, bS, bP, bC.symm, bS.symm, bP.symm, defaultValue] using this
  have tkC := Takes.of_laid (v := .ref (W.heap.size + 2)) hk hord tyC (by rw [Y.causeType]; rfl)
  have tkS := Takes.of_laid (v := u0.v) hk hord tyS (by rw [Y.stackType]; exact fits_refV_array _ u0)
  have tkP := Takes.of_laid (v := sen.v) hk hord tyP (by rw [Y.suppType]; exact fits_refV_object _ sen)
  have tkM := Takes.of_laid (v := .ref (W.heap.size + 1)) hk hord tyM (by rw [Y.msgType]; rfl)
  have hskip : SkipFacts T e.platform s (fun u => u) u0 ((preparedCellV T.toThrowableT (freshCell P1.m.cls kX) (W.heap.size + 2) u0 sen).withEntry W.cur) := ⟨{ ci198 := ci198, i198 := i198, fBack := fB }, ⟨hk198, hg198, ha198, hsB⟩, hbk, fun _ _ => rfl⟩
  obtain ⟨vm', X5, h1, hkept⟩ := X.nativeThrowsMessageColdBareV hexec hsize hnf T L Z LZ M LM Zs LZs P1 L1 Ps hL hlink1 hlink hsoe hoom hfound hk hinit hord hctor htext hlimit hheap
    (hfitv _) (hfitc _) hsel0 hselF hcellS hknownS hvU hvSen tkC tkS tkP tkM Y.objLocals hskip (fun _ _ hA hW _ hroom _ hrest => L.nativeOff p htr hA hW hroom hrest)
    (by rw [hlen]; exact hRframes) hRlocals (by rw [hlen]; exact hshort) hRcells (by rw [hn4, hn6]; exact hRslots)
  have b1 : (bytesOf Zs.cB (stringToUtf16 text)).slots.size = (stringBytes (stringToUtf16 text)).size := by
    rw [(Cell.writeAll_facts _ _).2.2]; simp [bytes0]
  have b2 : (stringAt Zs.cS Zs.kS Zs.fv Zs.fc (stringToUtf16 text) W.heap.size).slots.size = 4 := by simp [string0, Cell.setSlot, hn4]
  have b3 : (freshCell P1.m.cls kX).slots.size = 6 := by simp [hn6]
  have hlt : W.heap.size + 2 < ((withThrown W Zs text P1.m.cls kX).setVm vm').heap.size := by
    show W.heap.size + 2 < (withThrown W Zs text P1.m.cls kX).heap.size
    rw [(withThrown_facts e.platform W Zs text P1.m.cls kX).2.2.1]; omega
  rw [b1, b2, b3] at X5
  have e9 : slots + (stringBytes (stringToUtf16 text)).size + 4 + 6 = slots + ((stringBytes (stringToUtf16 text)).size + 4 + 6) := by omega
  rw [e9] at X5
  refine ⟨_, W.heap.size + 2, _, h1, X5.forget (fun y hy => ?_), heapAt_setCell_self _ hlt, hfound, rfl⟩
  simp only [List.mem_cons, List.not_mem_nil, or_false] at hy
  have hge : s.heap.size ≤ W.heap.size := X.same.2.1
  rcases hy with rfl | rfl | rfl | rfl | rfl <;> exact Nat.le_trans hge (Nat.le_add_right _ 2)
/-- the words of an exception that a native throws without a message -/
def nt_pA (X : String) (names : List String) : List Cond :=
  Bundle.throwableAtoms ++ Bundle.chain0Atoms X names ++
  [.initialized X, .instantiable X 6, .castable X X, .selects X Bundle.tFill0 Bundle.tFill0, .selects X Bundle.tFill Bundle.tFill,
   .lays X Bundle.tN "cause" "Ljava/lang/Throwable;", .lays X Bundle.tN "stackTrace" Bundle.steD, .lays X Bundle.tN "suppressedExceptions" Bundle.listD,
   .isRef (.static Bundle.tN "UNASSIGNED_STACK" Bundle.steD), .isRef (.static Bundle.tN "SUPPRESSED_SENTINEL" Bundle.listD),
   .fieldLink Bundle.tN 198 Bundle.tN "backtrace" "Ljava/lang/Object;", .lays Bundle.tN Bundle.tN "backtrace" "Ljava/lang/Object;", .lays X Bundle.tN "backtrace" "Ljava/lang/Object;"]
theorem nt_left (T : ThrowableT) {cell : Cell} (self : Addr) (u0 sen : RefV) (t : ThreadId) (hfree : cell.monitor.owner = none) (hcount : cell.monitor.count = 0) :
    (((preparedCellV T cell self u0 sen).withEntry t).setSlot T.fStack.slot u0.v).left = (preparedCellV T cell self u0 sen).setSlot T.fStack.slot u0.v := by
  have h2 : (cell.withEntry t).left = cell := Cell.left_withEntry t hfree hcount
  simp only [preparedCellV, Cell.withEntry_setSlot, Cell.left_setSlot, h2]
set_option maxHeartbeats 1000000 in
/-- a native throws cls without a message, no traces kept -/
theorem nt_plainAt {p : Program} {l : Launch} {e : Env} {R : Room} {s : State} {m₀ : MethodId} {args : Array Value} {below : List Frame} {meth : Method} {c : Code} {W : State} {locs : List Loc} {cells slots : Nat}
    (X : Stand p l e R s m₀ args below meth c W locs cells slots) (hexec : p.tables.exec = Jvm.exec) (htr : e.platform.stackTraces = false) {cls : String} {names : List String}
    (hcls : Bundle.fit cls = true) (hnames : ∀ n ∈ names, Bundle.fit n = true) (hsoe : (cls == "java/lang/StackOverflowError") = false) (hoom : (cls == "java/lang/OutOfMemoryError") = false)
    (h : ∀ a ∈ nt_pA cls names, a.before args s = true) (hlocs : ∀ x ∈ locs, ∀ cell, s.heap[x.base]? = some cell → cell.vm.isStatics = false)
    {g : JFrame} (hsize : g.locals.size = c.maxLocals) {nf : NFrame} (hnf : nf.words = 0)
    (hRframes : names.length + 5 < R.frames) (hRlocals : 2 * g.monitorRoom + (g.stack.map fun v => v.category).sum + 10240 ≤ R.locals) (hshort : 13 * names.length + 55 ≤ 10240)
    (hRcells : cells + 1 ≤ R.cells) (hRslots : slots + 6 ≤ R.slots) :
    ∃ (S : State) (q : Addr) (ce : Cell), Steps p.tables e below (W.setFrames (.throwNew cls none none :: .native nf :: .java g :: below)) (S.setFrames (.throwing q :: .native nf :: .java g :: below)) ∧
      Stand p l e R s m₀ args below meth c S locs (cells + 1) (slots + 6) ∧ S.heap[q]? = some ce ∧ s.vm.findClass cls = some ce.cls ∧ ce.vm = .none := by
  have howns : e.platform.frameOwnsMonitors = true := by rw [X.admits.platform]
  have hfin : e.platform.finalization = false := by rw [X.admits.platform]
  have hpl : e.platform.magicAccessors = ({} : Platform).magicAccessors := by rw [X.admits.platform]
  have a : ∀ x, x ∈ nt_pA cls names → x.holds args s none s [] = true := fun x hx => h x hx
  obtain ⟨T, Z, L, LZ, Y⟩ := ThrowableC.of_atoms (args := args) howns hfin hpl (fun x hx => h x (by simp [nt_pA, hx]))
  obtain ⟨P1, Ps, hlen, L1, hL, hP1m, hlink1, hlink⟩ := Bundle.chain0 (args := args) hpl Y.init0 names cls hcls hnames (fun x hx => h x (by simp [nt_pA, hx]))
  have hfound : s.vm.findClass cls = some P1.m.cls := findClass_of_methodNamed hP1m
  obtain ⟨c1, kX, hc1, hk, hord, -, -, hn6⟩ := Cond.instantiable_spec (a (.instantiable cls 6) (by simp [nt_pA]))
  cases Option.some.inj (hc1.symm.trans hfound)
  have hinit := Cond.initialized_spec hfound hk (a (.initialized cls) (by simp [nt_pA]))
  have hctor : kX.findMethod "<init>" "()V" = some P1.m.idx := findMethod_of_methodNamed hP1m hk
  have hsel0 : selectMethod e.platform s.vm P1.m.cls T.fill0 = .method T.fill0 := by
    obtain ⟨c2, r2, m2, q1, q2, q3, q4, -⟩ := Cond.selects_spec (a (.selects cls Bundle.tFill0 Bundle.tFill0) (by simp [nt_pA]))
    cases Option.some.inj (q1.symm.trans hfound)
    cases Option.some.inj (q2.symm.trans (State.methodFound?_of_named Y.fill0 (by decide)))
    cases Option.some.inj (q3.symm.trans Y.fill0)
    rw [Launch.admits_selectMethod X.admits]; exact q4
  have hselF : selectMethod e.platform s.vm P1.m.cls T.fill = .method T.fill := by
    obtain ⟨c2, r2, m2, q1, q2, q3, q4, -⟩ := Cond.selects_spec (a (.selects cls Bundle.tFill Bundle.tFill) (by simp [nt_pA]))
    cases Option.some.inj (q1.symm.trans hfound)
    cases Option.some.inj (q2.symm.trans (State.methodFound?_of_named Y.fill (by decide)))
    cases Option.some.inj (q3.symm.trans Y.fill)
    rw [Launch.admits_selectMethod X.admits]; exact q4
  obtain ⟨cellS0, hcS0, hiss⟩ := Y.statics
  obtain ⟨u0, hu0⟩ := Cond.staticRefV Y.unassigned L.unassignedStatic L.statics hcS0 hiss (a (.isRef (.static Bundle.tN "UNASSIGNED_STACK" Bundle.steD)) (by simp [nt_pA]))
  obtain ⟨sen, hsen⟩ := Cond.staticRefV Y.sentinel L.sentinelStatic L.statics hcS0 hiss (a (.isRef (.static Bundle.tN "SUPPRESSED_SENTINEL" Bundle.listD)) (by simp [nt_pA]))
  obtain ⟨ci198, i198, fB, hk198, hg198, ha198, hsB, -, hnB, htB, hffB⟩ := Cond.ownField (t := .object "java/lang/Object") Y.found L.cls (by decide +kernel) (a (.fieldLink Bundle.tN 198 Bundle.tN "backtrace" "Ljava/lang/Object;") (by simp [nt_pA])) (a (.lays Bundle.tN Bundle.tN "backtrace" "Ljava/lang/Object;") (by simp [nt_pA])) e.platform hpl
  obtain ⟨cellS, hcS', heS, -, hkeep⟩ := X.same.2.2.2.2.2 T.aS cellS0 hcS0
  have hcellS : W.heap[T.aS]? = some cellS := hcS'
  have hout' : ∀ i, (⟨T.aS, i⟩ : Loc) ∉ locs := fun i hmem => by
    have := hlocs _ hmem cellS0 hcS0
    rw [hiss] at this; cases this
  have hknownS : cellS.vm ≠ .unknown := by
    rw [heS]; intro hu
    rw [show cellS0.vm = .unknown from hu] at hiss
    cases hiss
  have hvU : cellS.slots[T.fUnassigned.slot]? = some u0.v := by rw [hkeep _ (hout' _)]; exact hu0
  have hvSen : cellS.slots[T.fSentinel.slot]? = some sen.v := by rw [hkeep _ (hout' _)]; exact hsen
  obtain ⟨tyC, dC, hdC, hdnC⟩ := Cond.laysAt hfound hk Y.cause (a (.lays cls Bundle.tN "cause" "Ljava/lang/Throwable;") (by simp [nt_pA]))
  obtain ⟨tyS, dS, hdS, hdnS⟩ := Cond.laysAt hfound hk Y.stack (a (.lays cls Bundle.tN "stackTrace" Bundle.steD) (by simp [nt_pA]))
  obtain ⟨tyP, dP, hdP, hdnP⟩ := Cond.laysAt hfound hk Y.supp (a (.lays cls Bundle.tN "suppressedExceptions" Bundle.listD) (by simp [nt_pA]))
  obtain ⟨tyB, dB, hdB, hdnB⟩ := Cond.laysAt hfound hk hffB (a (.lays cls Bundle.tN "backtrace" "Ljava/lang/Object;") (by simp [nt_pA]))
  have bC := Cond.laysApart hdB hdC hdnB hdnC (by rw [hnB, Y.causeName]; decide)
  have bS := Cond.laysApart hdB hdS hdnB hdnS (by rw [hnB, Y.stackName]; decide)
  have bP := Cond.laysApart hdB hdP hdnB hdnP (by rw [hnB, Y.suppName]; decide)
  have hbk : ((preparedCellV T.toThrowableT (freshCell P1.m.cls kX) W.heap.size u0 sen).withEntry W.cur).slots[fB.slot]? = some .null := by
    have := fresh_default (c := P1.m.cls) tyB
    rw [htB] at this
    simpa [preparedCellV, Cell.setSlot, Cell.withEntry, Array.getElem?_setIfInBounds, bC, bS, bP, bC.symm, bS.symm, bP.symm, defaultValue] using this
  have tkC := Takes.of_laid (v := .ref W.heap.size) hk hord tyC (by rw [Y.causeType]; rfl)
  have tkS := Takes.of_laid (v := u0.v) hk hord tyS (by rw [Y.stackType]; exact fits_refV_array _ u0)
  have tkP := Takes.of_laid (v := sen.v) hk hord tyP (by rw [Y.suppType]; exact fits_refV_object _ sen)
  have hskip : SkipFacts T e.platform s (fun u => u) u0 ((preparedCellV T.toThrowableT (freshCell P1.m.cls kX) W.heap.size u0 sen).withEntry W.cur) := ⟨{ ci198 := ci198, i198 := i198, fBack := fB }, ⟨hk198, hg198, ha198, hsB⟩, hbk, fun _ _ => rfl⟩
  have hov := X.overNative g nf
  obtain ⟨hbeyond, hfreeW⟩ := X.vmMayThrowNative hsize hnf (.throwNew cls none none) (fun f hf => by cases hf) rfl hRlocals
  have hfr' : (Frame.native nf :: .java g :: below).length + Ps.length + 4 < (e.platform.stackLimits W.me).1 := by have := X.framesAboveNative g nf (n := Ps.length + 4) (by omega); omega
  have hwd' : (stackUse (.native nf :: .java g :: below)).2 + 13 * Ps.length + 55 ≤ (e.platform.stackLimits W.me).2 := by have := X.stackAboveNative hsize hnf (K := 13 * Ps.length + 55) (by omega); omega
  generalize hbs : (Frame.native nf :: .java g :: below) = base at hov hbeyond hfreeW hfr' hwd' ⊢
  have hW := X.warmed
  obtain ⟨kX', hk', he'⟩ := hW.alike.2.2 _ _ hk
  have hty : kX'.instanceTypes = kX.instanceTypes := by rw [he']
  have hfresh : freshCell P1.m.cls kX' = freshCell P1.m.cls kX := by
    show ({ cls := P1.m.cls, slots := kX'.instanceTypes.map defaultValue, vm := .none } : Cell) = _
    rw [hty]
  have hltS : T.aS < W.heap.size := (Array.getElem?_eq_some_iff.mp hcellS).1
  have hWat : Over (W.pushCell (freshCell P1.m.cls kX)) base below := (Over.pushCell_iff _).mpr hov
  have w5 : (W.pushCell (freshCell P1.m.cls kX)).heap[T.aS]? = some cellS := by
    rw [← hcellS]
    simp [State.pushCell, Array.getElem?_push, Nat.ne_of_lt hltS]
  obtain ⟨vm', hW', st⟩ := nt_ctor0 p (self := W.heap.size) hWat hexec T L Z LZ hW (t := W.cur) rfl htr rfl (State.heap_pushCell_size W (freshCell P1.m.cls kX)) (by intro k hk'; cases hk') (by intro hk'; cases hk') rfl hsel0 w5 (Nat.ne_of_lt hltS) hknownS hvU tkS hskip hselF hvSen tkC tkP Y.objLocals P1 L1 Ps hL hlink1 hlink (lim := e.platform.stackLimits W.me) rfl (by omega) (by omega)
  have hcell : (W.pushCell (freshCell P1.m.cls kX)).heap[W.heap.size]? = some (freshCell P1.m.cls kX) := State.heap_pushCell_size W (freshCell P1.m.cls kX)
  rw [nt_left T.toThrowableT W.heap.size u0 sen W.cur rfl rfl] at st
  have X2 := (X.pushed (freshCell P1.m.cls kX)).noted hW'
  have ha : W.heap.size < ((W.pushCell (freshCell P1.m.cls kX)).setVm vm').heap.size := by
    show W.heap.size < (W.pushCell (freshCell P1.m.cls kX)).heap.size
    rw [State.heap_size_pushCell]; omega
  have X3 := (((X2.stored hcell T.fCause.slot (.ref W.heap.size)).storedAgain ha T.fStack.slot u0.v).storedAgain ha T.fSupp.slot sen.v).storedAgain ha T.fStack.slot u0.v
  rw [show (freshCell P1.m.cls kX).slots.size = 6 by simp [hn6]] at X3
  simp only [List.append_assoc, List.cons_append, List.nil_append] at X3
  refine ⟨_, W.heap.size, _, ?_, X3.forget (fun y hy => ?_), heapAt_setCell_self _ ha, hfound, rfl⟩
  · refine nt_start hov (cls := cls) (cX := P1.m.cls) (kX := kX') (i := P1.m.idx) hsoe hoom (by rw [hW.alike.findClass]; exact hfound) hk' (by rw [he']; exact hinit) (by rw [he']; exact hord)
      (Launch.admits_hotImplicitExceptions X.admits) hbeyond hfreeW (by rw [he']; exact hctor) (X.cellsAbove hRcells) (by rw [hty, hn6]; exact X.slotsAbove hRslots) ?_
    rw [hfresh]
    exact st _ (Steps.refl _)
  · simp only [List.mem_cons, List.not_mem_nil, or_false] at hy
    have hge : s.heap.size ≤ W.heap.size := X.same.2.1
    rcases hy with rfl | rfl | rfl | rfl <;> exact hge
