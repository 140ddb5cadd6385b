/-! landing in a default method: what the word landsInDefault gives, and the two calls -/
set_option maxRecDepth 100000
def df_near (vm : Vm) (c : ClassId) (name desc : String) (m : MethodId) : Prop := (∀ k d, nearestHeld vm c name desc = some (k, .default d) → d = m) ∧ ∀ k b, nearestHeld vm c name desc ≠ some (k, .thrower b)
theorem df_any {vm vm' : Vm} (h : vm.Alike vm') (f : Class → Bool) (hf : ∀ k : Class, f k.bare = f k) (c : ClassId) : (vm'.classes[c]?).any f = (vm.classes[c]?).any f := by
  cases hk : vm.classes[c]? with
  | none => rw [h.none hk]
  | some k =>
    obtain ⟨k', hk', he⟩ := h.2.2 _ _ hk
    rw [hk']
    show f k' = f k
    rw [← hf k', Class.bare_of he, hf]
theorem df_held {vm vm' : Vm} (h : vm.Alike vm') (c : ClassId) (name desc : String) : nearestHeld vm' c name desc = nearestHeld vm c name desc := by
  have e1 : superinterfaceMethods vm' = superinterfaceMethods vm := by rw [← superinterfaceMethods_bare vm', h.bare_eq, superinterfaceMethods_bare]
  have e2 : maximallySpecific vm' = maximallySpecific vm := by rw [← maximallySpecific_bare vm', h.bare_eq, maximallySpecific_bare]
  have e3 : ∀ k : ClassId, (vm'.classes[k]?).any (·.isInterface) = (vm.classes[k]?).any (·.isInterface) := df_any h _ fun _ => rfl
  have e4 : ∀ k : ClassId, ((vm'.classes[k]?).any fun x => x.methods.any fun m => !m.isAbstract && !m.isStatic) = (vm.classes[k]?).any fun x => x.methods.any fun m => !m.isAbstract && !m.isStatic := df_any h _ fun _ => rfl
  have e5 : ∀ (g : ClassId → Bool) (k : ClassId), (vm'.classes[k]?).any (·.interfaces.any g) = (vm.classes[k]?).any (·.interfaces.any g) := fun g => df_any h _ fun _ => rfl
  simp only [Jvm.nearestHeld, held, h.superclasses, h.declaredIn, h.superinterfaces, h.method?, e1, e2, e3, e4, e5]
theorem df_near_mv {vm vm' : Vm} {c : ClassId} {name desc : String} {m : MethodId} (h : df_near vm c name desc m) (hal : vm.Alike vm') : df_near vm' c name desc m := by
  unfold df_near; rw [df_held hal]; exact h
/-- what the word says -/
def df_L (cls : String) (x y : MethodName) (s : State) : Prop := ∃ c r m rm, s.vm.findClass cls = some c ∧ s.methodFound? x.cls x.name x.desc = some r ∧ s.methodNamed? y = some m ∧ s.vm.method? r = some rm ∧ selectMethod {} s.vm c r = .method m ∧ (∃ mk, s.vm.classes[m.cls]? = some mk ∧ mk.isInterface = true) ∧
      ((c :: s.vm.superclasses c).any fun k => (declaredIn s.vm rm.name rm.desc k).any fun (_, z) => z.isPrivate || z.isStatic) = false ∧ df_near s.vm c rm.name rm.desc m
theorem df_spec {args : Array Value} {s : State} {cls : String} {x y : MethodName} (h : (Cond.landsInDefault cls x y).before args s = true) : df_L cls x y s := by
  unfold Cond.before at h
  simp only [Cond.holds, Cond.value] at h
  cases hc : s.vm.findClass cls with
  | none => simp [hc] at h
  | some c =>
  cases hr : s.methodFound? x.cls x.name x.desc with
  | none => simp [hc, hr] at h
  | some r =>
  cases hm : s.methodNamed? y with
  | none => simp [hc, hr, hm] at h
  | some m =>
  cases hrm : s.vm.method? r with
  | none => simp [hc, hr, hm, hrm] at h
  | some rm =>
  simp only [hc, hr, hm, hrm, Option.map_some, beq_iff_eq, Option.some.injEq] at h
  split at h
  · rename_i m' hsel
    simp only [Bool.and_eq_true, decide_eq_true_eq, Bool.not_eq_true', Option.any_eq_true] at h
    obtain ⟨⟨⟨⟨rfl, mk, hmk, hi⟩, -⟩, hway⟩, hnear⟩ := h
    refine ⟨c, r, m', rm, hc, hr, hm, hrm, hsel, ⟨mk, hmk, hi⟩, hway, fun k d hk => ?_, fun k b hk => ?_⟩
    · rw [hk] at hnear; simpa using hnear
    · rw [hk] at hnear; cases hnear
  · cases h
theorem df_L.moved {cls : String} {x y : MethodName} {u U : State} (hvm : u.vm.Alike U.vm) (h : df_L cls x y u) : df_L cls x y U := by
  obtain ⟨c, r, m, rm, h1, h2, h3, h4, h5, ⟨mk, h6, h7⟩, h8, h9⟩ := h
  obtain ⟨mk', hk', he⟩ := hvm.2.2 _ _ h6
  have e2 : U.methodFound? x.cls x.name x.desc = some r := by
    have q := State.methodFound?_setVm (s := u) hvm x.cls x.name x.desc
    rw [h2] at q
    exact q
  have e3 : U.methodNamed? y = some m := by
    have q := State.methodNamed?_setVm (s := u) hvm (x := y)
    rw [h3] at q
    exact q
  refine ⟨c, r, m, rm, by rw [hvm.findClass]; exact h1, e2, e3, by rw [hvm.method?]; exact h4, by rw [hvm.selectMethod]; exact h5, ⟨mk', hk', by rw [he]; exact h7⟩, ?_, df_near_mv h9 hvm⟩
  simp only [hvm.superclasses, hvm.declaredIn]
  exact h8
section DFO
variable {Q : Unit → Pre} {E : CtlPost} {e : Env} {d : Bool} {acts : List Action} {s : State} {f : JFrame}
theorem df_selV {Q : Selection → Pre} {c : ClassId} {r m : MethodId} {rmeth meth : Method} {mk : Class} (hsel : selectMethod e.platform s.vm c r = .method m) (hrm : s.vm.method? r = some rmeth) (hm : s.vm.method? m = some meth)
    (hmk : s.vm.classes[m.cls]? = some mk) (hitf : mk.isInterface = true) (hnear : df_near s.vm c rmeth.name rmeth.desc m) : wp (invokeinterface.selectVirtual c r) Q E e d acts s ↔ Q (.method m) d acts s := by
  cases hp : e.platform.privateHidesDefault
  · simp [invokeinterface.selectVirtual, hrm, selectFor_method hsel hm, hmk, hitf, hp]
  · cases hn : nearestHeld s.vm c rmeth.name rmeth.desc with
    | none => simp [invokeinterface.selectVirtual, hrm, selectFor_method hsel hm, hmk, hitf, hp, hn]
    | some kh =>
      obtain ⟨k, hd⟩ := kh
      cases hd with
      | nothing => simp [invokeinterface.selectVirtual, hrm, selectFor_method hsel hm, hmk, hitf, hp, hn]
      | default d' => cases hnear.1 k d' hn; simp [invokeinterface.selectVirtual, hrm, selectFor_method hsel hm, hmk, hitf, hp, hn]
      | thrower b => exact absurd hn (hnear.2 k b)
theorem df_wpV {index a : Nat} {r m : MethodId} {c' : ClassId} {k k' mk : Class} {rmeth meth : Method} {args rest : List Value} {cell : Cell}
    (hs : s.topJava?.isSome) (hnamed : namesResolved s.vm f.method.cls index c') (hk' : s.vm.classes[c']? = some k') (hclass : k'.isInterface = false)
    (hr : s.vm.methodReady f.method.cls index r)
    (hk : s.vm.classes[r.cls]? = some k) (hrm : s.vm.method? r = some rmeth) (hpoly : signaturePolymorphic k rmeth = false)
    (hstatic : rmeth.isStatic = false)
    (hlen : args.length = rmeth.sig.parameters.length) (hstack : f.stack = args.reverse ++ .ref a :: rest)
    (hcell : s.heap[a]? = some cell) (hobj : ∀ c, cell.vm ≠ .statics c)
    (hsel : selectMethod e.platform s.vm cell.cls r = .method m) (hm : s.vm.method? m = some meth) (habs : meth.isAbstract = false)
    (hmk : s.vm.classes[m.cls]? = some mk) (hitf : mk.isInterface = true) (hnear : df_near s.vm cell.cls rmeth.name rmeth.desc m) :
    wp (invokevirtual.sem index) Q E e d acts (s.setTop f) ↔
      E (.invoke m (.ref a :: args).toArray) acts (s.setTop { f with stack := rest }) := by
  obtain ⟨kc, cf, ci, n, h1, h2, h3, h4⟩ := hnamed
  have hpre : ∀ {Q' : ClassId → Pre}, wp (Jvm.refClassAt index) Q' E e d acts (s.setTop f) ↔ Q' c' d acts (s.setTop f) := by
    intro Q'
    rcases h3 with h3 | h3 <;>
      simp [Jvm.refClassAt, Jvm.constantAt, State.method?_setTop f hs, h1, h2, h3, W.resolveClassAt_ready (State.method?_setTop f hs) h4]
  simp only [invokevirtual.sem, wp_bind', hpre, W.theClass, State.vm_setTop, hk', Option.some.injEq, exists_eq_left', W.ite, hclass, Bool.false_eq_true, if_false, wp_pure',
    W.resolveMethodAt_ready (State.method?_setTop f hs) hr]
  simp only [W.theMethod, State.vm_setTop, hrm, Option.some.injEq, exists_eq_left', Seam.isPolymorphic, wp_bind', W.theClass, hk, wp_pure', hpoly,
    W.ite, Bool.false_eq_true, if_false, hstatic, Jvm.popArgs, ← hlen, popN_top hs hstack]
  simp [hs, hcell, hobj, df_selV (s := s.setTop _) (show selectMethod e.platform (s.setTop _).vm cell.cls r = .method m from hsel) hrm hm hmk hitf hnear, hm, habs]
end DFO
section DFS
variable {p : Program} {l : Launch} {e : Env} {R : Room} {s : State} {m : MethodId} {args : Array Value} {below : List Frame} {meth : Method} {c : Code} {T : State} {locs : List Loc} {cells slots : Nat}
theorem df_invV (X : Stand p l e R s m args below meth c T locs cells slots) (hexec : p.tables.exec = Jvm.exec)
    {own owner : String} {index : Nat} {x : MethodName} (hown : s.vm.findClass own = some m.cls) (hlink : (Cond.methodLink own index x).before args s = true)
    (hsame : (Cond.sameMethod x.cls owner x.name x.desc).before args s = true) (howner : owner ≠ "java/lang/invoke/MethodHandle" ∧ owner ≠ "java/lang/invoke/VarHandle")
    {r0 : MethodId} {r : Method} (hn : s.methodNamed? ⟨owner, x.name, x.desc⟩ = some r0) (hrm : s.vm.method? r0 = some r) (hstatic : r.isStatic = false)
    {a : Addr} {cell : Cell} (hcell : T.heap[a]? = some cell) (hobj : ∀ c, cell.vm ≠ .statics c)
    {m' : MethodId} {meth' : Method} {mk : Class} (hsel : selectMethod e.platform s.vm cell.cls r0 = .method m') (hm' : s.vm.method? m' = some meth') (habs : meth'.isAbstract = false)
    (hmk : s.vm.classes[m'.cls]? = some mk) (hitf : mk.isInterface = true) (hnear : df_near s.vm cell.cls r.name r.desc m')
    {g : JFrame} (hg : g.method = m) {argsL rest : List Value} (hlen : argsL.length = r.sig.parameters.length) (hstack : g.stack = argsL.reverse ++ .ref a :: rest)
    (hdg : decode c.code g.pc = .ok (.invokevirtual index, 3)) :
    ∃ vm', Stand p l e R s m args below meth c (T.setVm vm') locs cells slots ∧
      ∀ target, (∀ acts, Steps p.tables e below (doInvoke e ((T.setVm vm').setTop { g with stack := rest }) acts m' (.ref a :: argsL).toArray).1 target) → Steps p.tables e below (T.setTop g) target := by
  have hpl : e.platform.magicAccessors = ({} : Platform).magicAccessors := by rw [X.admits.platform]
  obtain ⟨cn, ck, r1, hcn, hck, hni, hf, hn1⟩ := Cond.sameMethod_found hsame
  cases hn.symm.trans hn1
  obtain ⟨ci, hl, hright⟩ := Cond.methodLink_specUp hown hcn hck hni hf hlink e.platform hpl (by rw [X.admits.platform])
  have hE : s.MethodEntryUp e T.vm m.cls index cn r0 ci := State.methodEntryUp X.warmed hl hright
  obtain ⟨kr, hkr, hnr⟩ := className_of_methodNamed hn
  obtain ⟨dk, cfile, nt, _, _, _, _, _, hd, hcf, hcp, -⟩ := hl.here
  have alike := hE.warmed.alike
  obtain ⟨dk₂, hdk₂, hres⟩ := hE.classReady
  obtain ⟨dk₃, hdk₃, hed⟩ := alike.2.2 _ _ hd
  cases hdk₂.symm.trans hdk₃
  obtain ⟨kr₂, hkr₂, her⟩ := alike.2.2 _ _ hkr
  obtain ⟨ck₂, hck₂, hec⟩ := alike.2.2 _ _ hck
  obtain ⟨mk₂, hmk₂, hem⟩ := alike.2.2 _ _ hmk
  refine ⟨T.vm.calledUp m.cls ci index cn r0, X.noted hE.warmed, fun target hrest => ?_⟩
  subst hg
  jvm_step X.here [hexec, hdg, invokevirtual.wp_coldUp (e := e) (s := T) (s₀ := s) (f := g) X.here.top X.warmed hE hd hcf (Or.inl hcp) hck hni,
    df_wpV (e := e) (s := T.setVm (T.vm.calledUp g.method.cls ci index cn r0)) (f := g) (r := r0) (m := m') (c' := cn) (k := kr₂) (k' := ck₂) (mk := mk₂) (rmeth := r) (meth := meth') (a := a) (args := argsL) (rest := rest) (cell := cell)
      X.here.top ⟨dk₂, cfile, ci, nt, hdk₂, by rw [hed]; exact hcf, Or.inl hcp, dk₂, hdk₂, hres⟩ hck₂ (by rw [hec]; exact hni) hE.ready hkr₂
      (by show (T.vm.calledUp g.method.cls ci index cn r0).method? r0 = some r; rw [alike.method?]; exact hrm)
      (by rw [her]; show signaturePolymorphic kr r = false; simp [signaturePolymorphic, hnr, howner.1, howner.2]) hstatic hlen hstack hcell hobj
      (by show selectMethod e.platform (T.vm.calledUp g.method.cls ci index cn r0) cell.cls r0 = .method m'; rw [alike.selectMethod]; exact hsel)
      (by show (T.vm.calledUp g.method.cls ci index cn r0).method? m' = some meth'; rw [alike.method?]; exact hm') habs hmk₂ (by rw [hem]; exact hitf) (df_near_mv hnear alike)]
  exact hrest
end DFS
