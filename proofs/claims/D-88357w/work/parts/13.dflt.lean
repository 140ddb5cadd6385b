/-! DEFAULT METHODS of an interface that isn't said to be initialised: a contract without that word (MetN), and the two ways to come there (invokevirtual through the class, invokeinterface). The road is that of the library's default-method laws, turned to this claim. -/
set_option maxRecDepth 100000
def MetN (l : Launch) (y : MethodName) (cc : ByteArray) (maxL : Nat) (ret : Option FieldType) (ws : List Cond) (rm : Room) (Pc : Array Value → State → Prop) (Qc : Array Value → State → Outcome → State → Prop) (mc ms : Nat) (free : Addr → Prop) : Prop :=
  ∀ (p : Program) (e : Env) (s : State) (m : MethodId) (args : Array Value) (below : List Frame) (meth : Method) (c : Code),
    s.methodNamed? y = some m → (∀ w ∈ ws, w.before args s = true) → s.vm.method? m = some meth → c.code = cc → c.maxLocals = maxL → meth.sig.returnType = ret → meth.locks = false → Pc args s →
    W p l e rm s m args below meth c s.heap [] 0 0 (MQ below Qc args s mc ms free) (entryFrame m args maxL)
theorem kN_back {l : Launch} {R : Room} {p : Program} {e : Env} {below : List Frame} {s : State} {sargs : Array Value} {y : MethodName} {len W9 : Nat} {ws : List Cond} {rm : Room} {Pc : Array Value → State → Prop} {Qc : Array Value → State → Outcome → State → Prop} {mc ms : Nat} {free : Addr → Prop} {bytes : ByteArray} {maxL : Nat} {ret : Option FieldType}
    (hM : MetN l y bytes maxL ret ws rm Pc Qc mc ms free) (hQr : ∀ a st o t, Qc a st o t → ∃ v, o = .returned v) (hpl : plainName y.cls = true) (hblind : FrameBlind Pc) (hrc : rm.cells = mc) (hrs : rm.slots = ms) (hframes : rm.frames + 1 ≤ R.frames) (hlocals : W9 + (maxL + 11) + rm.locals ≤ R.locals)
    (hws : ∀ w ∈ ws, ∀ a' U, s.WarmedH U.vm → w.before a' U = true) (hcode : Cond.code y bytes maxL ret ∈ ws) :
    Back l R p e below s sargs y len W9 (PreOf R mc ms Pc) (PostOf Qc mc ms free) := by
  intro m meth c A g ig mk a X hg hsize hdg hW hn hp
  obtain ⟨U, Ls, c0, s0⟩ := A
  dsimp only [Pt.U, Pt.locs, Pt.cells, Pt.slots] at X hn ⊢
  have hp1 : c0 + mc ≤ R.cells := hp.1
  have hp2 : s0 + ms ≤ R.slots := hp.2.1
  have hPc : Pc a (U.calling g mk a) := hblind _ _ _ _ hp.2.2
  have h2 : (Cond.code y bytes maxL ret).before a U = true := hws _ hcode _ _ X.warmed
  obtain ⟨methY, cY, hmY, hcY, hbY, hlY, hrY, hkY, -, -⟩ := Cond.code_spec hn h2
  have h : At U g.method c below := by rw [hg]; exact X.here
  have hroom : (U.calling g mk a).hasRoom e.platform rm = true := X.room_calling (g := g) (R' := rm) hsize hmY hcY hframes (by rw [hlY]; omega) (by rw [hrc]; exact hp1) (by rw [hrs]; exact hp2)
  obtain ⟨mid, hmid⟩ := h.above
  have hfr : (U.setTop g).frames = (.java g :: mid) ++ below := by rw [State.frames_setTop' g h.top, hmid]; rfl
  have hf0 : (U.calling g mk a).frames = .invoking mk a :: .java g :: U.frames.tail := State.frames_calling h.top g mk a
  have hf' : (U.calling g mk a).frames = .invoking mk a :: (U.setTop g).frames := by rw [hf0, State.frames_setTop' g h.top]
  have hcur := State.cur_lt_of_frames hf'
  have hcodeg : (U.calling g mk a).code? g.method = some c := by
    have := h.code
    rw [State.code?_eq] at this ⊢
    simpa [State.calling, State.pushFrame, State.setFrames] using this
  have hhears : (U.calling g mk a).hears mk (U.setTop g).frames = true := by
    rw [State.frames_setTop' g h.top]
    simp [State.hears, hcodeg, hdg, Except.toOption]
  have hn' : (U.calling g mk a).methodNamed? y = some mk := hn
  have hmY' : (U.calling g mk a).vm.method? mk = some methY := hmY
  generalize hs' : U.calling g mk a = s' at hroom hf' hcur hhears hn' hmY' hPc
  have hf1 : (s'.setFrames (.java (entryFrame mk a maxL) :: (U.setTop g).frames)).frames = .java (entryFrame mk a maxL) :: (U.setTop g).frames := State.frames_setFrames _ hcur
  have ht1 := State.topJava?_of_frames hf1
  have hplain : (s'.setFrames (.java (entryFrame mk a maxL) :: (U.setTop g).frames)).plainMethod mk := by
    refine State.plainMethod.of_name ?_
    intro k hk
    obtain ⟨k', hk', hnk⟩ := className_of_methodNamed hn'
    cases (show s'.vm.classes[mk.cls]? = some k from hk).symm.trans hk'
    rw [hnk]; exact hpl
  have hrun : s'.status = .running := by rw [← hs']; exact h.running
  have hable : s'.curStatus? = some .runnable := by rw [← hs']; simpa [State.calling] using h.runnable
  have halone : s'.alone = true := by rw [← hs']; simpa [State.calling] using h.alone
  have hAt : At (s'.setFrames (.java (entryFrame mk a maxL) :: (U.setTop g).frames)) mk cY (U.setTop g).frames :=
    ⟨by rw [ht1]; rfl, ⟨[], by rw [hf1]; rfl⟩, hrun, by simpa using hable, by simpa using halone,
      by rw [State.code?_eq]; simp [State.setFrames, hmY', hcY], hplain⟩
  obtain ⟨t0, ht0, -⟩ := State.frames_cons hf'
  have X' : Stand p l e rm s' mk a (U.setTop g).frames methY cY (s'.setFrames (.java (entryFrame mk a maxL) :: (U.setTop g).frames)) [] 0 0 := by
    refine ⟨X.admits, X.cas, X.clock, hf', hroom, hhears, hmY', hcY, hAt, by rw [hf1]; rfl, State.WarmedH.refl s', by rw [State.stackLimits_setFrames], by rw [State.stackBytes_setFrames], ?_⟩
    exact (State.sameButNew.refl s' ht0).setFrames (.java (entryFrame mk a maxL) :: (U.setTop g).frames) hcur
  have hwY : ∀ w ∈ ws, w.before a s' = true := fun w hw => hws w hw _ _ (by rw [← hs']; exact X.warmed)
  obtain ⟨s₂, hs, o, -, hend, hq', L, hfe, hL⟩ := hM p e s' mk a (U.setTop g).frames methY cY hn' hwY hmY' hbY hlY hrY hkY hPc (s'.setFrames (.java (entryFrame mk a maxL) :: (U.setTop g).frames)) rfl X'
  have hstep : (doInvoke e (U.setTop g) [] mk a).1 = (s'.setFrames (.java (entryFrame mk a maxL) :: (U.setTop g).frames)).setTop (entryFrame mk a maxL) := by
    have hfull : e.platform.stackFull (s'.setFrames (U.setTop g).frames).me (s'.setFrames (U.setTop g).frames).frames cY.maxLocals = false := by
      obtain ⟨-, h1, -, h2⟩ := State.hasRoom_stack hroom
      rw [hf', List.length_cons] at h1
      rw [State.localsInUse_invoking hf' hmY' hcY] at h2
      have hw := stackUse_le_stackWeight (U.setTop g).frames
      rw [State.frames_setFrames _ hcur]
      exact Platform.stackFull_eq_false (by rw [State.stackLimits_setFrames]; omega) (by rw [State.stackLimits_setFrames]; omega)
    have hU : U.setTop g = s'.setFrames (U.setTop g).frames := by
      obtain ⟨g₀, hg0⟩ := Option.isSome_iff_exists.mp h.top
      obtain ⟨r, hr⟩ := State.topJava?_eq_some.mp hg0
      obtain ⟨tt, htt, -⟩ := State.frames_cons hr
      rw [← hs', State.calling_eq h.top, State.setFrames_setFrames, State.frames_setTop' g h.top, State.setTop_of_frames _ hr, hr]
      rfl
    have e1 : (doInvoke e (U.setTop g) [] mk a).1 = (doInvoke e (s'.setFrames (U.setTop g).frames) [] mk a).1 := by rw [← hU]
    rw [e1, (doInvoke_java (s := s'.setFrames (U.setTop g).frames) (e := e) (meth := methY) (code := cY) hmY' hcY hkY hfull).1, State.setTop_self ht1]
    simp only [State.pushFrame, State.frames_setFrames _ hcur, State.setFrames_setFrames, hlY, entryFrame]
  have hsteps : Steps p.tables e below (doInvoke e (U.setTop g) [] mk a).1 s₂ := by
    rw [hstep]
    rw [hfr] at hs
    rw [hfr]
    exact Steps.weaken hs
  rw [State.frames_setTop' g h.top] at hend
  subst hs'
  obtain ⟨⟨v, rfl⟩, hW₂, e2, q2, q3, q4, q5, q6⟩ := id hfe
  have e3 : s₂ = ({ (U.calling g mk a).setFrames s₂.frames with heap := s₂.heap, slotsUsed := s₂.slotsUsed } : State).setVm s₂.vm := by
    have : s₂ = ({ s₂ with vm := (U.calling g mk a).vm } : State).setVm s₂.vm := rfl
    rw [e2] at this
    exact this
  obtain ⟨c₂, i₂, len₂, hc₂, hd₂, hf₂⟩ := hend
  have hW' : U.WarmedH s₂.vm := hW₂
  have hcc : c₂ = c := by
    have h1 : s₂.code? g.method = U.code? g.method := by
      rw [State.code?_eq, State.code?_eq, hW'.alike.method?]
    exact Option.some.inj (hc₂.symm.trans (h1.trans h.code))
  subst hcc
  have hlen : len₂ = len := by rw [hdg] at hd₂; cases hd₂; rfl
  subst hlen
  obtain ⟨g₀, hg0⟩ := Option.isSome_iff_exists.mp h.top
  obtain ⟨r, hr⟩ := State.topJava?_eq_some.mp hg0
  have hs₂ : s₂ = (({ U with heap := s₂.heap, slotsUsed := s₂.slotsUsed } : State).setVm s₂.vm).setTop { g with pc := g.pc + len₂, stack := v.toList ++ g.stack } := by
    have hr' : (({ U with heap := s₂.heap, slotsUsed := s₂.slotsUsed } : State).setVm s₂.vm).frames = .java g₀ :: r := hr
    refine e3.trans ?_
    rw [hf₂, State.calling_eq h.top, State.setFrames_setFrames, State.setTop_of_frames _ hr', hr]
    rfl
  have hsame : U.sameButNew ({ U with heap := s₂.heap, slotsUsed := s₂.slotsUsed } : State) L mc ms := by
    refine ⟨?_, q2, q3, q4, q5, q6⟩
    obtain ⟨t, ht, -⟩ := State.frames_cons hr
    show ({ U with heap := s₂.heap, slotsUsed := s₂.slotsUsed } : State) = { U.setFrames U.frames with heap := s₂.heap, slotsUsed := s₂.slotsUsed }
    rw [State.setFrames_self ht]
  subst hg
  refine ⟨v, ⟨(({ U with heap := s₂.heap, slotsUsed := s₂.slotsUsed } : State).setVm s₂.vm), Ls ++ L, c0 + mc, s0 + ms⟩,
    ⟨X.admits, X.cas, X.clock, X.frames, X.room, X.hears, X.method, X.code, (X.here.setHeapUsed s₂.heap s₂.slotsUsed).setVm hW'.alike, X.tail, State.WarmedH.trans X.warmed hW', X.limits, X.bytes, X.same.trans (hsame.setVm s.vm)⟩,
    ⟨g, mk, s₂, L, rfl, rfl, hq', rfl, hL, rfl, rfl⟩, ?_⟩
  show Steps p.tables e below _ ((({ U with heap := s₂.heap, slotsUsed := s₂.slotsUsed } : State).setVm s₂.vm).setTop { g with pc := g.pc + len₂, stack := v.toList ++ g.stack })
  rw [← hs₂]
  exact hsteps
/-- a contract without 'initialized', out of the same walk -/
theorem k_ofN {l : Launch} {KN : State → Prop} {D : va_G} {ca : Nat → ClassId} {y : MethodName} {cc : ByteArray} {L : Nat} {ret : Option FieldType} {rm : Room} {av : List Value} {ws : va_W} {sz : Nat} {ro : Heap → Prop} {Qc : (Nat → Prop) → Array Value → State → Outcome → State → Prop} {mc ms : Nat} (hn : (lg_sl av).length ≤ L)
    (body : ∀ (p : Program) (e : Env) (s : State) (m : MethodId) (below : List Frame) (meth : Method) (c : Code) (ls : Array Slot) (A : Nat → Prop) (H : Heap), H = s.heap → p.tables.exec = Jvm.exec → c.code = cc → meth.sig.returnType = ret → (∀ w ∈ lw_all, w.before av.toArray s = true) → s.vm.findClass y.cls = some m.cls → meth.locks = false → meth.name = y.name → c.maxLocals = L → s.heap.size = sz →
      va_P D vwCl ws H → va_D A ws → va_K D vwCl (tysG ca) s → KN s → (∀ q, s.heap.size ≤ q → A q) → (∀ q, A q → (∃ (k : Nat) (e : va_E), ws[k]? = some (q, e)) ∨ s.heap.size ≤ q) → va_S A s.heap H [] → ro s.heap → lv_has ls L (lv_args 0 av) →
      W p l e rm s m av.toArray below meth c H [] 0 0 (MQ below (Qc A) av.toArray s mc ms A) (F0 m 0 ls [])) :
    MetN l y cc L ret (ws_ y cc L ret) rm (va_Pc av (pr_ KN D ca ws sz ro)) (Qc (va_A ws sz)) mc ms (va_A ws sz) := by
  intro p e s m args below meth c hnm hw hme hb hml hr hlk hv
  obtain ⟨rfl, hsz, hP, hD0, hK, hN, hro⟩ := hv
  have hts : ∀ w ∈ lw_all, w.before _ s = true := fun w h => hw w (List.mem_cons_of_mem _ h)
  have hown : s.vm.findClass y.cls = some m.cls := findClass_of_methodNamed hnm
  have hin : meth.name = y.name := (name_of_methodNamed hnm hme).1
  have hl := lv_entry av (n := L) hn
  rw [lg_entry_eq]
  subst hsz
  exact body p e s m below meth c _ (va_A ws s.heap.size) s.heap rfl (by cases p <;> rfl) hb hr hts hown hlk hin hml rfl hP hD0.self hK hN (fun q h => Or.inr h) (fun q h => h) va_S.rf hro hl
