/-! NW: what the tables say beyond the list of words, all through a run -/
set_option maxRecDepth 100000
def yF_square : MethodName := ⟨"FourParts$Four", "square", "()J"⟩
def yF_isNought : MethodName := ⟨"FourParts$Four", "isNought", "()Z"⟩
def yP_part : MethodName := ⟨"FourParts$Parts", "part", "(I)J"⟩
def ySide_product : MethodName := ⟨"FourParts$Side", "product", "(LFourParts$Four;LFourParts$Four;)LFourParts$Four;"⟩
def nwG : List Cond := [.methodLink "FourParts" 63 yF_square, .methodLink "FourParts$Four" 24 yF_square, .methodLink "FourParts$Four" 63 yF_isNought, .methodLink "FourParts" 187 yF_isNought, .methodLink "FourParts$Side" 33 yF_isNought, .sameMethod "FourParts$Four" "FourParts$Parts" "square" "()J", .sameMethod "FourParts$Four" "FourParts$Parts" "isNought" "()Z"]
def nwM : List (String × Nat × MethodName × String) := [("FourParts", 106, yX3_init, "FourParts"), ("FourParts", 109, yX4_init, "FourParts"), ("FourParts$Four", 38, yX0_isIn, "FourParts"), ("FourParts$Right", 1, yX2_init, "FourParts"), ("FourParts$Left", 1, yX3_init, "FourParts")]
def nwD : List MethodName := [yX7_isNought, ySide_product]
def nwC : List (String × String) := [("FourParts$Right", "FourParts$Side"), ("FourParts$Left", "FourParts$Side"), ("[B", "java/lang/Object"), ("[I", "java/lang/Object"), ("[J", "java/lang/Object"), ("java/lang/NegativeArraySizeException", "java/lang/NegativeArraySizeException"), ("java/lang/NullPointerException", "java/lang/NullPointerException"), ("java/lang/ArrayIndexOutOfBoundsException", "java/lang/ArrayIndexOutOfBoundsException"), ("java/lang/ArrayIndexOutOfBoundsException", "java/lang/IndexOutOfBoundsException")]
def nwN : List (String × String) := [("[I", "[B"), ("[J", "[B"), ("[B", "[I"), ("[J", "[I"), ("java/lang/ArrayIndexOutOfBoundsException", "java/lang/NullPointerException"), ("java/lang/NegativeArraySizeException", "java/lang/NullPointerException")]
def nwA : List String := ["java/lang/Object", "FourParts$Four", "FourParts$Side"]
def NW (U : State) : Prop := (∀ w ∈ nwG, va_Nw w U) ∧ (∀ q ∈ nwM, va_Nw (.methodLinkNest q.1 q.2.1 q.2.2.1 q.2.2.2) U) ∧ (∀ x ∈ nwD, va_Nw (.declares x) U) ∧ (∀ q ∈ nwC, va_Nw (.castable q.1 q.2) U) ∧ (∀ q ∈ nwN, va_Nc q.1 q.2 U) ∧ (∀ C ∈ nwA, va_AO C U) ∧ va_Fw RX1 yP_part yX1_part U ∧ va_Fw RX1 yX7_square yX7_square U ∧ df_L RX1 yF_square yX7_square U ∧ df_L RX1 yF_isNought yX7_isNought U ∧ df_L RX1 yX7_square yX7_square U
theorem nwG_ok : ∀ w ∈ nwG, (w.onTables && w.keeps) = true := by
  intro w hw
  simp only [nwG, List.mem_cons, List.not_mem_nil, or_false] at hw
  rcases hw with h | h | h | h | h | h | h <;> rw [h] <;> rfl
theorem NW_ok : KNok NW := by
  constructor
  · intro s U hW h
    obtain ⟨h1, h2, h3, h4, h5, h6, h7, h8, h9, h10, h11⟩ := h
    exact ⟨fun w hw => word_at hW (Or.inl (nwG_ok w hw)) (h1 w hw), fun q hq => va_Nw.warmM hW (h2 q hq), fun x hx => va_Nw.warmD hW (h3 x hx), fun q hq => va_Nw.warmC hW (h4 q hq), fun q hq => (h5 q hq).moved hW.alike, fun C hC => (h6 C hC).moved hW.alike, h7.moved ⟨by decide, by decide⟩ hW.alike, h8.moved ⟨by decide, by decide⟩ hW.alike, h9.moved hW.alike, h10.moved hW.alike, h11.moved hW.alike⟩
  · intro s U hvm h
    obtain ⟨h1, h2, h3, h4, h5, h6, h7, h8, h9, h10, h11⟩ := h
    have ha : s.vm.Alike U.vm := by rw [hvm]; exact Vm.Alike.refl _
    exact ⟨fun w hw => va_Nw.same (by have := nwG_ok w hw; simp only [Bool.and_eq_true] at this; exact this.1) hvm (h1 w hw), fun q hq => va_Nw.same rfl hvm (h2 q hq), fun x hx => va_Nw.same rfl hvm (h3 x hx), fun q hq => va_Nw.same rfl hvm (h4 q hq), fun q hq => (h5 q hq).moved ha, fun C hC => (h6 C hC).moved ha, h7.moved ⟨by decide, by decide⟩ ha, h8.moved ⟨by decide, by decide⟩ ha, h9.moved ha, h10.moved ha, h11.moved ha⟩
section NWR
variable {p : Program} {l : Launch} {e : Env} {R : Room} {s : State} {m : MethodId} {args : Array Value} {below : List Frame} {meth : Method} {c : Code} {H : Heap} {locs : List Loc} {cells slots : Nat}
/-- a call through the class that lands in an interface's default method -/
theorem kd_runV {x y : MethodName} {bytes cc : ByteArray} {maxL nL mc ms n index : Nat} {ret : Option FieldType} {ws ws' : List Cond} {rm : Room} {Pc : Array Value → State → Prop} {Qc : Array Value → State → Outcome → State → Prop} {free : Addr → Prop} {own C owner : String} {b : Addr} {As rest : List Value} {g : JFrame}
    (S : CallFix p m c cc nL s args lw_all own) (hM : MetN l y bytes maxL ret ws rm Pc Qc mc ms free) (hQr : ∀ a st o t, Qc a st o t → ∃ v, o = .returned v) (hw : ws = Cond.code y bytes maxL ret :: ws') (hG : GoodIn lw_all ws) (hpl : plainName y.cls = true) (hrc : rm.cells = mc) (hrs : rm.slots = ms) (hR : rm.frames + 1 ≤ R.frames ∧ 8 + (maxL + 11) + rm.locals ≤ R.locals)
    (hlink : va_Nw (.methodLink own index x) s) (hsame : va_Nw (.sameMethod x.cls owner x.name x.desc) s) (hd0 : va_Decl s ⟨owner, x.name, x.desc⟩) (howner : owner ≠ "java/lang/invoke/MethodHandle" ∧ owner ≠ "java/lang/invoke/VarHandle") (hL : df_L C x y s) (hinst : (Cond.instanceMethod y).before args s = true) (hlen : (parseMethodDescriptor x.desc).map (fun d => d.parameters.length) = some n)
    (hp : PreV s H C b Pc As)
    (hg : g.method = m) (hn : As.length = n) (hsize : g.locals.size = nL) (hstack : g.stack = As.reverse ++ .ref b :: rest) (hW : 2 * g.monitorRoom + (rest.map fun v => v.category).sum ≤ 8) (hdg : decode cc g.pc = .ok (.invokevirtual index, 3)) (hf : cells + mc ≤ R.cells ∧ slots + ms ≤ R.slots) :
    va_Run p l e R s m args below meth c H locs cells slots mc ms g rest (Qc (Value.ref b :: As).toArray) (free) := by
  obtain ⟨hx, hb, hml, ho, hts⟩ := S
  have hK : Back l R p e below s args y 3 8 (PreOf R mc ms Pc) (PostOf Qc mc ms free) := kN_back hM hQr hpl hp.1 hrc hrs hR.1 hR.2 (pay_in hts hG) (by rw [hw]; exact List.mem_cons_self)
  obtain ⟨-, ⟨cellB, hcB, hoB, hclB⟩, hPc⟩ := hp
  have hlink' : (Cond.methodLink own index x).before args s = true := va_Nw.use rfl hlink
  have hsame' : (Cond.sameMethod x.cls owner x.name x.desc).before args s = true := va_Nw.use rfl hsame
  intro T hT X
  obtain ⟨r0, r, hn0, hrm, hstR, hsigR⟩ := hd0
  obtain ⟨cn, ck, r1, hcn, hck, hni, hf1, hn1⟩ := Cond.sameMethod_found hsame'
  cases hn0.symm.trans hn1
  obtain ⟨mk, methM, hnamed, hmethM, -, habM⟩ := Cond.instanceMethod_spec hinst
  obtain ⟨c2, r2, m2, rmm, q1, q2, q3, q5, q4, ⟨kP, hkP, hkPi⟩, -, q7⟩ := hL
  cases hclB.symm.trans q1
  cases hf1.symm.trans q2
  cases hnamed.symm.trans q3
  cases hrm.symm.trans q5
  have hselP : selectMethod e.platform s.vm cellB.cls r0 = .method mk := by rw [Launch.admits_selectMethod X.admits]; exact q4
  have hl0 : As.length = r.sig.parameters.length := by
    rw [hsigR] at hlen
    exact hn.trans (Option.some.inj hlen).symm
  obtain ⟨vm₁, X₁, hstep₁⟩ := df_invV X hx ho hlink' hsame' howner hn0 hrm hstR (a := b) (cell := cellB) (by rw [hT]; exact hcB)
    (fun z h => by rw [h] at hoB; cases hoB) hselP hmethM habM hkP hkPi q7 (g := g) hg (argsL := As) (rest := rest) hl0 hstack (by rw [hb]; exact hdg)
  obtain ⟨v, ⟨U', l2, c2, s2⟩, X', ⟨g', mk', t, L, e1, e2, hq, h1, hL', h2, h3⟩, hsteps⟩ := hK m meth c ⟨T.setVm vm₁, locs, cells, slots⟩ { g with stack := rest } (.invokevirtual index) mk (Value.ref b :: As).toArray X₁ hg (hsize.trans hml.symm) (by rw [hb]; exact hdg) hW (X₁.named hnamed) ⟨hf.1, hf.2, hPc (T.setVm vm₁) hT X₁.warmed⟩
  dsimp only [Pt.U, Pt.locs, Pt.cells, Pt.slots] at X' e1 e2 h1 h2 h3 hsteps
  subst h1; subst h2; subst h3
  exact ⟨v, (T.setVm vm₁).calling g' mk' (Value.ref b :: As).toArray, t, U', L, hT, X', hL', e1, e2, hq, fun target h => hstep₁ _ fun acts => by rw [doInvoke_state]; exact hsteps.trans h⟩
/-- a call through the interface that lands in its default method -/
theorem kd_runF {x y : MethodName} {bytes cc : ByteArray} {maxL nL mc ms n index count : Nat} {ret : Option FieldType} {ws ws' : List Cond} {rm : Room} {Pc : Array Value → State → Prop} {Qc : Array Value → State → Outcome → State → Prop} {free : Addr → Prop} {own C : String} {cC : ClassId} {b : Addr} {As rest : List Value} {g : JFrame}
    (hat : ClassAt s C cC) (S : CallFix p m c cc nL s args lw_all own) (hM : MetN l y bytes maxL ret ws rm Pc Qc mc ms free) (hQr : ∀ a st o t, Qc a st o t → ∃ v, o = .returned v) (hw : ws = Cond.code y bytes maxL ret :: ws') (hG : GoodIn lw_all ws) (hpl : plainName y.cls = true) (hrc : rm.cells = mc) (hrs : rm.slots = ms) (hR : rm.frames + 1 ≤ R.frames ∧ 8 + (maxL + 11) + rm.locals ≤ R.locals)
    (hlink : (Cond.methodLink own index x).before args s = true) (hF : va_Fw C x y s) (hxc : x.cls ≠ "java/lang/invoke/MethodHandle" ∧ x.cls ≠ "java/lang/invoke/VarHandle") (hL : df_L C x y s) (hinst : (Cond.instanceMethod y).before args s = true) (hlen : (parseMethodDescriptor x.desc).map (fun d => d.parameters.length) = some n)
    (hp : PreV s H C b Pc As)
    (hg : g.method = m) (hn : As.length = n) (hsize : g.locals.size = nL) (hstack : g.stack = As.reverse ++ .ref b :: rest) (hW : 2 * g.monitorRoom + (rest.map fun v => v.category).sum ≤ 8) (hdg : decode cc g.pc = .ok (.invokeinterface index count, 5)) (hf : cells + mc ≤ R.cells ∧ slots + ms ≤ R.slots) :
    va_Run5 p l e R s m args below meth c H locs cells slots mc ms g rest (Qc (Value.ref b :: As).toArray) (free) := by
  obtain ⟨hx, hb, hml, ho, hts⟩ := S
  have hK : Back l R p e below s args y 5 8 (PreOf R mc ms Pc) (PostOf Qc mc ms free) := kN_back hM hQr hpl hp.1 hrc hrs hR.1 hR.2 (pay_in hts hG) (by rw [hw]; exact List.mem_cons_self)
  obtain ⟨-, ⟨cellB, hcB, hoB, hclB⟩, hPc⟩ := hp
  obtain ⟨hdecl, hface, hpub, hunh, hcast⟩ := hF
  intro T hT X
  obtain ⟨r0, r, hn0, hrm, hstR, hsigR⟩ := Cond.declares_spec hdecl
  obtain ⟨cL, kL, r1, hcL, hkL, hiL, hfoundL, hn1⟩ := Cond.interfaceMethod_spec hface
  cases hn0.symm.trans hn1
  have hr0cls : r0.cls = cL := Option.some.inj ((findClass_of_methodNamed hn0).symm.trans hcL)
  obtain ⟨mk, methM, hnamed, hmethM, -, habM⟩ := Cond.instanceMethod_spec hinst
  obtain ⟨c2, r2, m2, rmm, q1, q2, q3, q5, q4, -, q6, -⟩ := hL
  cases hclB.symm.trans q1
  cases hfoundL.symm.trans q2
  cases hnamed.symm.trans q3
  cases hrm.symm.trans q5
  have hselP : selectMethod e.platform s.vm cellB.cls r0 = .method mk := by rw [Launch.admits_selectMethod X.admits]; exact q4
  have hpubM : hasFlag methM.accessFlags Acc.public_ = true := Cond.publicMethod_spec hnamed hmethM hpub
  obtain ⟨c3, t3, w1, w2, w3⟩ := Cond.castable_spec hcast
  cases hclB.symm.trans w1
  cases hcL.symm.trans w2
  obtain ⟨kB, hkB, -⟩ := Vm.findClass_spec hclB
  have hl0 : As.length = r.sig.parameters.length := by
    rw [hsigR] at hlen
    exact hn.trans (Option.some.inj hlen).symm
  obtain ⟨vm₁, X₁, hstep₁⟩ := X.invokeinterface hx ho hlink hn0 hrm hstR (by rw [hr0cls]; exact hkL) hiL hxc (a := b) (cell := cellB) (kcell := kB) (by rw [hT]; exact hcB)
    (fun z h => by rw [h] at hoB; cases hoB) hkB (by rw [hr0cls]; exact w3) hselP hmethM q6 hpubM habM (g := g) hg (argsL := As) (rest := rest) hl0 hstack (by rw [hb]; exact hdg)
  obtain ⟨v, ⟨U', l2, c2, s2⟩, X', ⟨g', mk', t, L, e1, e2, hq, h1, hL', h2, h3⟩, hsteps⟩ := hK m meth c ⟨T.setVm vm₁, locs, cells, slots⟩ { g with stack := rest } (.invokeinterface index count) mk (Value.ref b :: As).toArray X₁ hg (hsize.trans hml.symm) (by rw [hb]; exact hdg) hW (X₁.named hnamed) ⟨hf.1, hf.2, hPc (T.setVm vm₁) hT X₁.warmed⟩
  dsimp only [Pt.U, Pt.locs, Pt.cells, Pt.slots] at X' e1 e2 h1 h2 h3 hsteps
  subst h1; subst h2; subst h3
  exact ⟨v, (T.setVm vm₁).calling g' mk' (Value.ref b :: As).toArray, t, U', L, hT, X', hL', e1, e2, hq, fun target h => hstep₁ _ fun acts => by rw [doInvoke_state]; exact hsteps.trans h⟩
end NWR
