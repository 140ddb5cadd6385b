/-! BASE: quads, the classes' list, one shape for a contract's start and end, calls with the frame rule inside -/
set_option maxRecDepth 100000
abbrev Q4 : Type := Int64 × Int64 × Int64 × Int64
/-- four longs as an array's contents -/
def L4 (v : Q4) : Nat → Int64 := fun k => match k with
  | 0 => v.1
  | 1 => v.2.1
  | 2 => v.2.2.1
  | 3 => v.2.2.2
  | _ => 0
theorem L4_u0 (v : Q4) (x : Int64) : vp_updL (L4 v) 0 x = L4 (x, v.2.1, v.2.2.1, v.2.2.2) := by
  funext k
  match k with
  | 0 => rfl
  | 1 => rfl
  | 2 => rfl
  | 3 => rfl
  | k + 4 => rfl
theorem L4_u1 (v : Q4) (x : Int64) : vp_updL (L4 v) 1 x = L4 (v.1, x, v.2.2.1, v.2.2.2) := by
  funext k
  match k with
  | 0 => rfl
  | 1 => rfl
  | 2 => rfl
  | 3 => rfl
  | k + 4 => rfl
theorem L4_u2 (v : Q4) (x : Int64) : vp_updL (L4 v) 2 x = L4 (v.1, v.2.1, x, v.2.2.2) := by
  funext k
  match k with
  | 0 => rfl
  | 1 => rfl
  | 2 => rfl
  | 3 => rfl
  | k + 4 => rfl
theorem L4_u3 (v : Q4) (x : Int64) : vp_updL (L4 v) 3 x = L4 (v.1, v.2.1, v.2.2.1, x) := by
  funext k
  match k with
  | 0 => rfl
  | 1 => rfl
  | 2 => rfl
  | 3 => rfl
  | k + 4 => rfl
def TX3 : u_T := fun _ => ("", "", "", false)
def TX4 : u_T := fun _ => ("", "", "", false)
/-- the classes by number: 0 FourParts, 1 Four, 2 Right, 3 Left, 4 the model, 5 Listing -/
abbrev vwCl : List vw_C := [(RX0, TX0, 5), (RX1, TX1, 4), (RX3, TX3, 0), (RX4, TX4, 0), (RX5, TX5, 18), (RX6, TX6, 6)]
/-- the array classes: 0 byte, 1 int, 2 long, 3 Object, 4 Four, 5 Side -/
abbrev tysG (ca : Nat → ClassId) : List (ClassId × FieldType) := [(ca 0, .byte), (ca 1, .int), (ca 2, .long), (ca 3, .object "java/lang/Object"), (ca 4, .object "FourParts$Four"), (ca 5, .object "FourParts$Side")]
abbrev f4 (v : Q4) : va_E := .inr (1, [.long v.1, .long v.2.1, .long v.2.2.1, .long v.2.2.2])
abbrev a4 (ca : Nat → ClassId) (v : Q4) : va_E := .inl (ca 2, 4, .inr (.inl (L4 v)))
def bI (b : Bool) : Int32 := if b then 1 else 0
theorem bI_0 {b : Bool} {r : Int32} (h : r = bI b) (h0 : r = 0) : b = false := by
  cases b
  · rfl
  · rw [h0] at h; exact absurd h (by decide)
theorem bI_1 {b : Bool} {r : Int32} (h : r = bI b) (h0 : ¬ r = 0) : b = true := by
  cases b
  · exact absurd h h0
  · rfl
/-- a method's start: heap size, its cells, apart; the classes; what it reads only -/
def pr_ (KN : State → Prop) (D : va_G) (ca : Nat → ClassId) (ws : va_W) (sz : Nat) (ro : Heap → Prop) (U : State) : Prop :=
  U.heap.size = sz ∧ va_P D vwCl ws U.heap ∧ va_D (fun _ => True) ws ∧ va_K D vwCl (tysG ca) U ∧ KN U ∧ ro U.heap
def qI {S : Type} (D : va_G) (post : Int32 → S → Prop) (w' : S → va_W) (rx : S → Heap → Prop) (A : Nat → Prop) : Array Value → State → Outcome → State → Prop := va_Qi post (fun u t => va_P D vwCl (w' u) t.heap ∧ va_D A (w' u) ∧ rx u t.heap) A
def qL {S : Type} (D : va_G) (post : Int64 → S → Prop) (w' : S → va_W) (rx : S → Heap → Prop) (A : Nat → Prop) : Array Value → State → Outcome → State → Prop := va_Ql post (fun u t => va_P D vwCl (w' u) t.heap ∧ va_D A (w' u) ∧ rx u t.heap) A
def qV {S : Type} (D : va_G) (post : S → Prop) (w' : S → va_W) (rx : S → Heap → Prop) (A : Nat → Prop) : Array Value → State → Outcome → State → Prop := va_Qv post (fun u t => va_P D vwCl (w' u) t.heap ∧ va_D A (w' u) ∧ rx u t.heap) A
def qR {S : Type} (D : va_G) (post : S → Prop) (w' : S → Nat → va_W) (rx : S → Nat → Heap → Prop) (A : Nat → Prop) : Array Value → State → Outcome → State → Prop := va_Qr post (fun u a t => va_P D vwCl (w' u a) t.heap ∧ va_D A (w' u a) ∧ rx u a t.heap) A
/-- what the tables say beyond the list of words, kept while the tables only warm -/
def KNok (KN : State → Prop) : Prop := (∀ s U : State, s.WarmedH U.vm → KN s → KN U) ∧ ∀ s U : State, s.vm = U.vm → KN s → KN U
section KB
variable {p : Program} {l : Launch} {e : Env} {R : Room} {s : State} {m : MethodId} {args : Array Value} {below : List Frame} {meth : Method} {c : Code} {H : Heap} {locs : List Loc} {cells slots : Nat} {Q : State → Prop}
variable {KN : State → Prop} {D : va_G} {ca : Nat → ClassId} {A : Nat → Prop}
theorem k_blind {av : List Value} {ws : va_W} {sz : Nat} {ro : Heap → Prop} (hk : KNok KN) : FrameBlind (va_Pc av (pr_ KN D ca ws sz ro)) := by
  intro a U g mk q
  obtain ⟨q0, q1, qP, qD, qK, qN, qr⟩ := q
  exact ⟨q0, q1, qP, qD, va_K.moved (u := U) (U := U.calling g mk a) (Vm.Alike.refl U.vm) qK, hk.2 U _ rfl qN, qr⟩
theorem k_sub {ws wc : va_W} (hP : va_P D vwCl ws H) (isC : List Nat) (hC : isC.map (fun i => ws[i]?) = wc.map some) : va_P D vwCl wc H := fun k q hk => by
  obtain ⟨i, -, hi⟩ := va_in_of isC hC hk
  exact hP i q hi
theorem k_pre {av : List Value} {ws wc : va_W} {ro : Heap → Prop} (hk : KNok KN) (hK : va_K D vwCl (tysG ca) s) (hN : KN s) (hP : va_P D vwCl ws H) (hD : va_D A ws) (isC : List Nat) (hn : va_nd isC = true) (hC : isC.map (fun i => ws[i]?) = wc.map some) (hro : ro H) :
    PreS s H (va_Pc av (pr_ KN D ca wc H.size ro)) av := by
  refine ⟨k_blind hk, fun U hU hW => ⟨rfl, by rw [hU], by rw [hU]; exact k_sub hP isC hC, (hD.sub isC hn hC).weaken (fun _ _ _ _ => trivial), va_K.moved hW.alike hK, hk.1 s U hW hN, by rw [hU]; exact hro⟩⟩
theorem k_preV {b ci q0 : Nat} {fs : List Value} {wv : va_W} {q : vw_C} {As : List Value} {ws wc : va_W} {ro : Heap → Prop} (hk : KNok KN) (hK : va_K D vwCl (tysG ca) s) (hN : KN s) (hP : va_P D vwCl ws H) (hD : va_D A ws) (isC : List Nat) (hn : va_nd isC = true) (hC : isC.map (fun i => ws[i]?) = wc.map some) (hro : ro H)
    (hv : va_P D vwCl wv H) (hc : vwCl[ci]? = some q) (he : wv[q0]? = some (b, .inr (ci, fs))) :
    PreV s H q.1 b (va_Pc (.ref b :: As) (pr_ KN D ca wc H.size ro)) As :=
  ⟨(k_pre hk hK hN hP hD isC hn hC hro).1, va_recv hK hv hc he, (k_pre (av := .ref b :: As) hk hK hN hP hD isC hn hC hro).2⟩
/-- the entry of a method, from its contract's start -/
theorem k_ofW {y : MethodName} {cc : ByteArray} {L : Nat} {ret : Option FieldType} {rm : Room} {av : List Value} {ws : va_W} {sz : Nat} {ro : Heap → Prop} {Qc : (Nat → Prop) → Array Value → State → Outcome → State → Prop} {mc ms : Nat} (hy : plainFor y = true) (hn : (lg_sl av).length ≤ L)
    (body : ∀ (p : Program) (e : Env) (s : State) (m : MethodId) (below : List Frame) (meth : Method) (c : Code) (ls : Array Slot) (A : Nat → Prop) (H : Heap), H = s.heap → p.tables.exec = Jvm.exec → c.code = cc → meth.sig.returnType = ret → (∀ w ∈ lw_all, w.before av.toArray s = true) → s.vm.findClass y.cls = some m.cls → meth.locks = false → meth.name = y.name → c.maxLocals = L → s.heap.size = sz →
      va_P D vwCl ws H → va_D A ws → va_K D vwCl (tysG ca) s → KN s → (∀ q, s.heap.size ≤ q → A q) → (∀ q, A q → (∃ (k : Nat) (e : va_E), ws[k]? = some (q, e)) ∨ s.heap.size ≤ q) → va_S A s.heap H [] → ro s.heap → lv_has ls L (lv_args 0 av) →
      W p l e rm s m av.toArray below meth c H [] 0 0 (MQ below (Qc A) av.toArray s mc ms A) (F0 m 0 ls [])) :
    Met l y (ws_ y cc L ret) rm (va_Pc av (pr_ KN D ca ws sz ro)) (Qc (va_A ws sz)) mc ms (va_A ws sz) := by
  refine va_MetF (cc := cc) (maxL := L) (ret := ret) hy rfl ?_
  intro p e s m args below meth c s₁ B hml hv
  obtain ⟨rfl, hsz, hP, hD0, hK, hN, hro⟩ := hv
  have hts := atoms_spec (ws := ws_ y cc L ret) B.pre
  have hts : ∀ w ∈ lw_all, w.before _ s = true := fun w h => hts w (List.mem_cons_of_mem _ h)
  have hown : s.vm.findClass y.cls = some m.cls := findClass_of_methodNamed B.named
  have hin : meth.name = y.name := (name_of_methodNamed B.named B.method).1
  have hl := lv_entry av (n := L) hn
  rw [lg_entry_eq]
  subst hsz
  exact body p e s m below meth c _ (va_A ws s.heap.size) s.heap rfl B.exec B.bytes B.returns hts hown B.notSynchronized hin hml rfl hP hD0.self hK hN (fun q h => Or.inr h) (fun q h => h) va_S.rf hro hl
section CALLS
variable {pc : Nat} {ls : Array Slot} {st0 rest : List Value} {mc ms : Nat} {a : Array Value} {S : Type} {ws wc wr : va_W}
theorem k_calli {post : Int32 → S → Prop} {w' : S → va_W} {rx : S → Heap → Prop} (hr : va_Run p l e R s m args below meth c H locs cells slots mc ms (F0 m pc ls st0) rest (qI D post w' rx (va_A wc H.size) a) (va_A wc H.size))
    (hP : va_P D vwCl ws H) (hD : va_D A ws) (hS : va_S A s.heap H locs) (hA : ∀ q, s.heap.size ≤ q → A q) (isC isR : List Nat) (hC : isC.map (fun i => ws[i]?) = wc.map some) (hR : isR.map (fun i => ws[i]?) = wr.map some) (hn : va_nd isR = true) (hdis : ∀ i ∈ isR, i ∉ isC)
    (kk : ∀ (r : Int32) (u : S) (H1 : Heap) (locs1 : List Loc), post r u → va_P D vwCl (wr ++ w' u) H1 → va_D A (wr ++ w' u) → rx u H1 → H.size ≤ H1.size → (∀ q : Nat, q < H.size → ¬ va_A wc H.size q → H1[q]? = H[q]?) → va_S A s.heap H1 locs1 → W p l e R s m args below meth c H1 locs1 (cells + mc) (slots + ms) Q (F0 m (pc + 3) ls (.int r :: rest))) : W p l e R s m args below meth c H locs cells slots Q (F0 m pc ls st0) := by
  have hFc := va_free (wc := wc) hD hS hA isC hC
  refine va_calli hr hS (fun q _ h => hFc q h) hFc (fun r u t H1 locs1 ht hvm hw hB hz1 hk1 hS1 => ?_)
  obtain ⟨hP1, hD1, hx1⟩ := hB
  rw [ht] at hP1 hx1
  obtain ⟨hP2, hD2⟩ := va_join (wr := wr) (w1 := w' u) hP hD isC isR hC hR hn hdis hk1 hFc hP1 hD1
  exact kk r u H1 locs1 hw hP2 hD2 hx1 hz1 hk1 hS1
theorem k_calll {post : Int64 → S → Prop} {w' : S → va_W} {rx : S → Heap → Prop} (hr : va_Run p l e R s m args below meth c H locs cells slots mc ms (F0 m pc ls st0) rest (qL D post w' rx (va_A wc H.size) a) (va_A wc H.size))
    (hP : va_P D vwCl ws H) (hD : va_D A ws) (hS : va_S A s.heap H locs) (hA : ∀ q, s.heap.size ≤ q → A q) (isC isR : List Nat) (hC : isC.map (fun i => ws[i]?) = wc.map some) (hR : isR.map (fun i => ws[i]?) = wr.map some) (hn : va_nd isR = true) (hdis : ∀ i ∈ isR, i ∉ isC)
    (kk : ∀ (r : Int64) (u : S) (H1 : Heap) (locs1 : List Loc), post r u → va_P D vwCl (wr ++ w' u) H1 → va_D A (wr ++ w' u) → rx u H1 → H.size ≤ H1.size → (∀ q : Nat, q < H.size → ¬ va_A wc H.size q → H1[q]? = H[q]?) → va_S A s.heap H1 locs1 → W p l e R s m args below meth c H1 locs1 (cells + mc) (slots + ms) Q (F0 m (pc + 3) ls (.long r :: rest))) : W p l e R s m args below meth c H locs cells slots Q (F0 m pc ls st0) := by
  have hFc := va_free (wc := wc) hD hS hA isC hC
  refine va_calll hr hS (fun q _ h => hFc q h) hFc (fun r u t H1 locs1 ht hvm hw hB hz1 hk1 hS1 => ?_)
  obtain ⟨hP1, hD1, hx1⟩ := hB
  rw [ht] at hP1 hx1
  obtain ⟨hP2, hD2⟩ := va_join (wr := wr) (w1 := w' u) hP hD isC isR hC hR hn hdis hk1 hFc hP1 hD1
  exact kk r u H1 locs1 hw hP2 hD2 hx1 hz1 hk1 hS1
theorem k_callv {post : S → Prop} {w' : S → va_W} {rx : S → Heap → Prop} (hr : va_Run p l e R s m args below meth c H locs cells slots mc ms (F0 m pc ls st0) rest (qV D post w' rx (va_A wc H.size) a) (va_A wc H.size))
    (hP : va_P D vwCl ws H) (hD : va_D A ws) (hS : va_S A s.heap H locs) (hA : ∀ q, s.heap.size ≤ q → A q) (isC isR : List Nat) (hC : isC.map (fun i => ws[i]?) = wc.map some) (hR : isR.map (fun i => ws[i]?) = wr.map some) (hn : va_nd isR = true) (hdis : ∀ i ∈ isR, i ∉ isC)
    (kk : ∀ (u : S) (H1 : Heap) (locs1 : List Loc), post u → va_P D vwCl (wr ++ w' u) H1 → va_D A (wr ++ w' u) → rx u H1 → H.size ≤ H1.size → (∀ q : Nat, q < H.size → ¬ va_A wc H.size q → H1[q]? = H[q]?) → va_S A s.heap H1 locs1 → W p l e R s m args below meth c H1 locs1 (cells + mc) (slots + ms) Q (F0 m (pc + 3) ls rest)) : W p l e R s m args below meth c H locs cells slots Q (F0 m pc ls st0) := by
  have hFc := va_free (wc := wc) hD hS hA isC hC
  refine va_callv hr hS (fun q _ h => hFc q h) hFc (fun u t H1 locs1 ht hvm hw hB hz1 hk1 hS1 => ?_)
  obtain ⟨hP1, hD1, hx1⟩ := hB
  rw [ht] at hP1 hx1
  obtain ⟨hP2, hD2⟩ := va_join (wr := wr) (w1 := w' u) hP hD isC isR hC hR hn hdis hk1 hFc hP1 hD1
  exact kk u H1 locs1 hw hP2 hD2 hx1 hz1 hk1 hS1
theorem k_callr {post : S → Prop} {w' : S → Nat → va_W} {rx : S → Nat → Heap → Prop} (hr : va_Run p l e R s m args below meth c H locs cells slots mc ms (F0 m pc ls st0) rest (qR D post w' rx (va_A wc H.size) a) (va_A wc H.size))
    (hP : va_P D vwCl ws H) (hD : va_D A ws) (hS : va_S A s.heap H locs) (hA : ∀ q, s.heap.size ≤ q → A q) (isC isR : List Nat) (hC : isC.map (fun i => ws[i]?) = wc.map some) (hR : isR.map (fun i => ws[i]?) = wr.map some) (hn : va_nd isR = true) (hdis : ∀ i ∈ isR, i ∉ isC)
    (kk : ∀ (u : S) (ra : Nat) (H1 : Heap) (locs1 : List Loc), post u → va_P D vwCl (wr ++ w' u ra) H1 → va_D A (wr ++ w' u ra) → rx u ra H1 → H.size ≤ H1.size → (∀ q : Nat, q < H.size → ¬ va_A wc H.size q → H1[q]? = H[q]?) → va_S A s.heap H1 locs1 → W p l e R s m args below meth c H1 locs1 (cells + mc) (slots + ms) Q (F0 m (pc + 3) ls (.ref ra :: rest))) : W p l e R s m args below meth c H locs cells slots Q (F0 m pc ls st0) := by
  have hFc := va_free (wc := wc) hD hS hA isC hC
  refine va_callr hr hS (fun q _ h => hFc q h) hFc (fun u ra t H1 locs1 ht hvm hw hB hz1 hk1 hS1 => ?_)
  obtain ⟨hP1, hD1, hx1⟩ := hB
  rw [ht] at hP1 hx1
  obtain ⟨hP2, hD2⟩ := va_join (wr := wr) (w1 := w' u ra) hP hD isC isR hC hR hn hdis hk1 hFc hP1 hD1
  exact kk u ra H1 locs1 hw hP2 hD2 hx1 hz1 hk1 hS1
end CALLS
section RETS
variable {cc : ByteArray} {pc : Nat} {ls : Array Slot} {mc ms : Nat} {S : Type}
theorem k_iret {post : Int32 → S → Prop} {w' : S → va_W} {rx : S → Heap → Prop} {v : Int32} (u : S) (hx : p.tables.exec = Jvm.exec) (hb : c.code = cc) (hr : meth.sig.returnType = some .int) (hlocks : meth.locks = false) (hp : post v u) (hP : va_P D vwCl (w' u) H) (hD : va_D A (w' u)) (hrx : rx u H) (hS : va_S A s.heap H locs) (hc : cells ≤ mc) (hs : slots ≤ ms) (hdg : decode cc pc = .ok (.ireturn, 1)) :
    W p l e R s m args below meth c H locs cells slots (MQ below (qI D post w' rx A) args s mc ms A) (F0 m pc ls [.int v]) := by
  refine W.widen (k := mc) (n := ms) hc hs ?_
  exact W.iret hx hb hr (fun t ht hW => ⟨⟨v, u, rfl, hp, by rw [ht]; exact hP, hD, by rw [ht]; exact hrx⟩, hS.F ht⟩) hS.2.2 hdg
theorem k_zret {post : Int32 → S → Prop} {w' : S → va_W} {rx : S → Heap → Prop} {v : Int32} (u : S) (hx : p.tables.exec = Jvm.exec) (hb : c.code = cc) (hr : meth.sig.returnType = some .boolean) (hlocks : meth.locks = false) (hn : narrow .boolean (.int v) = .int v) (hp : post v u) (hP : va_P D vwCl (w' u) H) (hD : va_D A (w' u)) (hrx : rx u H) (hS : va_S A s.heap H locs) (hc : cells ≤ mc) (hs : slots ≤ ms) (hdg : decode cc pc = .ok (.ireturn, 1)) :
    W p l e R s m args below meth c H locs cells slots (MQ below (qI D post w' rx A) args s mc ms A) (F0 m pc ls [.int v]) := by
  refine W.widen (k := mc) (n := ms) hc hs ?_
  exact W.zret hx hb hr hn (fun t ht hW => ⟨⟨v, u, rfl, hp, by rw [ht]; exact hP, hD, by rw [ht]; exact hrx⟩, hS.F ht⟩) hS.2.2 hdg
theorem k_lret {post : Int64 → S → Prop} {w' : S → va_W} {rx : S → Heap → Prop} {v : Int64} (u : S) (hx : p.tables.exec = Jvm.exec) (hb : c.code = cc) (hr : meth.sig.returnType = some .long) (hlocks : meth.locks = false) (hp : post v u) (hP : va_P D vwCl (w' u) H) (hD : va_D A (w' u)) (hrx : rx u H) (hS : va_S A s.heap H locs) (hc : cells ≤ mc) (hs : slots ≤ ms) (hdg : decode cc pc = .ok (.lreturn, 1)) :
    W p l e R s m args below meth c H locs cells slots (MQ below (qL D post w' rx A) args s mc ms A) (F0 m pc ls [.long v]) := by
  refine W.widen (k := mc) (n := ms) hc hs ?_
  exact W.lret hx hb hr (fun t ht hW => ⟨⟨v, u, rfl, hp, by rw [ht]; exact hP, hD, by rw [ht]; exact hrx⟩, hS.F ht⟩) hS.2.2 hdg
theorem k_vret {post : S → Prop} {w' : S → va_W} {rx : S → Heap → Prop} (u : S) (hx : p.tables.exec = Jvm.exec) (hb : c.code = cc) (hr : meth.sig.returnType = none) (hlocks : meth.locks = false) (hp : post u) (hP : va_P D vwCl (w' u) H) (hD : va_D A (w' u)) (hrx : rx u H) (hS : va_S A s.heap H locs) (hc : cells ≤ mc) (hs : slots ≤ ms) (hdg : decode cc pc = .ok (.return_, 1)) :
    W p l e R s m args below meth c H locs cells slots (MQ below (qV D post w' rx A) args s mc ms A) (F0 m pc ls []) := by
  refine W.widen (k := mc) (n := ms) hc hs ?_
  exact W.vret hx hb hr (fun t ht hW => ⟨⟨u, rfl, hp, by rw [ht]; exact hP, hD, by rw [ht]; exact hrx⟩, hS.F ht⟩) hS.2.2 hdg
theorem k_aret {post : S → Prop} {w' : S → Nat → va_W} {rx : S → Nat → Heap → Prop} {v : Nat} {rt : FieldType} (u : S) (hx : p.tables.exec = Jvm.exec) (hb : c.code = cc) (hr : meth.sig.returnType = some rt) (hrt : (∃ n, rt = .object n) ∨ ∃ t, rt = .array t) (hlocks : meth.locks = false) (hp : post u) (hP : va_P D vwCl (w' u v) H) (hD : va_D A (w' u v)) (hrx : rx u v H) (hS : va_S A s.heap H locs) (hc : cells ≤ mc) (hs : slots ≤ ms) (hdg : decode cc pc = .ok (.areturn, 1)) :
    W p l e R s m args below meth c H locs cells slots (MQ below (qR D post w' rx A) args s mc ms A) (F0 m pc ls [.ref v]) := by
  refine W.widen (k := mc) (n := ms) hc hs ?_
  exact W.aret hx hb hr hrt (Or.inr ⟨v, rfl⟩) (fun t ht hW => ⟨⟨u, v, rfl, hp, by rw [ht]; exact hP, hD, by rw [ht]; exact hrx⟩, hS.F ht⟩) hS.2.2 hdg
/-- two longs compared, and the branch on it -/
theorem k_lc_lt (hx : p.tables.exec = Jvm.exec) (hb : c.code = cc) {x y : Int64} {off : Int} {tgt : Nat} {rest : List Value} (d1 : decode cc pc = .ok (.lcmp, 1)) (d2 : decode cc (pc + 1) = .ok (.ifCond .lt off, 3)) (ht : ((pc + 1 : Nat) : Int) + off = (tgt : Int))
    (kt : x < y → W p l e R s m args below meth c H locs cells slots Q (F0 m tgt ls rest)) (kf : ¬ x < y → W p l e R s m args below meth c H locs cells slots Q (F0 m (pc + 1 + 3) ls rest)) : W p l e R s m args below meth c H locs cells slots Q (F0 m pc ls (.long y :: .long x :: rest)) :=
  W.lcmp hx hb d1 (lv_if_lt hx hb d2 ht (fun h => kt ((lg_cmp_lt x y).mp h)) (fun h => kf (fun q => h ((lg_cmp_lt x y).mpr q))))
theorem k_lc_le (hx : p.tables.exec = Jvm.exec) (hb : c.code = cc) {x y : Int64} {off : Int} {tgt : Nat} {rest : List Value} (d1 : decode cc pc = .ok (.lcmp, 1)) (d2 : decode cc (pc + 1) = .ok (.ifCond .le off, 3)) (ht : ((pc + 1 : Nat) : Int) + off = (tgt : Int))
    (kt : x ≤ y → W p l e R s m args below meth c H locs cells slots Q (F0 m tgt ls rest)) (kf : ¬ x ≤ y → W p l e R s m args below meth c H locs cells slots Q (F0 m (pc + 1 + 3) ls rest)) : W p l e R s m args below meth c H locs cells slots Q (F0 m pc ls (.long y :: .long x :: rest)) :=
  W.lcmp hx hb d1 (lv_if_le hx hb d2 ht (fun h => kt ((lg_cmp_le x y).mp h)) (fun h => kf (fun q => h ((lg_cmp_le x y).mpr q))))
theorem k_lc_gt (hx : p.tables.exec = Jvm.exec) (hb : c.code = cc) {x y : Int64} {off : Int} {tgt : Nat} {rest : List Value} (d1 : decode cc pc = .ok (.lcmp, 1)) (d2 : decode cc (pc + 1) = .ok (.ifCond .gt off, 3)) (ht : ((pc + 1 : Nat) : Int) + off = (tgt : Int))
    (kt : y < x → W p l e R s m args below meth c H locs cells slots Q (F0 m tgt ls rest)) (kf : ¬ y < x → W p l e R s m args below meth c H locs cells slots Q (F0 m (pc + 1 + 3) ls rest)) : W p l e R s m args below meth c H locs cells slots Q (F0 m pc ls (.long y :: .long x :: rest)) :=
  W.lcmp hx hb d1 (lv_if_gt hx hb d2 ht (fun h => kt ((lg_cmp_gt x y).mp h)) (fun h => kf (fun q => h ((lg_cmp_gt x y).mpr q))))
theorem k_lc_ge (hx : p.tables.exec = Jvm.exec) (hb : c.code = cc) {x y : Int64} {off : Int} {tgt : Nat} {rest : List Value} (d1 : decode cc pc = .ok (.lcmp, 1)) (d2 : decode cc (pc + 1) = .ok (.ifCond .ge off, 3)) (ht : ((pc + 1 : Nat) : Int) + off = (tgt : Int))
    (kt : y ≤ x → W p l e R s m args below meth c H locs cells slots Q (F0 m tgt ls rest)) (kf : ¬ y ≤ x → W p l e R s m args below meth c H locs cells slots Q (F0 m (pc + 1 + 3) ls rest)) : W p l e R s m args below meth c H locs cells slots Q (F0 m pc ls (.long y :: .long x :: rest)) :=
  W.lcmp hx hb d1 (lv_if_ge hx hb d2 ht (fun h => kt ((lg_cmp_ge x y).mp h)) (fun h => kf (fun q => h ((lg_cmp_ge x y).mpr q))))
theorem k_lc_eq (hx : p.tables.exec = Jvm.exec) (hb : c.code = cc) {x y : Int64} {off : Int} {tgt : Nat} {rest : List Value} (d1 : decode cc pc = .ok (.lcmp, 1)) (d2 : decode cc (pc + 1) = .ok (.ifCond .eq off, 3)) (ht : ((pc + 1 : Nat) : Int) + off = (tgt : Int))
    (kt : x = y → W p l e R s m args below meth c H locs cells slots Q (F0 m tgt ls rest)) (kf : ¬ x = y → W p l e R s m args below meth c H locs cells slots Q (F0 m (pc + 1 + 3) ls rest)) : W p l e R s m args below meth c H locs cells slots Q (F0 m pc ls (.long y :: .long x :: rest)) :=
  W.lcmp hx hb d1 (lv_if_eq hx hb d2 ht (fun h => kt ((lg_cmp_eq x y).mp h)) (fun h => kf (fun q => h ((lg_cmp_eq x y).mpr q))))
theorem k_lc_ne (hx : p.tables.exec = Jvm.exec) (hb : c.code = cc) {x y : Int64} {off : Int} {tgt : Nat} {rest : List Value} (d1 : decode cc pc = .ok (.lcmp, 1)) (d2 : decode cc (pc + 1) = .ok (.ifCond .ne off, 3)) (ht : ((pc + 1 : Nat) : Int) + off = (tgt : Int))
    (kt : ¬ x = y → W p l e R s m args below meth c H locs cells slots Q (F0 m tgt ls rest)) (kf : x = y → W p l e R s m args below meth c H locs cells slots Q (F0 m (pc + 1 + 3) ls rest)) : W p l e R s m args below meth c H locs cells slots Q (F0 m pc ls (.long y :: .long x :: rest)) :=
  W.lcmp hx hb d1 (lv_if_ne hx hb d2 ht (fun h => kt (fun q => h ((lg_cmp_eq x y).mpr q))) (fun h => kf ((lg_cmp_eq x y).mp h)))
end RETS
end KB
/-- an object that is only read: a Four -/
def Fo (D : va_G) (H : Heap) (y : Nat) (v : Q4) : Prop := va_P D vwCl [(y, f4 v)] H
theorem Fo.of {D : va_G} {H : Heap} {ws : va_W} {y : Nat} {v : Q4} (hP : va_P D vwCl ws H) (i : Nat) (hi : ws[i]? = some (y, f4 v)) : Fo D H y v := by
  intro k q hk
  match k, hk with
  | 0, hk => cases hk; exact hP i _ hi
  | k + 1, hk => simp at hk
theorem Fo.lt {D : va_G} {H : Heap} {y : Nat} {v : Q4} (h : Fo D H y v) : y < H.size := va_at.lt (h 0 _ rfl)
theorem Fo.mov {D : va_G} {H H1 : Heap} {y : Nat} {v : Q4} (h : Fo D H y v) (hq : H1[y]? = H[y]?) : Fo D H1 y v := by
  refine va_P.kept h (fun k q hk => ?_)
  match k, hk with
  | 0, hk => cases hk; exact hq
  | k + 1, hk => simp at hk
theorem Fo.keep {D : va_G} {H0 H : Heap} {y : Nat} {v : Q4} {A : Nat → Prop} {locs : List Loc} (h : Fo D H0 y v) (hS : va_S A H0 H locs) (hn : ¬ A y) : Fo D H y v := h.mov (hS.2.1 y h.lt hn)
/-- nothing old is in the set of a method that has no cells of its own -/
theorem k_new {A : Nat → Prop} {n : Nat} (h : ∀ q, A q → (∃ (k : Nat) (e : va_E), ([] : va_W)[k]? = some (q, e)) ∨ n ≤ q) {y : Nat} (hy : y < n) : ¬ A y := fun q => by
  rcases h y q with ⟨k, e, h⟩ | h
  · simp at h
  · omega
theorem L4_s0 (v : Q4) (x : Int64) : vp_updL (L4 v) (0 : Int32).toNatClampNeg x = L4 (x, v.2.1, v.2.2.1, v.2.2.2) := L4_u0 v x
theorem L4_s1 (v : Q4) (x : Int64) : vp_updL (L4 v) (1 : Int32).toNatClampNeg x = L4 (v.1, x, v.2.2.1, v.2.2.2) := L4_u1 v x
theorem L4_s2 (v : Q4) (x : Int64) : vp_updL (L4 v) (2 : Int32).toNatClampNeg x = L4 (v.1, v.2.1, x, v.2.2.2) := L4_u2 v x
theorem L4_s3 (v : Q4) (x : Int64) : vp_updL (L4 v) (3 : Int32).toNatClampNeg x = L4 (v.1, v.2.1, v.2.2.1, x) := L4_u3 v x
theorem bI_nar (b : Bool) : narrow .boolean (.int (bI b)) = .int (bI b) := by cases b <;> rfl
theorem vin {i : Int32} {n : Nat} (h : ¬ (i < 0 ∨ n ≤ i.toNatClampNeg)) : vp_in i n := h
theorem bI_z0 {b : Bool} (h : bI b = 0) : b = false := by cases b <;> first | rfl | exact absurd h (by decide)
theorem bI_z1 {b : Bool} (h : ¬ bI b = 0) : b = true := by cases b <;> first | rfl | exact absurd rfl h
