section NTT
theorem nt_kind (t : FieldType) : (Native.java_lang_System.arraycopy.kindName t).toList.length ≤ 12 := by
  cases t with
  | object c => exact (by decide : "object array".toList.length ≤ 12)
  | array c => exact (by decide : "object array".toList.length ≤ 12)
  | _ => decide
theorem nt_int (i : Int) (h : i.natAbs < 10 ^ 10) : (toString i).toList.length ≤ 11 := by
  show (Int.repr i).toList.length ≤ 11
  cases h9 : i with
  | ofNat m =>
    rw [h9] at h
    have := nat_print (n := m) (by simpa using h)
    show (toString m).toList.length ≤ 11
    omega
  | negSucc m =>
    rw [h9] at h
    have := nat_print (n := m.succ) (by simpa using h)
    show ("-" ++ toString m.succ).toList.length ≤ 11
    rw [String.toList_append, List.length_append]
    have h0 : "-".toList.length = 1 := by decide
    omega
abbrev nt_ar (t : FieldType) (n : Nat) : String := toString (Native.java_lang_System.arraycopy.kindName t) ++ toString "[" ++ toString n ++ toString "]"
theorem nt_arr (t : FieldType) {n : Nat} (h : n < 2 ^ 31) : (nt_ar t n).toList.length ≤ 24 := by
  show (toString (Native.java_lang_System.arraycopy.kindName t) ++ toString "[" ++ toString n ++ toString "]").toList.length ≤ 24
  simp only [String.toList_append, List.length_append]
  have a1 : (toString "[").toList.length = 1 := by decide
  have a2 : (toString "]").toList.length = 1 := by decide
  have a3 := nt_kind t
  have a4 := nat_print (n := n) (by omega)
  have a5 : (toString (Native.java_lang_System.arraycopy.kindName t)).toList.length ≤ 12 := a3
  omega
theorem nt_what {sT dT : FieldType} {sl dl : Nat} {a b n : Int32} {what : String} (hs : sl < 2 ^ 31) (hd : dl < 2 ^ 31) (h : copyFault sT dT sl dl a b n = some what) : what.toList.length ≤ 80 := by
  have i1 := int32_print a
  have i2 := int32_print b
  have i3 := int32_print n
  have k1 := nt_arr sT hs
  have k2 := nt_arr dT hd
  have q1 := Int32.toInt_lt a
  have q2 := Int32.le_toInt a
  have q3 := Int32.toInt_lt b
  have q4 := Int32.le_toInt b
  have q5 := Int32.toInt_lt n
  have q6 := Int32.le_toInt n
  have j1 := nt_int (a.toInt + n.toInt) (by omega)
  have j2 := nt_int (b.toInt + n.toInt) (by omega)
  have l1 : (toString "source index ").toList.length = 13 := by decide
  have l2 : (toString " out of bounds for ").toList.length = 19 := by decide
  have l3 : (toString "destination index ").toList.length = 18 := by decide
  have l4 : (toString "length ").toList.length = 7 := by decide
  have l5 : (toString " is negative").toList.length = 12 := by decide
  have l6 : (toString "last source index ").toList.length = 18 := by decide
  have l7 : (toString "last destination index ").toList.length = 23 := by decide
  unfold copyFault at h
  split at h
  · cases h
    show (toString "source index " ++ toString a ++ toString " out of bounds for " ++ toString (nt_ar sT sl)).toList.length ≤ 80
    simp only [String.toList_append, List.length_append]
    have : (toString (nt_ar sT sl)).toList.length ≤ 24 := k1
    omega
  · split at h
    · cases h
      show (toString "destination index " ++ toString b ++ toString " out of bounds for " ++ toString (nt_ar dT dl)).toList.length ≤ 80
      simp only [String.toList_append, List.length_append]
      have : (toString (nt_ar dT dl)).toList.length ≤ 24 := k2
      omega
    · split at h
      · cases h
        show (toString "length " ++ toString n ++ toString " is negative").toList.length ≤ 80
        simp only [String.toList_append, List.length_append]
        omega
      · split at h
        · cases h
          show (toString "last source index " ++ toString (a.toInt + n.toInt) ++ toString " out of bounds for " ++ toString (nt_ar sT sl)).toList.length ≤ 80
          simp only [String.toList_append, List.length_append]
          have : (toString (nt_ar sT sl)).toList.length ≤ 24 := k1
          omega
        · split at h
          · cases h
            show (toString "last destination index " ++ toString (b.toInt + n.toInt) ++ toString " out of bounds for " ++ toString (nt_ar dT dl)).toList.length ≤ 80
            simp only [String.toList_append, List.length_append]
            have : (toString (nt_ar dT dl)).toList.length ≤ 24 := k2
            omega
          · cases h
theorem nt_text {what : String} (h : what.toList.length ≤ 80) : (("arraycopy: " ++ what) == notModelled) = false ∧ (stringBytes (stringToUtf16 ("arraycopy: " ++ what))).size ≤ 400 := by
  constructor
  · rw [beq_eq_false_iff_ne]
    intro h
    have h2 := congrArg String.toList h
    rw [String.toList_append, show "arraycopy: ".toList = 'a' :: "rraycopy: ".toList from by decide] at h2
    have h4 : notModelled.toList = '\u0000' :: " a message that is not modelled".toList := by decide
    rw [h4] at h2
    simp at h2
  · have b1 := stringBytes_size_le (stringToUtf16 ("arraycopy: " ++ what))
    have b2 := utf16_size_le ("arraycopy: " ++ what)
    have b3 : ("arraycopy: " ++ what).toList.length ≤ 91 := by
      rw [String.toList_append, List.length_append]
      have : "arraycopy: ".toList.length = 11 := by decide
      omega
    omega
end NTT
section NTX
variable {p : Program} {l : Launch} {e : Env} {R : Room} {s : State} {m : MethodId} {args : Array Value} {below : List Frame} {meth : Method} {c : Code} {H : Heap} {locs : List Loc} {cells slots : Nat} {Q : State → Prop}
variable {cc : ByteArray} {pc k n : Nat} {ls : Array Slot} {rest : List Value} {D : va_G} {cl : List vw_C} {a : Nat} {tys : List (ClassId × FieldType)} {ws : va_W} {own : String} {index : Nat}
theorem nt_lenN (hexec : p.tables.exec = Jvm.exec) (hb : c.code = cc) (hml : c.maxLocals = ls.size) (hown : s.vm.findClass own = some m.cls) (hlink : (Cond.methodLink own index NT.getLengthN).before args s = true) (hnat : (Cond.native NT.getLengthN).before args s = true) (hstat : (Cond.static NT.getLengthN).before args s = true) (hini : (Cond.initialized "java/lang/reflect/Array").before args s = true)
    (hframes : 1 ≤ R.frames) (hlocals : (rest.map fun v => v.category).sum + 15 ≤ R.locals) (hdg : decode cc pc = .ok (.invokestatic index, 3)) (hnote : nt_Note p l e R s m args below meth c H locs cells slots (F0 m pc ls rest) "java/lang/NullPointerException" none k n)
    (kk : ∀ (H1 : Heap) (q9 : Addr) (ce : Cell), H.size ≤ H1.size → (∀ q : Nat, q < H.size → H1[q]? = H[q]?) → H1[q9]? = some ce → ce.vm = .none → s.vm.findClass "java/lang/NullPointerException" = some ce.cls → vx_W p l e R s m args below meth c H1 locs (cells + k) (slots + n) Q (F0 m pc ls rest) q9) :
    W p l e R s m args below meth c H locs cells slots Q (F0 m pc ls (.null :: rest)) :=
  nt_call (As := [.null]) (words := 1) (ps := [.object "java/lang/Object"]) (ret := some .int) (row := Native.java_lang_reflect_Array.newArray.rowGetLength) hexec hb hml hown hlink hnat hstat hini (by decide +kernel) (getLength_row p) (by decide) rfl rfl (fun x hst hps => by simp [seenByNative, hst, hps, narrow])
    (fun U fs P _ _ hP => by
      show wp (do Jvm.mark "nat.java_lang_reflect_Array.getLength/null"; Jvm.throwNew "java/lang/NullPointerException") _ P e false [] (U.setFrames fs)
      simpa [Jvm.W.throwNew] using hP []) hdg hframes (by show _ + (nativeFrameWords "java/lang/reflect/Array" _ _ + 11) ≤ _; rw [NT.plainArray]; omega) hnote kk
theorem nt_getN (hexec : p.tables.exec = Jvm.exec) (hb : c.code = cc) (hml : c.maxLocals = ls.size) (hown : s.vm.findClass own = some m.cls) (hlink : (Cond.methodLink own index NT.getLongN).before args s = true) (hnat : (Cond.native NT.getLongN).before args s = true) (hstat : (Cond.static NT.getLongN).before args s = true) (hini : (Cond.initialized "java/lang/reflect/Array").before args s = true) {i : Int32}
    (hframes : 1 ≤ R.frames) (hlocals : (rest.map fun v => v.category).sum + 15 ≤ R.locals) (hdg : decode cc pc = .ok (.invokestatic index, 3)) (hnote : nt_Note p l e R s m args below meth c H locs cells slots (F0 m pc ls rest) "java/lang/NullPointerException" none k n)
    (kk : ∀ (H1 : Heap) (q9 : Addr) (ce : Cell), H.size ≤ H1.size → (∀ q : Nat, q < H.size → H1[q]? = H[q]?) → H1[q9]? = some ce → ce.vm = .none → s.vm.findClass "java/lang/NullPointerException" = some ce.cls → vx_W p l e R s m args below meth c H1 locs (cells + k) (slots + n) Q (F0 m pc ls rest) q9) :
    W p l e R s m args below meth c H locs cells slots Q (F0 m pc ls (.int i :: .null :: rest)) :=
  nt_call (As := [.null, .int i]) (words := 2) (ps := [.object "java/lang/Object", .int]) (ret := some .long) (row := Native.java_lang_reflect_Array.elements.getX "Long" "J" "nat.java_lang_reflect_Array.getLong" .long) hexec hb hml hown hlink hnat hstat hini (by decide +kernel) (Native.java_lang_reflect_Array.elements.getLong_row p) (by decide) rfl rfl (fun x hst hps => by simp [seenByNative, hst, hps, narrow])
    (fun U fs P _ _ hP => Jvm.W.getX_null.mpr (hP _)) hdg hframes (by show _ + (nativeFrameWords "java/lang/reflect/Array" _ _ + 11) ≤ _; rw [NT.plainArray]; omega) hnote kk
theorem nt_getO (hexec : p.tables.exec = Jvm.exec) (hb : c.code = cc) (hml : c.maxLocals = ls.size) (hown : s.vm.findClass own = some m.cls) (hlink : (Cond.methodLink own index NT.getLongN).before args s = true) (hnat : (Cond.native NT.getLongN).before args s = true) (hstat : (Cond.static NT.getLongN).before args s = true) (hini : (Cond.initialized "java/lang/reflect/Array").before args s = true)
    (hK : va_K D cl tys s) (hP : va_P D cl ws H) (q0 t0 : Nat) {cA : ClassId} {nn : Nat} {x : (Nat → Int32) ⊕ (Nat → Int64) ⊕ (Nat → UInt32) ⊕ (Nat → UInt64) ⊕ (Nat → Option Nat)} {ty : FieldType} (ha : ws[q0]? = some (a, .inl (cA, nn, x))) (ht : tys[t0]? = some (cA, ty)) {i : Int32} (ho : i < 0 ∨ nn ≤ i.toNatClampNeg) (href : Native.java_lang_reflect_Array.elements.isReference ty = false)
    (hframes : 1 ≤ R.frames) (hlocals : (rest.map fun v => v.category).sum + 15 ≤ R.locals) (hdg : decode cc pc = .ok (.invokestatic index, 3)) (hnote : nt_Note p l e R s m args below meth c H locs cells slots (F0 m pc ls rest) "java/lang/ArrayIndexOutOfBoundsException" none k n)
    (kk : ∀ (H1 : Heap) (q9 : Addr) (ce : Cell), H.size ≤ H1.size → (∀ q : Nat, q < H.size → H1[q]? = H[q]?) → H1[q9]? = some ce → ce.vm = .none → s.vm.findClass "java/lang/ArrayIndexOutOfBoundsException" = some ce.cls → vx_W p l e R s m args below meth c H1 locs (cells + k) (slots + n) Q (F0 m pc ls rest) q9) :
    W p l e R s m args below meth c H locs cells slots Q (F0 m pc ls (.int i :: .ref a :: rest)) := by
  have hc : H[a]? = some (vp_cell cA (nn, x)) := hP q0 _ ha
  have hsz : (vp_cell cA (nn, x)).slots.size = nn := by
    rcases x with f | f | f | f | f <;> exact arrV_size _ _ _
  have hst : ∀ y, (vp_cell cA (nn, x)).vm ≠ .statics y := by
    intro y
    rcases x with f | f | f | f | f <;> exact fun h => by cases h
  obtain ⟨-, k0, hk0, cm0, hkk0⟩ := (hK.2 t0 _ ht).1 nn (fun j => .null)
  have hk0 : s.vm.classes[cA]? = some k0 := hk0
  refine nt_call (As := [.ref a, .int i]) (words := 2) (ps := [.object "java/lang/Object", .int]) (ret := some .long) (row := Native.java_lang_reflect_Array.elements.getX "Long" "J" "nat.java_lang_reflect_Array.getLong" .long) hexec hb hml hown hlink hnat hstat hini (by decide +kernel) (Native.java_lang_reflect_Array.elements.getLong_row p) (by decide) rfl rfl (fun x hst hps => by simp [seenByNative, hst, hps, narrow])
    (fun U fs P hU hal hP => ?_) hdg hframes (by show _ + (nativeFrameWords "java/lang/reflect/Array" _ _ + 11) ≤ _; rw [NT.plainArray]; omega) hnote kk
  obtain ⟨k', hk', he⟩ := hal.2.2 _ _ hk0
  exact (Jvm.W.getX_bounds (s := U.setFrames fs) (c := vp_cell cA (nn, x)) (k := k') (comp := cm0) (type := ty) (by show U.heap[a]? = _; rw [hU]; exact hc) hst (by show U.vm.classes[(vp_cell cA (nn, x)).cls]? = _; rw [vp_cell_cls]; exact hk') (by rw [he]; exact hkk0) href (by rw [hsz]; exact ho)).mpr (hP _)
theorem nt_cpN (hexec : p.tables.exec = Jvm.exec) (hb : c.code = cc) (hml : c.maxLocals = ls.size) (hown : s.vm.findClass own = some m.cls) (hlink : (Cond.methodLink own index arraycopyName).before args s = true) (hnat : (Cond.native arraycopyName).before args s = true) (hstat : (Cond.static arraycopyName).before args s = true) (hini : (Cond.initialized "java/lang/System").before args s = true) {i j z : Int32} {x y : Option Nat} (hxy : x = none ∨ y = none)
    (hframes : 1 ≤ R.frames) (hlocals : (rest.map fun v => v.category).sum + (nativeFrameWords "java/lang/System" "arraycopy" 5 + 11) ≤ R.locals) (hdg : decode cc pc = .ok (.invokestatic index, 3)) (hnote : nt_Note p l e R s m args below meth c H locs cells slots (F0 m pc ls rest) "java/lang/NullPointerException" none k n)
    (kk : ∀ (H1 : Heap) (q9 : Addr) (ce : Cell), H.size ≤ H1.size → (∀ q : Nat, q < H.size → H1[q]? = H[q]?) → H1[q9]? = some ce → ce.vm = .none → s.vm.findClass "java/lang/NullPointerException" = some ce.cls → vx_W p l e R s m args below meth c H1 locs (cells + k) (slots + n) Q (F0 m pc ls rest) q9) :
    W p l e R s m args below meth c H locs cells slots Q (F0 m pc ls (.int z :: .int j :: va_rf y :: .int i :: va_rf x :: rest)) := by
  refine nt_call (As := [va_rf x, .int i, va_rf y, .int j, .int z]) (words := 5) (ps := [.object "java/lang/Object", .int, .object "java/lang/Object", .int, .int]) (ret := none) (row := arraycopyRow) hexec hb hml hown hlink hnat hstat hini (by decide +kernel) (arraycopy_row p) (by decide) rfl (by cases x <;> cases y <;> rfl) (fun w hst hps => by cases x <;> cases y <;> simp [seenByNative, hst, hps, narrow, va_rf])
    (fun U fs P _ _ hP => ?_) hdg hframes hlocals hnote kk
  show wp (Native.java_lang_System.arraycopy.sem #[va_rf x, .int i, va_rf y, .int j, .int z]) _ P e false [] (U.setFrames fs)
  have key : wp (do Jvm.mark "nat.java_lang_System.arraycopy/null"; Jvm.throwNew "java/lang/NullPointerException" : Sem (Option Value)) (fun _ _ _ _ => False) P e false [] (U.setFrames fs) := by simpa [Jvm.W.throwNew] using hP []
  rcases hxy with rfl | rfl
  · cases y <;> exact key
  · cases x <;> exact key
theorem nt_cpO (hexec : p.tables.exec = Jvm.exec) (hb : c.code = cc) (hml : c.maxLocals = ls.size) (hown : s.vm.findClass own = some m.cls) (hlink : (Cond.methodLink own index arraycopyName).before args s = true) (hnat : (Cond.native arraycopyName).before args s = true) (hstat : (Cond.static arraycopyName).before args s = true) (hini : (Cond.initialized "java/lang/System").before args s = true) {i j z : Int32}
    (hK : va_K D cl tys s) (hP : va_P D cl ws H) (q0 q1 t0 : Nat) {b : Nat} {cA : ClassId} {n0 n1 : Nat} {x y : (Nat → Int32) ⊕ (Nat → Int64) ⊕ (Nat → UInt32) ⊕ (Nat → UInt64) ⊕ (Nat → Option Nat)} {ty : FieldType} (ha : ws[q0]? = some (a, .inl (cA, n0, x))) (ha1 : ws[q1]? = some (b, .inl (cA, n1, y))) (ht : tys[t0]? = some (cA, ty)) {what : String} (hf : copyFault ty ty n0 n1 i j z = some what)
    (hframes : 1 ≤ R.frames) (hlocals : (rest.map fun v => v.category).sum + (nativeFrameWords "java/lang/System" "arraycopy" 5 + 11) ≤ R.locals) (hdg : decode cc pc = .ok (.invokestatic index, 3)) (hnote : nt_Note p l e R s m args below meth c H locs cells slots (F0 m pc ls rest) "java/lang/ArrayIndexOutOfBoundsException" (some ("arraycopy: " ++ what)) k n)
    (kk : ∀ (H1 : Heap) (q9 : Addr) (ce : Cell), H.size ≤ H1.size → (∀ q : Nat, q < H.size → H1[q]? = H[q]?) → H1[q9]? = some ce → ce.vm = .none → s.vm.findClass "java/lang/ArrayIndexOutOfBoundsException" = some ce.cls → vx_W p l e R s m args below meth c H1 locs (cells + k) (slots + n) Q (F0 m pc ls rest) q9) :
    W p l e R s m args below meth c H locs cells slots Q (F0 m pc ls (.int z :: .int j :: .ref b :: .int i :: .ref a :: rest)) := by
  have hc : H[a]? = some (vp_cell cA (n0, x)) := hP q0 _ ha
  have hc1 : H[b]? = some (vp_cell cA (n1, y)) := hP q1 _ ha1
  have hsz : ∀ (n : Nat) (x : (Nat → Int32) ⊕ (Nat → Int64) ⊕ (Nat → UInt32) ⊕ (Nat → UInt64) ⊕ (Nat → Option Nat)), (vp_cell cA (n, x)).slots.size = n := fun n x => by
    rcases x with f | f | f | f | f <;> exact arrV_size _ _ _
  have hst : ∀ (n : Nat) (x : (Nat → Int32) ⊕ (Nat → Int64) ⊕ (Nat → UInt32) ⊕ (Nat → UInt64) ⊕ (Nat → Option Nat)) (y : ClassId), (vp_cell cA (n, x)).vm ≠ .statics y := by
    intro n x y
    rcases x with f | f | f | f | f <;> exact fun h => by cases h
  obtain ⟨-, k0, hk0, cm0, hkk0⟩ := (hK.2 t0 _ ht).1 n0 (fun j => .null)
  have hk0 : s.vm.classes[cA]? = some k0 := hk0
  refine nt_call (As := [.ref a, .int i, .ref b, .int j, .int z]) (words := 5) (ps := [.object "java/lang/Object", .int, .object "java/lang/Object", .int, .int]) (ret := none) (row := arraycopyRow) hexec hb hml hown hlink hnat hstat hini (by decide +kernel) (arraycopy_row p) (by decide) rfl rfl (fun w hst hps => by simp [seenByNative, hst, hps, narrow])
    (fun U fs P hU hal hP => ?_) hdg hframes hlocals hnote kk
  obtain ⟨k', hk', he⟩ := hal.2.2 _ _ hk0
  exact Jvm.W.arraycopy_bounds (s := U.setFrames fs) (cs := vp_cell cA (n0, x)) (cd := vp_cell cA (n1, y)) (ks := k') (kd := k') (sComp := cm0) (dComp := cm0) (sType := ty) (dType := ty) (what := what) (by show U.heap[a]? = _; rw [hU]; exact hc) (by show U.heap[b]? = _; rw [hU]; exact hc1) (hst _ _) (hst _ _)
    (by show U.vm.classes[(vp_cell cA (n0, x)).cls]? = _; rw [vp_cell_cls]; exact hk') (by show U.vm.classes[(vp_cell cA (n1, y)).cls]? = _; rw [vp_cell_cls]; exact hk') (by rw [he]; exact hkk0) (by rw [he]; exact hkk0) (by cases refKind ty <;> simp) (by rw [hsz, hsz]; exact hf) (hP _)
end NTX
