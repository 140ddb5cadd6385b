-- ===== PART A: goes FIRST, ahead of the names: the tables' words, and 'selects' of the private methods out of them =====
/-- a private method of a class that the tables say can be made, by its rows of tables_1 -/
def lw_okq (q : MethodName × Nat) : Prop := (q.1.cls ≠ "java/lang/invoke/MethodHandle" ∧ q.1.cls ≠ "java/lang/invoke/VarHandle") ∧ Cond.instantiable q.1.cls q.2 ∈ tables_1 ∧ Cond.privateMethod q.1 ∈ tables_1 ∧ Cond.instanceMethod q.1 ∈ tables_1
set_option maxRecDepth 100000
theorem lw_t1 {w : Cond} (h : w ∈ tables_1_1) : w ∈ tables_1 := List.mem_append_left _ h
theorem lw_t2 {w : Cond} (h : w ∈ tables_1_2) : w ∈ tables_1 := List.mem_append_right _ (List.mem_append_left _ h)
theorem lw_t3 {w : Cond} (h : w ∈ tables_1_3) : w ∈ tables_1 := List.mem_append_right _ (List.mem_append_right _ (List.mem_append_left _ h))
theorem lw_t4 {w : Cond} (h : w ∈ tables_1_4) : w ∈ tables_1 := List.mem_append_right _ (List.mem_append_right _ (List.mem_append_right _ h))
theorem lw_p0 : lw_okq (⟨"java/lang/NullPointerException", "getExtendedNPEMessage", "()Ljava/lang/String;"⟩, 8) := ⟨⟨by decide +kernel, by decide +kernel⟩, lw_t1 (List.mem_of_getElem? (i := 54) rfl), lw_t1 (List.mem_of_getElem? (i := 52) rfl), lw_t1 (List.mem_of_getElem? (i := 53) rfl)⟩
theorem lw_p1 : lw_okq (⟨"java/lang/Throwable", "fillInStackTrace", "(I)Ljava/lang/Throwable;"⟩, 6) := ⟨⟨by decide +kernel, by decide +kernel⟩, lw_t1 (List.mem_of_getElem? (i := 66) rfl), lw_t1 (List.mem_of_getElem? (i := 64) rfl), lw_t1 (List.mem_of_getElem? (i := 65) rfl)⟩
theorem lw_p2 : lw_okq (⟨"FourParts", "hold", "(ILFourParts$Four;)I"⟩, 5) := ⟨⟨by decide +kernel, by decide +kernel⟩, lw_t1 (List.mem_of_getElem? (i := 198) rfl), lw_t2 (List.mem_of_getElem? (i := 63) rfl), lw_t2 (List.mem_of_getElem? (i := 64) rfl)⟩
theorem lw_p3 : lw_okq (⟨"FourParts", "unitOf", "(LFourParts$Four;)I"⟩, 5) := ⟨⟨by decide +kernel, by decide +kernel⟩, lw_t1 (List.mem_of_getElem? (i := 198) rfl), lw_t2 (List.mem_of_getElem? (i := 115) rfl), lw_t2 (List.mem_of_getElem? (i := 116) rfl)⟩
theorem lw_p4 : lw_okq (⟨"FourParts$Listing", "last", "(IIIIZ)V"⟩, 6) := ⟨⟨by decide +kernel, by decide +kernel⟩, lw_t3 (List.mem_of_getElem? (i := 6) rfl), lw_t3 (List.mem_of_getElem? (i := 37) rfl), lw_t3 (List.mem_of_getElem? (i := 38) rfl)⟩
theorem lw_p5 : lw_okq (⟨"FourParts$Listing", "meet", "(IIIIZ)V"⟩, 6) := ⟨⟨by decide +kernel, by decide +kernel⟩, lw_t3 (List.mem_of_getElem? (i := 6) rfl), lw_t3 (List.mem_of_getElem? (i := 41) rfl), lw_t3 (List.mem_of_getElem? (i := 42) rfl)⟩
theorem lw_p6 : lw_okq (⟨"FourPartsModel", "against", "(III)I"⟩, 18) := ⟨⟨by decide +kernel, by decide +kernel⟩, lw_t3 (List.mem_of_getElem? (i := 67) rfl), lw_t3 (List.mem_of_getElem? (i := 147) rfl), lw_t3 (List.mem_of_getElem? (i := 148) rfl)⟩
theorem lw_p7 : lw_okq (⟨"FourPartsModel", "cut", "(IJ)J"⟩, 18) := ⟨⟨by decide +kernel, by decide +kernel⟩, lw_t3 (List.mem_of_getElem? (i := 67) rfl), lw_t3 (List.mem_of_getElem? (i := 151) rfl), lw_t3 (List.mem_of_getElem? (i := 152) rfl)⟩
theorem lw_p8 : lw_okq (⟨"FourPartsModel", "holds", "(I[J)I"⟩, 18) := ⟨⟨by decide +kernel, by decide +kernel⟩, lw_t3 (List.mem_of_getElem? (i := 67) rfl), lw_t3 (List.mem_of_getElem? (i := 180) rfl), lw_t3 (List.mem_of_getElem? (i := 181) rfl)⟩
theorem lw_p9 : lw_okq (⟨"FourPartsModel", "store", "(I[J)V"⟩, 18) := ⟨⟨by decide +kernel, by decide +kernel⟩, lw_t3 (List.mem_of_getElem? (i := 67) rfl), lw_t3 (List.mem_of_getElem? (i := 187) rfl), lw_t3 (List.mem_of_getElem? (i := 188) rfl)⟩
theorem lw_p10 : lw_okq (⟨"FourPartsModel", "load", "([JI)V"⟩, 18) := ⟨⟨by decide +kernel, by decide +kernel⟩, lw_t3 (List.mem_of_getElem? (i := 67) rfl), lw_t3 (List.mem_of_getElem? (i := 197) rfl), lw_t3 (List.mem_of_getElem? (i := 198) rfl)⟩
theorem lw_p11 : lw_okq (⟨"FourPartsModel", "isPrimitive", "([J)Z"⟩, 18) := ⟨⟨by decide +kernel, by decide +kernel⟩, lw_t3 (List.mem_of_getElem? (i := 67) rfl), lw_t3 (List.mem_of_getElem? (i := 205) rfl), lw_t3 (List.mem_of_getElem? (i := 206) rfl)⟩
theorem lw_p12 : lw_okq (⟨"FourPartsModel", "unitOf", "([J)I"⟩, 18) := ⟨⟨by decide +kernel, by decide +kernel⟩, lw_t3 (List.mem_of_getElem? (i := 67) rfl), lw_t3 (List.mem_of_getElem? (i := 215) rfl), lw_t3 (List.mem_of_getElem? (i := 216) rfl)⟩
theorem lw_p13 : lw_okq (⟨"FourPartsModel", "loadUnit", "([JI)V"⟩, 18) := ⟨⟨by decide +kernel, by decide +kernel⟩, lw_t3 (List.mem_of_getElem? (i := 67) rfl), lw_t3 (List.mem_of_getElem? (i := 235) rfl), lw_t3 (List.mem_of_getElem? (i := 236) rfl)⟩
theorem lw_p14 : lw_okq (⟨"FourPartsModel", "divideBy", "([J[JI)V"⟩, 18) := ⟨⟨by decide +kernel, by decide +kernel⟩, lw_t3 (List.mem_of_getElem? (i := 67) rfl), lw_t4 (List.mem_of_getElem? (i := 3) rfl), lw_t4 (List.mem_of_getElem? (i := 4) rfl)⟩
theorem lw_p15 : lw_okq (⟨"FourPartsModel", "findDivisor", "(I)V"⟩, 18) := ⟨⟨by decide +kernel, by decide +kernel⟩, lw_t3 (List.mem_of_getElem? (i := 67) rfl), lw_t4 (List.mem_of_getElem? (i := 17) rfl), lw_t4 (List.mem_of_getElem? (i := 18) rfl)⟩
def lw_privs_1 : List (MethodName × Nat) := [(⟨"java/lang/NullPointerException", "getExtendedNPEMessage", "()Ljava/lang/String;"⟩, 8), (⟨"java/lang/Throwable", "fillInStackTrace", "(I)Ljava/lang/Throwable;"⟩, 6), (⟨"FourParts", "hold", "(ILFourParts$Four;)I"⟩, 5), (⟨"FourParts", "unitOf", "(LFourParts$Four;)I"⟩, 5), (⟨"FourParts$Listing", "last", "(IIIIZ)V"⟩, 6), (⟨"FourParts$Listing", "meet", "(IIIIZ)V"⟩, 6), (⟨"FourPartsModel", "against", "(III)I"⟩, 18), (⟨"FourPartsModel", "cut", "(IJ)J"⟩, 18), (⟨"FourPartsModel", "holds", "(I[J)I"⟩, 18), (⟨"FourPartsModel", "store", "(I[J)V"⟩, 18), (⟨"FourPartsModel", "load", "([JI)V"⟩, 18), (⟨"FourPartsModel", "isPrimitive", "([J)Z"⟩, 18), (⟨"FourPartsModel", "unitOf", "([J)I"⟩, 18), (⟨"FourPartsModel", "loadUnit", "([JI)V"⟩, 18), (⟨"FourPartsModel", "divideBy", "([J[JI)V"⟩, 18), (⟨"FourPartsModel", "findDivisor", "(I)V"⟩, 18)]
theorem lw_r1 : ∀ q ∈ lw_privs_1, lw_okq q := List.forall_mem_cons.mpr ⟨lw_p0, List.forall_mem_cons.mpr ⟨lw_p1, List.forall_mem_cons.mpr ⟨lw_p2, List.forall_mem_cons.mpr ⟨lw_p3, List.forall_mem_cons.mpr ⟨lw_p4, List.forall_mem_cons.mpr ⟨lw_p5, List.forall_mem_cons.mpr ⟨lw_p6, List.forall_mem_cons.mpr ⟨lw_p7, List.forall_mem_cons.mpr ⟨lw_p8, List.forall_mem_cons.mpr ⟨lw_p9, List.forall_mem_cons.mpr ⟨lw_p10, List.forall_mem_cons.mpr ⟨lw_p11, List.forall_mem_cons.mpr ⟨lw_p12, List.forall_mem_cons.mpr ⟨lw_p13, List.forall_mem_cons.mpr ⟨lw_p14, List.forall_mem_cons.mpr ⟨lw_p15, fun _ h => absurd h List.not_mem_nil⟩⟩⟩⟩⟩⟩⟩⟩⟩⟩⟩⟩⟩⟩⟩⟩
theorem lw_p16 : lw_okq (⟨"FourPartsModel", "goThrough", "(III)I"⟩, 18) := ⟨⟨by decide +kernel, by decide +kernel⟩, lw_t3 (List.mem_of_getElem? (i := 67) rfl), lw_t4 (List.mem_of_getElem? (i := 47) rfl), lw_t4 (List.mem_of_getElem? (i := 48) rfl)⟩
theorem lw_p17 : lw_okq (⟨"FourPartsModel", "entry", "(III)J"⟩, 18) := ⟨⟨by decide +kernel, by decide +kernel⟩, lw_t3 (List.mem_of_getElem? (i := 67) rfl), lw_t4 (List.mem_of_getElem? (i := 64) rfl), lw_t4 (List.mem_of_getElem? (i := 65) rfl)⟩
def lw_privs_2 : List (MethodName × Nat) := [(⟨"FourPartsModel", "goThrough", "(III)I"⟩, 18), (⟨"FourPartsModel", "entry", "(III)J"⟩, 18)]
theorem lw_r2 : ∀ q ∈ lw_privs_2, lw_okq q := List.forall_mem_cons.mpr ⟨lw_p16, List.forall_mem_cons.mpr ⟨lw_p17, fun _ h => absurd h List.not_mem_nil⟩⟩
def lw_privs : List (MethodName × Nat) := lw_privs_1 ++ (lw_privs_2)
def lw_tbl : List Cond := k2_sels lw_privs ++ tables_1
theorem lw_privs_ok : ∀ q ∈ lw_privs, lw_okq q := by
  show ∀ q ∈ lw_privs_1 ++ (lw_privs_2), lw_okq q
  exact List.forall_mem_append.mpr ⟨lw_r1, lw_r2⟩
-- ===== ONE list of words for every method: the tables' words that hold all through a run =====
def lw_all : List Cond := lw_tbl.filter goodWord
/-- a word of the tables by its place: claim/WORDS.tsv -/
theorem lw_w {w : Cond} (i : Nat) (h : lw_tbl[i]? = some w) (g : goodWord w = true) : w ∈ lw_all := List.mem_filter.mpr ⟨List.mem_of_getElem? h, g⟩
theorem lw_all_tbl {w : Cond} (h : w ∈ lw_all) : w ∈ lw_tbl := (List.mem_filter.mp h).1
theorem lw_self : GoodIn lw_all lw_all := fun w h => ⟨h, good_of_word (List.mem_filter.mp h).2⟩
/-- a class's field words, by their places -/
theorem lw_in (ws : List Cond) (ps : List Nat) (hp : ws = ps.filterMap (fun i => lw_tbl[i]?)) (hg : ws.all goodWord = true) : ∀ w ∈ ws, w ∈ lw_all := by
  intro w h
  have h1 := List.all_eq_true.mp hg w h
  rw [hp] at h
  obtain ⟨i, -, hi⟩ := List.mem_filterMap.mp h
  exact lw_w i hi h1
/-- the words of a contract for the method y with code b, L locals, answer r -/
abbrev ws_ (y : MethodName) (b : ByteArray) (L : Nat) (r : Option FieldType) : List Cond := Cond.code y b L r :: lw_all
theorem lw_meth {y : MethodName} {b : ByteArray} {L : Nat} {r : Option FieldType} (h : Cond.code y b L r ∈ lw_all) : GoodIn lw_all (ws_ y b L r) := by
  intro w hw
  rcases List.mem_cons.mp hw with e | e
  · rw [e]
    exact lw_self _ h
  · exact lw_self _ e
theorem lw_app {a c : List Cond} (ha : ∀ w ∈ a, w ∈ lw_all) (hc : GoodIn lw_all c) : GoodIn lw_all (a ++ c) := by
  intro w hw
  rcases List.mem_append.mp hw with e | e
  · exact lw_self w (ha w e)
  · exact hc w e
/-- what a call through an object asks: cwV n hts (lw_V ..) -/
theorem lw_V {own : String} {idx : Nat} {C : String} {y : MethodName} {b : ByteArray} {L : Nat} {r : Option FieldType} (h1 : Cond.methodLink own idx y ∈ lw_all) (h2 : Cond.instanceMethod y ∈ lw_all) (h3 : Cond.selects C y y ∈ lw_all) (h4 : Cond.initialized C ∈ lw_all) (h5 : Cond.code y b L r ∈ lw_all) : GoodIn lw_all (wsV own idx C y (ws_ y b L r)) := by
  refine lw_app ?_ (lw_meth h5)
  intro w hw
  simp only [List.mem_cons, List.not_mem_nil, or_false] at hw
  rcases hw with e | e | e | e
  · rw [e]; exact h1
  · rw [e]; exact h2
  · rw [e]; exact h3
  · rw [e]; exact h4
/-- what a static call asks: va_cwS n hts (lw_S ..) -/
theorem lw_S {own : String} {idx : Nat} {y : MethodName} {b : ByteArray} {L : Nat} {r : Option FieldType} (h1 : Cond.methodLink own idx y ∈ lw_all) (h2 : Cond.static y ∈ lw_all) (h3 : Cond.initialized y.cls ∈ lw_all) (h4 : Cond.code y b L r ∈ lw_all) : GoodIn lw_all (va_wsS own idx y (ws_ y b L r)) := by
  refine lw_app ?_ (lw_meth h4)
  intro w hw
  simp only [List.mem_cons, List.not_mem_nil, or_false] at hw
  rcases hw with e | e | e
  · rw [e]; exact h1
  · rw [e]; exact h2
  · rw [e]; exact h3
/-- the words of a contract for a method WITH HANDLERS (hh: its table) -/
abbrev wsW_ (y : MethodName) (b : ByteArray) (L : Nat) (r : Option FieldType) (hh : List (Nat × Nat × Nat × Nat)) : List Cond := Cond.codeWith y b L r hh :: lw_all
theorem lw_methW {y : MethodName} {b : ByteArray} {L : Nat} {r : Option FieldType} {hh : List (Nat × Nat × Nat × Nat)} (h : Cond.codeWith y b L r hh ∈ lw_all) : GoodIn lw_all (wsW_ y b L r hh) := by
  intro w hw
  rcases List.mem_cons.mp hw with e | e
  · rw [e]
    exact lw_self _ h
  · exact lw_self _ e
/-- any list of words by their places (lw_in), good -/
theorem lw_good {ws : List Cond} (h : ∀ w ∈ ws, w ∈ lw_all) : GoodIn lw_all ws := fun w hw => lw_self w (h w hw)
/-- what a call of a method with handlers asks: vx_cwVW n hts (lw_VW ..), vx_cwSW n hts (lw_SW ..) -/
theorem lw_VW {own : String} {idx : Nat} {C : String} {y : MethodName} {b : ByteArray} {L : Nat} {r : Option FieldType} {hh : List (Nat × Nat × Nat × Nat)} (h1 : Cond.methodLink own idx y ∈ lw_all) (h2 : Cond.instanceMethod y ∈ lw_all) (h3 : Cond.selects C y y ∈ lw_all) (h4 : Cond.initialized C ∈ lw_all) (h5 : Cond.codeWith y b L r hh ∈ lw_all) : GoodIn lw_all (wsV own idx C y (wsW_ y b L r hh)) := by
  refine lw_app ?_ (lw_methW h5)
  intro w hw
  simp only [List.mem_cons, List.not_mem_nil, or_false] at hw
  rcases hw with e | e | e | e
  · rw [e]; exact h1
  · rw [e]; exact h2
  · rw [e]; exact h3
  · rw [e]; exact h4
theorem lw_SW {own : String} {idx : Nat} {y : MethodName} {b : ByteArray} {L : Nat} {r : Option FieldType} {hh : List (Nat × Nat × Nat × Nat)} (h1 : Cond.methodLink own idx y ∈ lw_all) (h2 : Cond.static y ∈ lw_all) (h3 : Cond.initialized y.cls ∈ lw_all) (h4 : Cond.codeWith y b L r hh ∈ lw_all) : GoodIn lw_all (va_wsS own idx y (wsW_ y b L r hh)) := by
  refine lw_app ?_ (lw_methW h4)
  intro w hw
  simp only [List.mem_cons, List.not_mem_nil, or_false] at hw
  rcases hw with e | e | e
  · rw [e]; exact h1
  · rw [e]; exact h2
  · rw [e]; exact h3
/-- a word by its place in its run of the tables -/
theorem lw_at {r : List Cond} (hr : ∀ w ∈ r, w ∈ lw_tbl) {w : Cond} (i : Nat) (h : r[i]? = some w) : w ∈ lw_tbl := hr w (List.mem_of_getElem? h)
theorem lw_g {w : Cond} (h : w ∈ lw_tbl) (g : goodWord w = true) : w ∈ lw_all := List.mem_filter.mpr ⟨h, g⟩
theorem lw_ms : ∀ w ∈ k2_sels lw_privs, w ∈ lw_tbl := fun w h => show w ∈ k2_sels lw_privs ++ tables_1 from List.mem_append_left _ h
theorem lw_m1 : ∀ w ∈ tables_1_1, w ∈ lw_tbl := fun w h => show w ∈ k2_sels lw_privs ++ tables_1 from List.mem_append_right (k2_sels lw_privs) (show w ∈ tables_1 from List.mem_append_left _ h)
theorem lw_m2 : ∀ w ∈ tables_1_2, w ∈ lw_tbl := fun w h => show w ∈ k2_sels lw_privs ++ tables_1 from List.mem_append_right (k2_sels lw_privs) (show w ∈ tables_1 from List.mem_append_right _ (List.mem_append_left _ h))
theorem lw_m3 : ∀ w ∈ tables_1_3, w ∈ lw_tbl := fun w h => show w ∈ k2_sels lw_privs ++ tables_1 from List.mem_append_right (k2_sels lw_privs) (show w ∈ tables_1 from List.mem_append_right _ (List.mem_append_right _ (List.mem_append_left _ h)))
theorem lw_m4 : ∀ w ∈ tables_1_4, w ∈ lw_tbl := fun w h => show w ∈ k2_sels lw_privs ++ tables_1 from List.mem_append_right (k2_sels lw_privs) (show w ∈ tables_1 from List.mem_append_right _ (List.mem_append_right _ (List.mem_append_right _ h)))
theorem qs0 : (Cond.selects "java/lang/NullPointerException" ⟨"java/lang/NullPointerException", "getExtendedNPEMessage", "()Ljava/lang/String;"⟩ ⟨"java/lang/NullPointerException", "getExtendedNPEMessage", "()Ljava/lang/String;"⟩) ∈ lw_all := lw_g (lw_at lw_ms 0 rfl) rfl
theorem qs1 : (Cond.selects "java/lang/Throwable" ⟨"java/lang/Throwable", "fillInStackTrace", "(I)Ljava/lang/Throwable;"⟩ ⟨"java/lang/Throwable", "fillInStackTrace", "(I)Ljava/lang/Throwable;"⟩) ∈ lw_all := lw_g (lw_at lw_ms 1 rfl) rfl
theorem qs2 : (Cond.selects "FourParts" ⟨"FourParts", "hold", "(ILFourParts$Four;)I"⟩ ⟨"FourParts", "hold", "(ILFourParts$Four;)I"⟩) ∈ lw_all := lw_g (lw_at lw_ms 2 rfl) rfl
theorem qs3 : (Cond.selects "FourParts" ⟨"FourParts", "unitOf", "(LFourParts$Four;)I"⟩ ⟨"FourParts", "unitOf", "(LFourParts$Four;)I"⟩) ∈ lw_all := lw_g (lw_at lw_ms 3 rfl) rfl
theorem qs4 : (Cond.selects "FourParts$Listing" ⟨"FourParts$Listing", "last", "(IIIIZ)V"⟩ ⟨"FourParts$Listing", "last", "(IIIIZ)V"⟩) ∈ lw_all := lw_g (lw_at lw_ms 4 rfl) rfl
theorem qs5 : (Cond.selects "FourParts$Listing" ⟨"FourParts$Listing", "meet", "(IIIIZ)V"⟩ ⟨"FourParts$Listing", "meet", "(IIIIZ)V"⟩) ∈ lw_all := lw_g (lw_at lw_ms 5 rfl) rfl
theorem qs6 : (Cond.selects "FourPartsModel" ⟨"FourPartsModel", "against", "(III)I"⟩ ⟨"FourPartsModel", "against", "(III)I"⟩) ∈ lw_all := lw_g (lw_at lw_ms 6 rfl) rfl
theorem qs7 : (Cond.selects "FourPartsModel" ⟨"FourPartsModel", "cut", "(IJ)J"⟩ ⟨"FourPartsModel", "cut", "(IJ)J"⟩) ∈ lw_all := lw_g (lw_at lw_ms 7 rfl) rfl
theorem qs8 : (Cond.selects "FourPartsModel" ⟨"FourPartsModel", "holds", "(I[J)I"⟩ ⟨"FourPartsModel", "holds", "(I[J)I"⟩) ∈ lw_all := lw_g (lw_at lw_ms 8 rfl) rfl
theorem qs9 : (Cond.selects "FourPartsModel" ⟨"FourPartsModel", "store", "(I[J)V"⟩ ⟨"FourPartsModel", "store", "(I[J)V"⟩) ∈ lw_all := lw_g (lw_at lw_ms 9 rfl) rfl
theorem qs10 : (Cond.selects "FourPartsModel" ⟨"FourPartsModel", "load", "([JI)V"⟩ ⟨"FourPartsModel", "load", "([JI)V"⟩) ∈ lw_all := lw_g (lw_at lw_ms 10 rfl) rfl
theorem qs11 : (Cond.selects "FourPartsModel" ⟨"FourPartsModel", "isPrimitive", "([J)Z"⟩ ⟨"FourPartsModel", "isPrimitive", "([J)Z"⟩) ∈ lw_all := lw_g (lw_at lw_ms 11 rfl) rfl
theorem qs12 : (Cond.selects "FourPartsModel" ⟨"FourPartsModel", "unitOf", "([J)I"⟩ ⟨"FourPartsModel", "unitOf", "([J)I"⟩) ∈ lw_all := lw_g (lw_at lw_ms 12 rfl) rfl
theorem qs13 : (Cond.selects "FourPartsModel" ⟨"FourPartsModel", "loadUnit", "([JI)V"⟩ ⟨"FourPartsModel", "loadUnit", "([JI)V"⟩) ∈ lw_all := lw_g (lw_at lw_ms 13 rfl) rfl
theorem qs14 : (Cond.selects "FourPartsModel" ⟨"FourPartsModel", "divideBy", "([J[JI)V"⟩ ⟨"FourPartsModel", "divideBy", "([J[JI)V"⟩) ∈ lw_all := lw_g (lw_at lw_ms 14 rfl) rfl
theorem qs15 : (Cond.selects "FourPartsModel" ⟨"FourPartsModel", "findDivisor", "(I)V"⟩ ⟨"FourPartsModel", "findDivisor", "(I)V"⟩) ∈ lw_all := lw_g (lw_at lw_ms 15 rfl) rfl
theorem qs16 : (Cond.selects "FourPartsModel" ⟨"FourPartsModel", "goThrough", "(III)I"⟩ ⟨"FourPartsModel", "goThrough", "(III)I"⟩) ∈ lw_all := lw_g (lw_at lw_ms 16 rfl) rfl
theorem qs17 : (Cond.selects "FourPartsModel" ⟨"FourPartsModel", "entry", "(III)J"⟩ ⟨"FourPartsModel", "entry", "(III)J"⟩) ∈ lw_all := lw_g (lw_at lw_ms 17 rfl) rfl
