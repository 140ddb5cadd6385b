/-! THE COMPONENT'S WORLD: objects that are only read (Fours, sides) are facts of the heap; what is written are arrays and the system's own object, apart from them by their classes -/
def okE (ca : Nat → ClassId) (e : va_E) : Prop := (∃ (k : Nat) (x : vp_A), k < 6 ∧ e = .inl (ca k, x)) ∨ ∃ (c : Nat) (fs : List Value), (c = 0 ∨ c = 4 ∨ c = 5) ∧ e = .inr (c, fs)
def okL (ca : Nat → ClassId) (ws : va_W) : Prop := ∀ q ∈ ws, okE ca q.2
theorem okn {ca : Nat → ClassId} : okL ca [] := fun q h => by simp at h
theorem okc {ca : Nat → ClassId} {a : Nat} {e : va_E} {ws : va_W} (h : okE ca e) (hs : okL ca ws) : okL ca ((a, e) :: ws) := fun q hq => by
  rcases List.mem_cons.mp hq with rfl | h2
  · exact h
  · exact hs q h2
theorem okp {ca : Nat → ClassId} {ws wt : va_W} (h : okL ca ws) (hs : okL ca wt) : okL ca (ws ++ wt) := fun q hq => by
  rcases List.mem_append.mp hq with h2 | h2
  · exact h q h2
  · exact hs q h2
theorem oka {ca : Nat → ClassId} (k : Nat) (hk : k < 6) {x : vp_A} : okE ca (.inl (ca k, x)) := Or.inl ⟨k, x, hk, rfl⟩
theorem oko {ca : Nat → ClassId} (c : Nat) (hc : c = 0 ∨ c = 4 ∨ c = 5) {fs : List Value} : okE ca (.inr (c, fs)) := Or.inr ⟨c, fs, hc, rfl⟩
theorem fc_inj {vm : Vm} {n1 n2 : String} {c : ClassId} (h1 : vm.findClass n1 = some c) (h2 : vm.findClass n2 = some c) : n1 = n2 := by
  obtain ⟨k1, a1, b1⟩ := Vm.findClass_spec h1
  obtain ⟨k2, a2, b2⟩ := Vm.findClass_spec h2
  cases a1.symm.trans a2
  exact b1.symm.trans b2
theorem vp_cell_cls (cA : ClassId) (x : vp_A) : (vp_cell cA x).cls = cA := by
  obtain ⟨n, f⟩ := x
  rcases f with f | f | f | f | f <;> rfl
theorem i64_low {x : Int64} (h : p_in x (-20000) 20000 = true) : x.toInt32.toInt64 = x ∧ x.toInt.natAbs ≤ 20000 := by
  simp only [p_in, Bool.and_eq_true, Bool.not_eq_true', decide_eq_false_iff_not, Int64.lt_iff_toInt_lt] at h
  have h1 : (-20000 : Int64).toInt = -20000 := by decide
  have h2 : (20000 : Int64).toInt = 20000 := by decide
  rw [h1, h2] at h
  refine ⟨?_, by omega⟩
  apply Int64.toInt_inj.mp
  rw [Int32.toInt_toInt64, Int64.toInt_toInt32]
  have h3 : x.toInt.bmod (2 ^ 32) = x.toInt := by
    apply Int.bmod_eq_of_le <;> omega
  exact h3
theorem low_bd {v : Q4} (h : q_low v = true) : q_bd 20000 v := by
  simp only [q_low, Bool.and_eq_true] at h
  exact ⟨(i64_low h.1.1.1).2, (i64_low h.1.1.2).2, (i64_low h.1.2).2, (i64_low h.2).2⟩
theorem rq_wq {g : AI} {j : Nat} {v : Q4} (h : q_low v = true) : rq (wq g j v) j = v := by
  simp only [q_low, Bool.and_eq_true] at h
  have e1 := (i64_low h.1.1.1).1
  have e2 := (i64_low h.1.1.2).1
  have e3 := (i64_low h.1.2).1
  have e4 := (i64_low h.2).1
  simp [rq, wq, upd, e1, e2, e3, e4]
theorem rq_wq_ne {g : AI} {i j : Nat} {v : Q4} (h : i ≠ j) : rq (wq g j v) i = rq g i := by
  simp only [rq, wq, upd]
  simp only [show ∀ a b : Nat, a < 4 → b < 4 → (4 * i + a = 4 * j + b) = False from fun a b ha hb => eq_false (by omega), show (4 * i = 4 * j) = False from eq_false (by omega), if_false]
  simp only [show (4 * i = 4 * j + 1) = False from eq_false (by omega), show (4 * i = 4 * j + 2) = False from eq_false (by omega), show (4 * i = 4 * j + 3) = False from eq_false (by omega), show (4 * i + 1 = 4 * j) = False from eq_false (by omega), show (4 * i + 2 = 4 * j) = False from eq_false (by omega), show (4 * i + 3 = 4 * j) = False from eq_false (by omega), show (4 * i + 1 = 4 * j + 1) = False from eq_false (by omega), show (4 * i + 1 = 4 * j + 2) = False from eq_false (by omega), show (4 * i + 1 = 4 * j + 3) = False from eq_false (by omega), show (4 * i + 2 = 4 * j + 1) = False from eq_false (by omega), show (4 * i + 2 = 4 * j + 2) = False from eq_false (by omega), show (4 * i + 2 = 4 * j + 3) = False from eq_false (by omega), show (4 * i + 3 = 4 * j + 1) = False from eq_false (by omega), show (4 * i + 3 = 4 * j + 2) = False from eq_false (by omega), show (4 * i + 3 = 4 * j + 3) = False from eq_false (by omega), if_false]
theorem up_some {f : Nat → Nat} {j y : Nat} : va_up (fun i => some (f i)) j (some y) = fun i => some (va_up f j y i) := by
  funext i
  simp only [va_up]
  split <;> rfl
def sdf (e0 e1 : Nat) : Nat → Option Nat := fun i => if i = 0 then some e0 else some e1
theorem q_same_c (v w : Q4) : q_same v w = q_same w v := by
  simp only [q_same, eq_comm]
theorem part_4 (g : AI) (s w : Nat) (h : w < 4) : (q_part (rq g s) (nI w)).toInt32 = g (4 * s + w) := by
  match w, h with
  | 0, _ => simp [q_part, rq, show nI 0 = 0 from rfl]
  | 1, _ => simp [q_part, rq, show nI 1 = 1 from rfl]
  | 2, _ => simp [q_part, rq, show nI 2 = 2 from rfl]
  | 3, _ => simp [q_part, rq, show nI 3 = 3 from rfl]
  | w + 4, h => omega
/-- the registers hold whole or half numbers with low parts -/
def okR (g : AI) : Prop := ∀ j, j < 16 → q_one (rq g j) = true ∧ q_low (rq g j) = true
theorem bd_sq {v : Q4} {B : Nat} (h : q_bd B v) : z_sq (z4 v) ≤ 4 * (B * B) := by
  obtain ⟨h1, h2, h3, h4⟩ := h
  have k : ∀ x : Int, x.natAbs ≤ B → x * x ≤ B * B := fun x hx => by
    have h5 : x * x = ((x.natAbs * x.natAbs : Nat) : Int) := by rw [Int.natAbs_mul_self]
    rw [h5]
    have := Nat.mul_le_mul hx hx
    omega
  have a1 := k _ h1
  have a2 := k _ h2
  have a3 := k _ h3
  have a4 := k _ h4
  simp only [z_sq, z4]
  omega
theorem okR.hz {g : AI} (h : okR g) {j : Nat} (hj : j < 16) : Hz (z4 (rq g j)) := one_z.mp (h j hj).1
theorem okR.bd {g : AI} (h : okR g) {j : Nat} (hj : j < 16) : q_bd 20000 (rq g j) := low_bd (h j hj).2
theorem okR.sq {g : AI} (h : okR g) {j : Nat} (hj : j < 16) : z_sq (z4 (rq g j)) < 2 ^ 31 := by
  have := bd_sq (h.bd hj)
  omega
theorem okR.set {g : AI} (h : okR g) {j : Nat} {v : Q4} (h1 : q_one v = true) : okR (h_g g j v) := by
  intro i hi
  unfold h_g
  by_cases hl : q_low v = true
  · rw [if_pos hl]
    by_cases e : i = j
    · subst e
      rw [rq_wq hl]
      exact ⟨h1, hl⟩
    · rw [rq_wq_ne e]
      exact h i hi
  · rw [if_neg hl]
    exact h i hi
theorem nrm_P {v : Q4} (hz : Hz (z4 v)) (h2 : z_sq (z4 v) < 2 ^ 31) : ∃ P : Nat, q_norm v = lN P ∧ z_sq (z4 v) = 4 * P ∧ P < 2 ^ 40 := by
  have h1 := z_norm (bd_z h2) (by decide) hz
  have h0 := z_sq_nn (z4 v)
  refine ⟨(q_norm v).toInt.toNat, ?_, by omega, by omega⟩
  apply Int64.toInt_inj.mp
  rw [pk_lT (by omega)]
  omega
section W1
variable {D : va_G} {ca : Nat → ClassId} {s : State} {H H0 H1 : Heap} {A : Nat → Prop} {locs : List Loc}
theorem ca_name (hK : va_K D vwCl (tysG ca) s) {k : Nat} (hk : k < 6) : ∃ nm : String, s.vm.findClass nm = some (ca k) ∧ nm ≠ RX0 ∧ nm ≠ RX1 ∧ nm ≠ RX3 ∧ nm ≠ RX4 := by
  match k, hk with
  | 0, _ => exact ⟨"[" ++ FieldType.byte.toString, (hK.2 0 _ rfl).2, by decide +kernel⟩
  | 1, _ => exact ⟨"[" ++ FieldType.int.toString, (hK.2 1 _ rfl).2, by decide +kernel⟩
  | 2, _ => exact ⟨"[" ++ FieldType.long.toString, (hK.2 2 _ rfl).2, by decide +kernel⟩
  | 3, _ => obtain ⟨-, -, -, -, -, h⟩ := (hK.2 3 _ rfl).2; exact ⟨_, h, by decide +kernel⟩
  | 4, _ => obtain ⟨-, -, -, -, -, h⟩ := (hK.2 4 _ rfl).2; exact ⟨_, h, by decide +kernel⟩
  | 5, _ => obtain ⟨-, -, -, -, -, h⟩ := (hK.2 5 _ rfl).2; exact ⟨_, h, by decide +kernel⟩
  | k + 6, h => omega
theorem ok_ne (hK : va_K D vwCl (tysG ca) s) {a ci : Nat} {fs : List Value} {e : va_E} (he : va_at D vwCl (a, e) H) (hok : okE ca e) (hc : ci = 1 ∨ ci = 2 ∨ ci = 3) : ¬ va_at D vwCl (a, .inr (ci, fs)) H := by
  intro h2
  obtain ⟨r, hr, cell, hc1, hc2, -⟩ := h2
  have n1 : s.vm.findClass r.1 = some (D.1 ci) := (hK.1 ci r hr).2.1
  rcases hok with ⟨k, x, hk, rfl⟩ | ⟨c, gs, hcc, rfl⟩
  · have e1 : H[a]? = some (vp_cell (ca k) x) := he
    have e2 : cell = vp_cell (ca k) x := Option.some.inj (hc1.symm.trans e1)
    rw [e2, vp_cell_cls] at hc2
    obtain ⟨nm, m1, m2, m3, m4, m5⟩ := ca_name hK hk
    have hc2 : ca k = D.1 ci := hc2
    rw [hc2] at m1
    have m6 := fc_inj m1 n1
    rcases hc with rfl | rfl | rfl <;> cases hr
    · exact m3 m6
    · exact m4 m6
    · exact m5 m6
  · obtain ⟨r', hr', cell', d1, d2, -⟩ := he
    have e2 : cell = cell' := Option.some.inj (hc1.symm.trans d1)
    subst e2
    have n2 : s.vm.findClass r'.1 = some (D.1 c) := (hK.1 c r' hr').2.1
    have d3 : D.1 c = D.1 ci := d2.symm.trans hc2
    rw [d3] at n2
    have m6 := fc_inj n2 n1
    rcases hc with rfl | rfl | rfl <;> rcases hcc with rfl | rfl | rfl <;> cases hr <;> cases hr' <;> exact absurd m6 (by decide +kernel)
theorem k_outA (hK : va_K D vwCl (tysG ca) s) {wc : va_W} (hP : va_P D vwCl wc H) (hok : okL ca wc) {a ci : Nat} {fs : List Value} (hc : ci = 1 ∨ ci = 2 ∨ ci = 3) (hF : va_P D vwCl [(a, .inr (ci, fs))] H) : ¬ va_A wc H.size a := by
  have h0 := hF 0 _ rfl
  rintro (⟨k, e, hk⟩ | h)
  · exact ok_ne hK (hP k _ hk) (hok _ (List.mem_of_getElem? hk)) hc h0
  · have := va_at.lt h0
    have : a < H.size := this
    omega
theorem k_out (hK : va_K D vwCl (tysG ca) s) {ws : va_W} (hP : va_P D vwCl ws s.heap) (hok : okL ca ws) (hAn : ∀ q, A q → (∃ (k : Nat) (e : va_E), ws[k]? = some (q, e)) ∨ s.heap.size ≤ q) {a ci : Nat} {fs : List Value} (hc : ci = 1 ∨ ci = 2 ∨ ci = 3) (hF : va_P D vwCl [(a, .inr (ci, fs))] s.heap) : ¬ A a := fun hA => k_outA hK hP hok hc hF (hAn a hA)
theorem k_outF (hK : va_K D vwCl (tysG ca) s) {ws : va_W} (hP : va_P D vwCl ws s.heap) (hok : okL ca ws) (hAn : ∀ q, A q → (∃ (k : Nat) (e : va_E), ws[k]? = some (q, e)) ∨ s.heap.size ≤ q) : ∀ (a : Nat) (v : Q4), Fo D s.heap a v → ¬ A a := fun _ _ hF => k_out hK hP hok hAn (Or.inl rfl) hF
theorem k_outS (hK : va_K D vwCl (tysG ca) s) {ws : va_W} (hP : va_P D vwCl ws s.heap) (hok : okL ca ws) (hAn : ∀ q, A q → (∃ (k : Nat) (e : va_E), ws[k]? = some (q, e)) ∨ s.heap.size ≤ q) : ∀ (a k : Nat), k = 2 ∨ k = 3 → So D s.heap a k → ¬ A a := fun _ _ hk hF => k_out hK hP hok hAn (Or.inr hk) hF
/-- a Four behind a call that writes arrays and the system's object alone -/
theorem fo_call (hK : va_K D vwCl (tysG ca) s) {wc : va_W} (hP : va_P D vwCl wc H) (hok : okL ca wc) (hq : ∀ q : Nat, q < H.size → ¬ va_A wc H.size q → H1[q]? = H[q]?) {a : Nat} {v : Q4} (hF : Fo D H a v) : Fo D H1 a v := hF.mov (hq a hF.lt (k_outA hK hP hok (Or.inl rfl) hF))
theorem so_call (hK : va_K D vwCl (tysG ca) s) {wc : va_W} (hP : va_P D vwCl wc H) (hok : okL ca wc) (hq : ∀ q : Nat, q < H.size → ¬ va_A wc H.size q → H1[q]? = H[q]?) {a k : Nat} (hk : k = 2 ∨ k = 3) (hF : So D H a k) : So D H1 a k := hF.mov (hq a hF.lt (k_outA hK hP hok (Or.inr hk) hF))
theorem any_fo (hK : va_K D vwCl (tysG ca) s) {a : Nat} {v : Q4} (hF : Fo D H a v) : va_Any RX1 s H a := by
  obtain ⟨r, hr, cell, h1, h2, h3, -⟩ := hF 0 _ rfl
  cases hr
  have hc := (hK.1 1 _ rfl).2
  obtain ⟨hf, kC, hk, hkind⟩ := id hc
  refine ⟨cell, h1, by rw [h3]; rfl, ⟨kC, by rw [h2]; exact hk⟩, fun comp hcomp => ?_⟩
  have e1 : D.1 1 = comp := Option.some.inj (hf.symm.trans hcomp)
  rw [← e1, h2]
  exact va_assign hc
/-- the registers' Fours -/
def Rg (D : va_G) (H : Heap) (ra : Nat → Nat) (g : AI) : Prop := ∀ i, i < 16 → Fo D H (ra i) (rq g i)
def Ug (D : va_G) (H : Heap) (ua : Nat → Nat) (un : AI) : Prop := ∀ i, i < 24 → Fo D H (ua i) (rq un i)
def Sd (D : va_G) (H : Heap) (d0 d1 : Nat) : Prop := So D H d0 2 ∧ So D H d1 3
theorem Rg.keep {ra : Nat → Nat} {g : AI} (h : Rg D H0 ra g) (hS : va_S A H0 H locs) (hO : ∀ (a : Nat) (v : Q4), Fo D H0 a v → ¬ A a) : Rg D H ra g := fun i hi => (h i hi).keep hS (hO _ _ (h i hi))
theorem Ug.keep {ua : Nat → Nat} {un : AI} (h : Ug D H0 ua un) (hS : va_S A H0 H locs) (hO : ∀ (a : Nat) (v : Q4), Fo D H0 a v → ¬ A a) : Ug D H ua un := fun i hi => (h i hi).keep hS (hO _ _ (h i hi))
theorem Rg.call (hK : va_K D vwCl (tysG ca) s) {wc : va_W} (hP : va_P D vwCl wc H) (hok : okL ca wc) (hq : ∀ q : Nat, q < H.size → ¬ va_A wc H.size q → H1[q]? = H[q]?) {ra : Nat → Nat} {g : AI} (h : Rg D H ra g) : Rg D H1 ra g := fun i hi => fo_call hK hP hok hq (h i hi)
theorem Ug.call (hK : va_K D vwCl (tysG ca) s) {wc : va_W} (hP : va_P D vwCl wc H) (hok : okL ca wc) (hq : ∀ q : Nat, q < H.size → ¬ va_A wc H.size q → H1[q]? = H[q]?) {ua : Nat → Nat} {un : AI} (h : Ug D H ua un) : Ug D H1 ua un := fun i hi => fo_call hK hP hok hq (h i hi)
theorem Sd.call (hK : va_K D vwCl (tysG ca) s) {wc : va_W} (hP : va_P D vwCl wc H) (hok : okL ca wc) (hq : ∀ q : Nat, q < H.size → ¬ va_A wc H.size q → H1[q]? = H[q]?) {d0 d1 : Nat} (h : Sd D H d0 d1) : Sd D H1 d0 d1 := ⟨so_call hK hP hok hq (Or.inl rfl) h.1, so_call hK hP hok hq (Or.inr rfl) h.2⟩
theorem Rg.set {ra : Nat → Nat} {g : AI} {j y : Nat} {v : Q4} (h : Rg D H ra g) (hy : Fo D H y v) (hl : q_low v = true) : Rg D H (va_up ra j y) (wq g j v) := by
  intro i hi
  by_cases e : i = j
  · subst e
    rw [va_up_self, rq_wq hl]
    exact hy
  · rw [va_up_ne _ _ e, rq_wq_ne e]
    exact h i hi
end W1
/-- the system's object: sheets, units, sides, registers, factors -/
abbrev oX (hs hu hd hr hf : Nat) : va_E := .inr (0, [.ref hs, .ref hu, .ref hd, .ref hr, .ref hf])
abbrev rA (ca : Nat → ClassId) (k n : Nat) (f : Nat → Option Nat) : va_E := .inl (ca k, n, .inr (.inr (.inr (.inr f))))
/-- the factors' Fours -/
def Fg (D : va_G) (H : Heap) (fa : Nat → Nat) (fv : Nat → Q4) (nf : Nat) : Prop := ∀ i, i < nf → Fo D H (fa i) (fv i)
