/-! ROWS: the sheets' arrays, by kind -/
def ck (k : Nat) (v : Int64) : Int64 := if k = 0 then v.toInt32.toInt8.toInt32.toInt64 else if k = 1 then v.toInt32.toInt64 else v
def rwE (ca : Nat → ClassId) (k n : Nat) (f : AL) : va_E := match k with
  | 0 => .inl (ca 0, n, .inl (fun i => (f i).toInt32))
  | 1 => .inl (ca 1, n, .inl (fun i => (f i).toInt32))
  | _ => .inl (ca 2, n, .inr (.inl f))
theorem okR_row {ca : Nat → ClassId} {k n : Nat} {f : AL} : okE ca (rwE ca k n f) := by
  match k with
  | 0 => exact oka 0 (by decide)
  | 1 => exact oka 1 (by decide)
  | k + 2 => exact oka 2 (by decide)
theorem up_32 {f : AL} {j : Nat} {x : Int32} {y : Int64} (h : x = y.toInt32) : upd (fun i => (f i).toInt32) j x = fun i => ((vp_updL f j y) i).toInt32 := by
  funext i
  simp only [upd, vp_updL]
  split
  · exact h
  · rfl
theorem i32_64 (x : Int32) : x.toInt64.toInt32 = x := by
  apply Int32.toInt_inj.mp
  rw [Int64.toInt_toInt32, Int32.toInt_toInt64]
  have h1 := Int32.toInt_lt x
  have h2 := Int32.le_toInt x
  apply Int.bmod_eq_of_le <;> omega
theorem i8_32 (x : Int8) : x.toInt32.toInt8 = x := by
  apply Int8.toInt_inj.mp
  rw [Int32.toInt_toInt8, Int8.toInt_toInt32]
  have h1 := Int8.toInt_lt x
  have h2 := Int8.le_toInt x
  apply Int.bmod_eq_of_le <;> omega
theorem nar8 (v : Int64) : vp_nar .byte v.toInt32.toInt8.toInt32 = (ck 0 v).toInt32 := by
  show v.toInt32.toInt8.toInt32.toInt8.toInt32 = v.toInt32.toInt8.toInt32.toInt64.toInt32
  rw [i8_32, i32_64]
theorem nar32 (v : Int64) : v.toInt32 = (ck 1 v).toInt32 := by
  show v.toInt32 = v.toInt32.toInt64.toInt32
  rw [i32_64]
section KI
variable {p : Program} {l : Launch} {e : Env} {R : Room} {s : State} {m : MethodId} {args : Array Value} {below : List Frame} {meth : Method} {c : Code} {H : Heap} {locs : List Loc} {cells slots : Nat} {Q : State → Prop} {cc : ByteArray} {pc : Nat} {ls : Array Slot} {rest : List Value} {D : va_G} {ws : va_W} {a : Nat} {ca : Nat → ClassId}
theorem k_instA (hexec : p.tables.exec = Jvm.exec) (hb : c.code = cc) {own nm : String} {index : Nat} (hown : s.vm.findClass own = some m.cls) (hlink : (Cond.classLink own index nm).before args s = true) (hP : va_P D vwCl ws H) (q0 : Nat) {cA : ClassId} {x : vp_A} (ha : ws[q0]? = some (a, .inl (cA, x))) (hnm : s.vm.findClass nm = some cA) (hdg : decode cc pc = .ok (.instanceof index, 3))
    (k : W p l e R s m args below meth c H locs cells slots Q (F0 m (pc + 3) ls (.int 1 :: rest))) : W p l e R s m args below meth c H locs cells slots Q (F0 m pc ls (.ref a :: rest)) := by
  have hvm0 : (vp_cell cA x).vm = .none := by
    obtain ⟨n, f | f | f | f | f⟩ := x <;> rfl
  intro T hT X
  obtain ⟨vm', X', st⟩ := X.instanceofYes hexec hown hlink (by rw [hT]; exact hP q0 _ ha) (by rw [hvm0]; rfl) hnm (by rw [vp_cell_cls]; exact va_asg _ _) (g := F0 m pc ls (.ref a :: rest)) rfl rfl (by rw [hb]; exact hdg)
  obtain ⟨t, a1, b1⟩ := k (T.setVm vm') hT X'
  exact ⟨t, st t a1, b1⟩
theorem k_instO (hexec : p.tables.exec = Jvm.exec) (hb : c.code = cc) {own C nm : String} {index : Nat} (hown : s.vm.findClass own = some m.cls) (hlink : (Cond.classLink own index nm).before args s = true) (hc : va_Nc C nm s) (hP : va_P D vwCl ws H) (q0 : Nat) {cA : ClassId} {x : vp_A} (ha : ws[q0]? = some (a, .inl (cA, x))) (hnm : s.vm.findClass C = some cA) (hdg : decode cc pc = .ok (.instanceof index, 3))
    (k : W p l e R s m args below meth c H locs cells slots Q (F0 m (pc + 3) ls (.int 0 :: rest))) : W p l e R s m args below meth c H locs cells slots Q (F0 m pc ls (.ref a :: rest)) := by
  have hvm0 : (vp_cell cA x).vm = .none := by
    obtain ⟨n, f | f | f | f | f⟩ := x <;> rfl
  exact va_instNo hexec hb hown hlink hc ⟨_, hP q0 _ ha, by rw [hvm0]; rfl, by rw [vp_cell_cls]; exact hnm⟩ hdg k
end KI
/-- a world behind what changes nothing old -/
theorem vp_same {D : va_G} {ws : va_W} {H H1 : Heap} (hP : va_P D vwCl ws H) (h : ∀ q : Nat, q < H.size → H1[q]? = H[q]?) : va_P D vwCl ws H1 := va_P.kept hP (fun k q hk => h q.1 (va_at.lt (hP k q hk)))
theorem vs_same {A : Nat → Prop} {H0 H H1 : Heap} {locs : List Loc} (hS : va_S A H0 H locs) (h1 : H.size ≤ H1.size) (h : ∀ q : Nat, q < H.size → H1[q]? = H[q]?) : va_S A H0 H1 locs := ⟨Nat.le_trans hS.1 h1, fun q g1 g2 => (h q (Nat.lt_of_lt_of_le g1 hS.1)).trans (hS.2.1 q g1 g2), hS.2.2⟩
