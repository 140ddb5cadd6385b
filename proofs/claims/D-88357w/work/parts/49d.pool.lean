/-! WORLDS WITH A TAIL: cells in any order, calls that leave a tail of the world alone -/
section POOL
variable {D : va_G} {A : Nat → Prop} {H : Heap}
theorem vp_mem {ws : va_W} : va_P D vwCl ws H ↔ ∀ q ∈ ws, va_at D vwCl q H := by
  constructor
  · intro h q hq
    obtain ⟨k, hk⟩ := List.getElem?_of_mem hq
    exact h k q hk
  · intro h k q hk
    exact h q (List.mem_of_getElem? hk)
theorem vd_iff {ws : va_W} : va_D A ws ↔ (ws.map Prod.fst).Nodup ∧ ∀ q ∈ ws, A q.1 := by
  constructor
  · intro h
    refine ⟨?_, fun q hq => ?_⟩
    · rw [List.Nodup, List.pairwise_iff_getElem]
      intro i j hi hj hij e
      rw [List.length_map] at hi hj
      rw [List.getElem_map, List.getElem_map] at e
      have := h.1 i j _ _ (List.getElem?_eq_getElem hi) (List.getElem?_eq_getElem hj) e
      omega
    · obtain ⟨k, hk⟩ := List.getElem?_of_mem hq
      exact h.2 k q hk
  · rintro ⟨h1, h2⟩
    refine ⟨fun i j p q hi hj e => ?_, fun k q hk => h2 q (List.mem_of_getElem? hk)⟩
    rw [List.Nodup, List.pairwise_iff_getElem] at h1
    obtain ⟨li, ei⟩ := List.getElem?_eq_some_iff.mp hi
    obtain ⟨lj, ej⟩ := List.getElem?_eq_some_iff.mp hj
    rcases Nat.lt_trichotomy i j with h | h | h
    · exact absurd (by rw [List.getElem_map, List.getElem_map, ei, ej]; exact e) (h1 i j (by rw [List.length_map]; exact li) (by rw [List.length_map]; exact lj) h)
    · exact h
    · exact absurd (by rw [List.getElem_map, List.getElem_map, ei, ej]; exact e.symm) (h1 j i (by rw [List.length_map]; exact lj) (by rw [List.length_map]; exact li) h)
theorem vp_perm {ws wt : va_W} (h : ws.Perm wt) (hP : va_P D vwCl ws H) : va_P D vwCl wt H := vp_mem.mpr (fun q hq => vp_mem.mp hP q (h.mem_iff.mpr hq))
theorem vd_perm {ws wt : va_W} (h : ws.Perm wt) (hD : va_D A ws) : va_D A wt := by
  have h1 := vd_iff.mp hD
  exact vd_iff.mpr ⟨(h.map Prod.fst).nodup_iff.mp h1.1, fun q hq => h1.2 q (h.mem_iff.mpr hq)⟩
theorem vq_pre {X pl : va_W} (hP : va_P D vwCl (X ++ pl) H) : va_P D vwCl X H := vp_mem.mpr (fun q hq => vp_mem.mp hP q (List.mem_append_left _ hq))
theorem vd_pre {X pl : va_W} (hD : va_D A (X ++ pl)) : va_D A X := by
  have h1 := vd_iff.mp hD
  rw [List.map_append, List.nodup_append] at h1
  exact vd_iff.mpr ⟨h1.1.1, fun q hq => h1.2 q (List.mem_append_left _ hq)⟩
theorem vp_drop {X Y pl : va_W} (hP : va_P D vwCl ((X ++ Y) ++ pl) H) : va_P D vwCl (X ++ pl) H := vp_mem.mpr (fun q hq => vp_mem.mp hP q (by
  rcases List.mem_append.mp hq with h | h
  · exact List.mem_append_left _ (List.mem_append_left _ h)
  · exact List.mem_append_right _ h))
theorem vd_sub {ws wt : va_W} (h : wt.Sublist ws) (hD : va_D A ws) : va_D A wt := by
  have h1 := vd_iff.mp hD
  exact vd_iff.mpr ⟨(h.map Prod.fst).nodup h1.1, fun q hq => h1.2 q (h.mem hq)⟩
theorem vq_sub {ws wt : va_W} (h : wt.Sublist ws) (hP : va_P D vwCl ws H) : va_P D vwCl wt H := vp_mem.mpr (fun q hq => vp_mem.mp hP q (h.mem hq))
theorem pm_end (X pl : va_W) (e : Nat × va_E) : ((X ++ pl) ++ [e]).Perm ((X ++ [e]) ++ pl) := by
  rw [List.append_assoc, List.append_assoc]
  exact List.Perm.append_left X List.perm_append_comm
theorem pm_pool (X pl : va_W) (e : Nat × va_E) : ((X ++ [e]) ++ pl).Perm (X ++ (pl ++ [e])) := by
  rw [List.append_assoc]
  exact List.Perm.append_left X List.perm_append_comm
theorem pm_row {X : va_W} {L : List Nat} {f : Nat → va_E} {a : Nat} (h : a ∈ L) : (X ++ va_pl L f).Perm ((X ++ [(a, f a)]) ++ va_pl (L.erase a) f) := by
  rw [List.append_assoc]
  refine List.Perm.append_left X ?_
  exact (List.perm_cons_erase h).map (fun a => (a, f a))
theorem pl_same {L : List Nat} {f : Nat → va_E} {a : Nat} {e : va_E} (h : a ∉ L) : va_pl L (va_up f a e) = va_pl L f := by
  unfold va_pl
  refine List.map_congr_left (fun b hb => ?_)
  have hne : b ≠ a := fun q => h (by rw [← q]; exact hb)
  rw [va_up_ne _ _ hne]
theorem pm_back {X : va_W} {L : List Nat} {f : Nat → va_E} {a : Nat} {e : va_E} (h : a ∈ L) (hn : L.Nodup) : ((X ++ [(a, e)]) ++ va_pl (L.erase a) f).Perm (X ++ va_pl L (va_up f a e)) := by
  have h1 := pm_row (X := X) (f := va_up f a e) h
  rw [va_up_self, pl_same (fun q => ((hn.mem_erase_iff).mp q).1 rfl)] at h1
  exact h1.symm
variable {p : Program} {l : Launch} {e : Env} {R : Room} {s : State} {m : MethodId} {args : Array Value} {below : List Frame} {meth : Method} {c : Code} {locs : List Loc} {cells slots : Nat} {Q : State → Prop}
variable {pc : Nat} {ls : Array Slot} {st0 rest : List Value} {mc ms : Nat} {a : Array Value} {S : Type} {X pl wc wr : va_W}
theorem k_calliP {post : Int32 → S → Prop} {w' : S → va_W} {rx : S → Heap → Prop} (hr : va_Run p l e R s m args below meth c H locs cells slots mc ms (F0 m pc ls st0) rest (qI D post w' rx (va_A wc H.size) a) (va_A wc H.size))
    (hP : va_P D vwCl (X ++ pl) H) (hD : va_D A (X ++ pl)) (hS : va_S A s.heap H locs) (hA : ∀ q, s.heap.size ≤ q → A q) (isC isR : List Nat) (hC : isC.map (fun i => X[i]?) = wc.map some) (hR : isR.map (fun i => X[i]?) = wr.map some) (hn : va_nd isR = true) (hdis : ∀ i ∈ isR, i ∉ isC)
    (kk : ∀ (r : Int32) (u : S) (H1 : Heap) (locs1 : List Loc), post r u → va_P D vwCl ((wr ++ w' u) ++ pl) H1 → va_D A ((wr ++ w' u) ++ pl) → rx u H1 → H.size ≤ H1.size → (∀ q : Nat, q < H.size → ¬ va_A wc H.size q → H1[q]? = H[q]?) → va_S A s.heap H1 locs1 → W p l e R s m args below meth c H1 locs1 (cells + mc) (slots + ms) Q (F0 m (pc + 3) ls (.int r :: rest))) : W p l e R s m args below meth c H locs cells slots Q (F0 m pc ls st0) := by
  have hFc := va_free (wc := wc) (vd_pre hD) hS hA isC hC
  refine va_calli hr hS (fun q _ h => hFc q h) hFc (fun r u t H1 locs1 ht hvm hw hB hz1 hk1 hS1 => ?_)
  obtain ⟨hP1, hD1, hx1⟩ := hB
  rw [ht] at hP1 hx1
  obtain ⟨hP2, hD2⟩ := va_joinQ (wr := wr) (w1 := w' u) hP hD isC isR hC hR hn hdis hk1 hFc hP1 hD1
  exact kk r u H1 locs1 hw hP2 hD2 hx1 hz1 hk1 hS1
theorem k_calllP {post : Int64 → S → Prop} {w' : S → va_W} {rx : S → Heap → Prop} (hr : va_Run p l e R s m args below meth c H locs cells slots mc ms (F0 m pc ls st0) rest (qL D post w' rx (va_A wc H.size) a) (va_A wc H.size))
    (hP : va_P D vwCl (X ++ pl) H) (hD : va_D A (X ++ pl)) (hS : va_S A s.heap H locs) (hA : ∀ q, s.heap.size ≤ q → A q) (isC isR : List Nat) (hC : isC.map (fun i => X[i]?) = wc.map some) (hR : isR.map (fun i => X[i]?) = wr.map some) (hn : va_nd isR = true) (hdis : ∀ i ∈ isR, i ∉ isC)
    (kk : ∀ (r : Int64) (u : S) (H1 : Heap) (locs1 : List Loc), post r u → va_P D vwCl ((wr ++ w' u) ++ pl) H1 → va_D A ((wr ++ w' u) ++ pl) → rx u H1 → H.size ≤ H1.size → (∀ q : Nat, q < H.size → ¬ va_A wc H.size q → H1[q]? = H[q]?) → va_S A s.heap H1 locs1 → W p l e R s m args below meth c H1 locs1 (cells + mc) (slots + ms) Q (F0 m (pc + 3) ls (.long r :: rest))) : W p l e R s m args below meth c H locs cells slots Q (F0 m pc ls st0) := by
  have hFc := va_free (wc := wc) (vd_pre hD) hS hA isC hC
  refine va_calll hr hS (fun q _ h => hFc q h) hFc (fun r u t H1 locs1 ht hvm hw hB hz1 hk1 hS1 => ?_)
  obtain ⟨hP1, hD1, hx1⟩ := hB
  rw [ht] at hP1 hx1
  obtain ⟨hP2, hD2⟩ := va_joinQ (wr := wr) (w1 := w' u) hP hD isC isR hC hR hn hdis hk1 hFc hP1 hD1
  exact kk r u H1 locs1 hw hP2 hD2 hx1 hz1 hk1 hS1
theorem k_callvP {post : S → Prop} {w' : S → va_W} {rx : S → Heap → Prop} (hr : va_Run p l e R s m args below meth c H locs cells slots mc ms (F0 m pc ls st0) rest (qV D post w' rx (va_A wc H.size) a) (va_A wc H.size))
    (hP : va_P D vwCl (X ++ pl) H) (hD : va_D A (X ++ pl)) (hS : va_S A s.heap H locs) (hA : ∀ q, s.heap.size ≤ q → A q) (isC isR : List Nat) (hC : isC.map (fun i => X[i]?) = wc.map some) (hR : isR.map (fun i => X[i]?) = wr.map some) (hn : va_nd isR = true) (hdis : ∀ i ∈ isR, i ∉ isC)
    (kk : ∀ (u : S) (H1 : Heap) (locs1 : List Loc), post u → va_P D vwCl ((wr ++ w' u) ++ pl) H1 → va_D A ((wr ++ w' u) ++ pl) → rx u H1 → H.size ≤ H1.size → (∀ q : Nat, q < H.size → ¬ va_A wc H.size q → H1[q]? = H[q]?) → va_S A s.heap H1 locs1 → W p l e R s m args below meth c H1 locs1 (cells + mc) (slots + ms) Q (F0 m (pc + 3) ls rest)) : W p l e R s m args below meth c H locs cells slots Q (F0 m pc ls st0) := by
  have hFc := va_free (wc := wc) (vd_pre hD) hS hA isC hC
  refine va_callv hr hS (fun q _ h => hFc q h) hFc (fun u t H1 locs1 ht hvm hw hB hz1 hk1 hS1 => ?_)
  obtain ⟨hP1, hD1, hx1⟩ := hB
  rw [ht] at hP1 hx1
  obtain ⟨hP2, hD2⟩ := va_joinQ (wr := wr) (w1 := w' u) hP hD isC isR hC hR hn hdis hk1 hFc hP1 hD1
  exact kk u H1 locs1 hw hP2 hD2 hx1 hz1 hk1 hS1
/-- a call of a method with handlers, which doesn't throw -/
theorem k_calliX {post : Int32 → S → Prop} {w' : S → va_W} {rx : S → Heap → Prop} (hr : vx_Run p l e R s m args below meth c H locs cells slots mc ms (F0 m pc ls st0) rest (qI D post w' rx (va_A wc H.size) a) noX (va_A wc H.size))
    (hP : va_P D vwCl (X ++ pl) H) (hD : va_D A (X ++ pl)) (hS : va_S A s.heap H locs) (hA : ∀ q, s.heap.size ≤ q → A q) (isC isR : List Nat) (hC : isC.map (fun i => X[i]?) = wc.map some) (hR : isR.map (fun i => X[i]?) = wr.map some) (hn : va_nd isR = true) (hdis : ∀ i ∈ isR, i ∉ isC)
    (kk : ∀ (r : Int32) (u : S) (H1 : Heap) (locs1 : List Loc), post r u → va_P D vwCl ((wr ++ w' u) ++ pl) H1 → va_D A ((wr ++ w' u) ++ pl) → rx u H1 → H.size ≤ H1.size → (∀ q : Nat, q < H.size → ¬ va_A wc H.size q → H1[q]? = H[q]?) → va_S A s.heap H1 locs1 → W p l e R s m args below meth c H1 locs1 (cells + mc) (slots + ms) Q (F0 m (pc + 3) ls (.int r :: rest))) : W p l e R s m args below meth c H locs cells slots Q (F0 m pc ls st0) := by
  have hFc := va_free (wc := wc) (vd_pre hD) hS hA isC hC
  intro T hT X9
  rcases hr T hT X9 with ⟨v, st₀, t, T', L, h0, X', hL, e1, e2, ⟨⟨r, u, hv, hp, hP1, hD1, hx1⟩, hF⟩, st⟩ | ⟨q, st₀, t, T', L, E, ce, h0, X', hL, e1, e2, hno, -⟩
  · cases hv
    obtain ⟨k1, k2, k3⟩ := vx_keep h0 e1 hS (fun q _ h => hFc q h) hFc hL hF
    rw [← e1] at hP1 hx1
    obtain ⟨hP2, hD2⟩ := va_joinQ (wr := wr) (w1 := w' u) hP hD isC isR hC hR hn hdis k2 hFc hP1 hD1
    obtain ⟨t2, a1, b1⟩ := kk r u T'.heap (locs ++ L) hp hP2 hD2 hx1 k1 k2 k3 T' rfl X'
    exact ⟨t2, st t2 a1, b1⟩
  · exact hno.elim
end POOL
