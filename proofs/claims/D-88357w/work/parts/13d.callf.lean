/-! calls through an interface, with the frame rule inside -/
set_option maxRecDepth 100000
section KB5
variable {p : Program} {l : Launch} {e : Env} {R : Room} {s : State} {m : MethodId} {args : Array Value} {below : List Frame} {meth : Method} {c : Code} {H : Heap} {locs : List Loc} {cells slots : Nat} {Q : State → Prop}
variable {KN : State → Prop} {D : va_G} {ca : Nat → ClassId} {A : Nat → Prop}
variable {pc : Nat} {ls : Array Slot} {st0 rest : List Value} {mc ms : Nat} {a : Array Value} {S : Type} {ws wc wr : va_W}
theorem k_callFi {post : Int32 → S → Prop} {w' : S → va_W} {rx : S → Heap → Prop} (hr : va_Run5 p l e R s m args below meth c H locs cells slots mc ms (F0 m pc ls st0) rest (qI D post w' rx (va_A wc H.size) a) (va_A wc H.size))
    (hP : va_P D vwCl ws H) (hD : va_D A ws) (hS : va_S A s.heap H locs) (hA : ∀ q, s.heap.size ≤ q → A q) (isC isR : List Nat) (hC : isC.map (fun i => ws[i]?) = wc.map some) (hR : isR.map (fun i => ws[i]?) = wr.map some) (hn : va_nd isR = true) (hdis : ∀ i ∈ isR, i ∉ isC)
    (kk : ∀ (r : Int32) (u : S) (H1 : Heap) (locs1 : List Loc), post r u → va_P D vwCl (wr ++ w' u) H1 → va_D A (wr ++ w' u) → rx u H1 → H.size ≤ H1.size → (∀ q : Nat, q < H.size → ¬ va_A wc H.size q → H1[q]? = H[q]?) → va_S A s.heap H1 locs1 → W p l e R s m args below meth c H1 locs1 (cells + mc) (slots + ms) Q (F0 m (pc + 5) ls (.int r :: rest))) : W p l e R s m args below meth c H locs cells slots Q (F0 m pc ls st0) := by
  have hFc := va_free (wc := wc) hD hS hA isC hC
  refine va_callFi hr hS (fun q _ h => hFc q h) hFc (fun r u t H1 locs1 ht hvm hw hB hz1 hk1 hS1 => ?_)
  obtain ⟨hP1, hD1, hx1⟩ := hB
  rw [ht] at hP1 hx1
  obtain ⟨hP2, hD2⟩ := va_join (wr := wr) (w1 := w' u) hP hD isC isR hC hR hn hdis hk1 hFc hP1 hD1
  exact kk r u H1 locs1 hw hP2 hD2 hx1 hz1 hk1 hS1
theorem k_callFl {post : Int64 → S → Prop} {w' : S → va_W} {rx : S → Heap → Prop} (hr : va_Run5 p l e R s m args below meth c H locs cells slots mc ms (F0 m pc ls st0) rest (qL D post w' rx (va_A wc H.size) a) (va_A wc H.size))
    (hP : va_P D vwCl ws H) (hD : va_D A ws) (hS : va_S A s.heap H locs) (hA : ∀ q, s.heap.size ≤ q → A q) (isC isR : List Nat) (hC : isC.map (fun i => ws[i]?) = wc.map some) (hR : isR.map (fun i => ws[i]?) = wr.map some) (hn : va_nd isR = true) (hdis : ∀ i ∈ isR, i ∉ isC)
    (kk : ∀ (r : Int64) (u : S) (H1 : Heap) (locs1 : List Loc), post r u → va_P D vwCl (wr ++ w' u) H1 → va_D A (wr ++ w' u) → rx u H1 → H.size ≤ H1.size → (∀ q : Nat, q < H.size → ¬ va_A wc H.size q → H1[q]? = H[q]?) → va_S A s.heap H1 locs1 → W p l e R s m args below meth c H1 locs1 (cells + mc) (slots + ms) Q (F0 m (pc + 5) ls (.long r :: rest))) : W p l e R s m args below meth c H locs cells slots Q (F0 m pc ls st0) := by
  have hFc := va_free (wc := wc) hD hS hA isC hC
  refine va_callFl hr hS (fun q _ h => hFc q h) hFc (fun r u t H1 locs1 ht hvm hw hB hz1 hk1 hS1 => ?_)
  obtain ⟨hP1, hD1, hx1⟩ := hB
  rw [ht] at hP1 hx1
  obtain ⟨hP2, hD2⟩ := va_join (wr := wr) (w1 := w' u) hP hD isC isR hC hR hn hdis hk1 hFc hP1 hD1
  exact kk r u H1 locs1 hw hP2 hD2 hx1 hz1 hk1 hS1
end KB5
theorem qL_ret {S : Type} {D : va_G} {post : Int64 → S → Prop} {w' : S → va_W} {rx : S → Heap → Prop} {A : Nat → Prop} : ∀ a st o t, qL D post w' rx A a st o t → ∃ v, o = .returned v := fun _ _ _ _ h => by
  obtain ⟨⟨r, u, h1, -⟩, -⟩ := h
  exact ⟨_, h1⟩
theorem qI_ret {S : Type} {D : va_G} {post : Int32 → S → Prop} {w' : S → va_W} {rx : S → Heap → Prop} {A : Nat → Prop} : ∀ a st o t, qI D post w' rx A a st o t → ∃ v, o = .returned v := fun _ _ _ _ h => by
  obtain ⟨⟨r, u, h1, -⟩, -⟩ := h
  exact ⟨_, h1⟩
theorem and_bI (a b : Bool) : bI a &&& bI b = bI (a && b) := by cases a <;> cases b <;> rfl
theorem and_1b (b : Bool) : 1 &&& bI b = bI b := by cases b <;> rfl
/-- an object without fields, of class k, that is only read -/
def So (D : va_G) (H : Heap) (y k : Nat) : Prop := va_P D vwCl [(y, .inr (k, []))] H
theorem So.of {D : va_G} {H : Heap} {ws : va_W} {y k : Nat} (hP : va_P D vwCl ws H) (i : Nat) (hi : ws[i]? = some (y, .inr (k, []))) : So D H y k := by
  intro j q hj
  match j, hj with
  | 0, hj => cases hj; exact hP i _ hi
  | j + 1, hj => simp at hj
theorem So.lt {D : va_G} {H : Heap} {y k : Nat} (h : So D H y k) : y < H.size := va_at.lt (h 0 _ rfl)
theorem So.mov {D : va_G} {H H1 : Heap} {y k : Nat} (h : So D H y k) (hq : H1[y]? = H[y]?) : So D H1 y k := by
  refine va_P.kept h (fun j q hj => ?_)
  match j, hj with
  | 0, hj => cases hj; exact hq
  | j + 1, hj => simp at hj
theorem So.keep {D : va_G} {H0 H : Heap} {y k : Nat} {A : Nat → Prop} {locs : List Loc} (h : So D H0 y k) (hS : va_S A H0 H locs) (hn : ¬ A y) : So D H y k := h.mov (hS.2.1 y h.lt hn)
theorem va_A_nil {n q : Nat} (h : q < n) : ¬ va_A [] n q := fun z => by
  rcases z with ⟨k, e, z⟩ | z
  · simp at z
  · omega
