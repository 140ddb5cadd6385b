/-! COUNTS: all quads of a norm, in the order of the loops -/
def dn : Int → Nat → List Int
  | _, 0 => []
  | a, k + 1 => a :: dn (a - 1) k
theorem dn_add : ∀ (k l : Nat) (a : Int), dn a (k + l) = dn a k ++ dn (a - k) l
  | 0, l, a => by simp [dn]
  | k + 1, l, a => by
    rw [show k + 1 + l = (k + l) + 1 by omega]
    simp only [dn, List.cons_append]
    rw [dn_add k l (a - 1)]
    congr 3
    omega
theorem dn_mem : ∀ {k : Nat} {a x : Int}, x ∈ dn a k → a - k < x ∧ x ≤ a
  | 0, a, x, h => by simp [dn] at h
  | k + 1, a, x, h => by
    simp only [dn, List.mem_cons] at h
    rcases h with rfl | h
    · omega
    · have := dn_mem h
      omega
def okQ (N a b c d : Int) : Bool := decide (a * a + b * b + c * c + d * d = N) && decide ((a - b) % 2 = 0) && decide ((a - c) % 2 = 0) && decide ((a - d) % 2 = 0)
def II (M : Nat) : List Int := dn M (2 * M + 1)
def ds (N : Int) (M : Nat) (a b c : Int) : List Int := (II M).filter (okQ N a b c)
abbrev Z4' : Type := Int × Int × Int × Int
def S3 (N : Int) (M : Nat) (a b c : Int) : List Z4' := (ds N M a b c).map (fun d => (a, b, c, d))
def S2 (N : Int) (M : Nat) (a b : Int) : List Z4' := (II M).flatMap (S3 N M a b)
def S1 (N : Int) (M : Nat) (a : Int) : List Z4' := (II M).flatMap (S2 N M a)
def S0 (N : Int) (M : Nat) : List Z4' := (II M).flatMap (S1 N M)
theorem sq_inj {x d : Int} (_ : 0 ≤ d) (h : x * x = d * d) : x = d ∨ x = -d := by
  have h1 : (x - d) * (x + d) = 0 := by
    have : (x - d) * (x + d) = x * x - d * d := by
      rw [Int.sub_mul, Int.mul_add, Int.mul_add, Int.mul_comm x d]; omega
    rw [this]; omega
  rcases Int.mul_eq_zero.mp h1 with h | h
  · left; omega
  · right; omega
theorem okQ_sq {N a b c d x : Int} (h : okQ N a b c d = true) (hd : 0 ≤ d) (hx : okQ N a b c x = true) : x = d ∨ x = -d := by
  simp only [okQ, Bool.and_eq_true, decide_eq_true_eq] at h hx
  exact sq_inj hd (by omega)
theorem okQ_neg {N a b c d : Int} (h : okQ N a b c d = true) : okQ N a b c (-d) = true := by
  simp only [okQ, Bool.and_eq_true, decide_eq_true_eq] at h ⊢
  have : -d * -d = d * d := by rw [Int.neg_mul_neg]
  refine ⟨⟨⟨by rw [this]; exact h.1.1.1, h.1.1.2⟩, h.1.2⟩, by omega⟩
theorem filt_nil {p : Int → Bool} {a : Int} {k : Nat} (h : ∀ x, a - k < x → x ≤ a → p x = false) : (dn a k).filter p = [] := by
  rw [List.filter_eq_nil_iff]
  intro x hx
  have := dn_mem hx
  rw [h x this.1 this.2]
  decide
theorem ds_none {N : Int} {M : Nat} {a b c : Int} (h : ∀ d, okQ N a b c d = false) : ds N M a b c = [] := by
  unfold ds II
  exact filt_nil (fun x _ _ => h x)
theorem ds_zero {N : Int} {M : Nat} {a b c : Int} (h : okQ N a b c 0 = true) : ds N M a b c = [0] := by
  have hx : ∀ x, x ≠ 0 → okQ N a b c x = false := fun x hx => by
    cases hq : okQ N a b c x with
    | false => rfl
    | true => rcases okQ_sq h (Int.le_refl 0) hq with h | h <;> omega
  unfold ds II
  rw [show 2 * M + 1 = M + (1 + M) by omega, dn_add, dn_add, List.filter_append, List.filter_append]
  rw [filt_nil (a := (M : Int)) (k := M) (fun x h1 h2 => hx x (by omega)), filt_nil (a := _ - ((1 : Nat) : Int)) (k := M) (fun x h1 h2 => hx x (by omega))]
  simp [dn, show (M : Int) - M = 0 by omega, h]
theorem ds_pos {N : Int} {M : Nat} {a b c : Int} {d : Nat} (hd : 0 < d) (hM : d ≤ M) (h : okQ N a b c d = true) : ds N M a b c = [(d : Int), -(d : Int)] := by
  have hx : ∀ x : Int, x ≠ d → x ≠ -d → okQ N a b c x = false := fun x h1 h2 => by
    cases hq : okQ N a b c x with
    | false => rfl
    | true => rcases okQ_sq h (by omega) hq with h | h
              · exact absurd h h1
              · exact absurd h h2
  have hn := okQ_neg h
  unfold ds II
  rw [show 2 * M + 1 = (M - d) + (1 + ((2 * d - 1) + (1 + (M - d)))) by omega, dn_add, dn_add, dn_add, dn_add]
  simp only [List.filter_append]
  rw [filt_nil (a := (M : Int)) (fun x h1 h2 => hx x (by omega) (by omega)), filt_nil (a := _ - ((1 : Nat) : Int)) (k := 2 * d - 1) (fun x h1 h2 => hx x (by omega) (by omega)), filt_nil (k := M - d) (a := _ - ((1 : Nat) : Int)) (fun x h1 h2 => hx x (by omega) (by omega))]
  have e1 : (M : Int) - ((M - d : Nat) : Int) = d := by omega
  have e2 : (M : Int) - ((M - d : Nat) : Int) - ((1 : Nat) : Int) - ((2 * d - 1 : Nat) : Int) = -(d : Int) := by omega
  rw [e2, e1]
  simp [dn, h, hn]
/-! sums -/
def sm : List Int → (Int → Nat) → Nat
  | [], _ => 0
  | x :: l, f => f x + sm l f
theorem sm_congr {l : List Int} {f g : Int → Nat} (h : ∀ x ∈ l, f x = g x) : sm l f = sm l g := by
  induction l with
  | nil => rfl
  | cons x l ih =>
    simp only [sm]
    rw [h x (by simp), ih (fun y hy => h y (by simp [hy]))]
theorem sm_zero {l : List Int} {f : Int → Nat} (h : ∀ x ∈ l, f x = 0) : sm l f = 0 := by
  induction l with
  | nil => rfl
  | cons x l ih =>
    simp only [sm]
    rw [h x (by simp), ih (fun y hy => h y (by simp [hy]))]
theorem sm_add {l : List Int} {f g : Int → Nat} : sm l (fun x => f x + g x) = sm l f + sm l g := by
  induction l with
  | nil => rfl
  | cons x l ih =>
    simp only [sm]
    rw [ih]; omega
theorem sm_app (l m : List Int) (f : Int → Nat) : sm (l ++ m) f = sm l f + sm m f := by
  induction l with
  | nil => simp [sm]
  | cons x l ih =>
    simp only [sm, List.cons_append]
    rw [ih]; omega
theorem len_flat {α : Type} {l : List Int} {f : Int → List α} : (l.flatMap f).length = sm l (fun x => (f x).length) := by
  induction l with
  | nil => rfl
  | cons x l ih => simp [sm, List.flatMap_cons, ih]
theorem len_filt {l : List Int} {p : Int → Bool} : (l.filter p).length = sm l (fun x => if p x then 1 else 0) := by
  induction l with
  | nil => rfl
  | cons x l ih =>
    simp only [List.filter_cons, sm]
    cases p x
    · simp [ih]
    · simp [ih]; omega
theorem S0_len {N : Int} {M : Nat} : (S0 N M).length = sm (II M) (fun a => sm (II M) (fun b => sm (II M) (fun c => sm (II M) (fun d => if okQ N a b c d then 1 else 0)))) := by
  simp only [S0, S1, S2, S3, ds, len_flat, List.length_map, len_filt]
theorem II_succ (M : Nat) : II (M + 1) = ((M + 1 : Nat) : Int) :: (II M ++ [-((M + 1 : Nat) : Int)]) := by
  unfold II
  rw [show 2 * (M + 1) + 1 = 1 + ((2 * M + 1) + 1) by omega, dn_add, dn_add]
  have e1 : ((M + 1 : Nat) : Int) - ((1 : Nat) : Int) = M := by omega
  have e2 : (M : Int) - ((2 * M + 1 : Nat) : Int) = -((M + 1 : Nat) : Int) := by omega
  rw [e1, e2]
  simp [dn]
theorem sm_wide {M : Nat} {f : Int → Nat} (h : ∀ x : Int, (M : Int) < x.natAbs → f x = 0) : ∀ k, sm (II (M + k)) f = sm (II M) f
  | 0 => rfl
  | k + 1 => by
    rw [show M + (k + 1) = (M + k) + 1 by omega, II_succ]
    simp only [sm, sm_app]
    rw [sm_wide h k, h _ (by omega), h (-_) (by omega)]
    omega
/-- the number of ways to write k as a sum of j squares of numbers of a parity -/
def cq (M : Nat) (p : Int) : Nat → Nat → Nat
  | 0, k => if k = 0 then 1 else 0
  | j + 1, k => sm (II M) (fun a => if a % 2 = p ∧ a * a ≤ k then cq M p j (k - (a * a).toNat) else 0)

theorem toNat_sq (a : Int) : (((a * a).toNat : Nat) : Int) = a * a := by
  have : 0 ≤ a * a := by
    rcases Int.le_total 0 a with h | h
    · exact Int.mul_nonneg h h
    · have := Int.mul_nonneg_of_nonpos_of_nonpos h h; exact this
  omega
theorem cq_1 {M : Nat} {p : Int} {k : Nat} : cq M p 1 k = sm (II M) (fun d => if d % 2 = p ∧ d * d = k then 1 else 0) := by
  refine sm_congr (fun d _ => ?_)
  have h := toNat_sq d
  by_cases h1 : d % 2 = p ∧ d * d ≤ k
  · rw [if_pos h1]
    simp only [cq]
    by_cases h2 : k - (d * d).toNat = 0
    · rw [if_pos h2, if_pos ⟨h1.1, by omega⟩]
    · rw [if_neg h2, if_neg (fun z => h2 (by omega))]
  · rw [if_neg h1, if_neg (fun z => h1 ⟨z.1, by omega⟩)]
theorem cq_2 {M : Nat} {p : Int} {k : Nat} : cq M p 2 k = sm (II M) (fun c => sm (II M) (fun d => if c % 2 = p ∧ d % 2 = p ∧ c * c + d * d = k then 1 else 0)) := by
  refine sm_congr (fun c _ => ?_)
  have h := toNat_sq c
  by_cases h1 : c % 2 = p ∧ c * c ≤ k
  · rw [if_pos h1, cq_1]
    refine sm_congr (fun d _ => ?_)
    by_cases h2 : d % 2 = p ∧ d * d = ((k - (c * c).toNat : Nat) : Int)
    · rw [if_pos h2, if_pos ⟨h1.1, h2.1, by omega⟩]
    · rw [if_neg h2, if_neg (fun z => h2 ⟨z.2.1, by omega⟩)]
  · rw [if_neg h1]
    refine (sm_zero (fun d _ => ?_)).symm
    have h3 := toNat_sq d
    rw [if_neg (fun z => h1 ⟨z.1, by omega⟩)]
theorem cq_3 {M : Nat} {p : Int} {k : Nat} : cq M p 3 k = sm (II M) (fun b => sm (II M) (fun c => sm (II M) (fun d => if b % 2 = p ∧ c % 2 = p ∧ d % 2 = p ∧ b * b + c * c + d * d = k then 1 else 0))) := by
  refine sm_congr (fun b _ => ?_)
  have h := toNat_sq b
  by_cases h1 : b % 2 = p ∧ b * b ≤ k
  · rw [if_pos h1, cq_2]
    refine sm_congr (fun c _ => sm_congr (fun d _ => ?_))
    by_cases h2 : c % 2 = p ∧ d % 2 = p ∧ c * c + d * d = ((k - (b * b).toNat : Nat) : Int)
    · rw [if_pos h2, if_pos ⟨h1.1, h2.1, h2.2.1, by omega⟩]
    · rw [if_neg h2, if_neg (fun z => h2 ⟨z.2.1, z.2.2.1, by omega⟩)]
  · rw [if_neg h1]
    refine (sm_zero (fun c _ => sm_zero (fun d _ => ?_))).symm
    have h3 := toNat_sq d
    have h4 := toNat_sq c
    rw [if_neg (fun z => h1 ⟨z.1, by omega⟩)]
theorem cq_4 {M : Nat} {p : Int} {k : Nat} : cq M p 4 k = sm (II M) (fun a => sm (II M) (fun b => sm (II M) (fun c => sm (II M) (fun d => if a % 2 = p ∧ b % 2 = p ∧ c % 2 = p ∧ d % 2 = p ∧ a * a + b * b + c * c + d * d = k then 1 else 0)))) := by
  refine sm_congr (fun a _ => ?_)
  have h := toNat_sq a
  by_cases h1 : a % 2 = p ∧ a * a ≤ k
  · rw [if_pos h1, cq_3]
    refine sm_congr (fun b _ => sm_congr (fun c _ => sm_congr (fun d _ => ?_)))
    by_cases h2 : b % 2 = p ∧ c % 2 = p ∧ d % 2 = p ∧ b * b + c * c + d * d = ((k - (a * a).toNat : Nat) : Int)
    · rw [if_pos h2, if_pos ⟨h1.1, h2.1, h2.2.1, h2.2.2.1, by omega⟩]
    · rw [if_neg h2, if_neg (fun z => h2 ⟨z.2.1, z.2.2.1, z.2.2.2.1, by omega⟩)]
  · rw [if_neg h1]
    refine (sm_zero (fun b _ => sm_zero (fun c _ => sm_zero (fun d _ => ?_)))).symm
    have h3 := toNat_sq d
    have h4 := toNat_sq c
    have h5 := toNat_sq b
    rw [if_neg (fun z => h1 ⟨z.1, by omega⟩)]
theorem S0_cq {k : Nat} {M : Nat} : (S0 k M).length = cq M 0 4 k + cq M 1 4 k := by
  rw [S0_len, cq_4, cq_4, ← sm_add]
  refine sm_congr (fun a _ => ?_)
  rw [← sm_add]
  refine sm_congr (fun b _ => ?_)
  rw [← sm_add]
  refine sm_congr (fun c _ => ?_)
  rw [← sm_add]
  refine sm_congr (fun d _ => ?_)
  by_cases h : okQ k a b c d = true
  · rw [if_pos h]
    simp only [okQ, Bool.and_eq_true, decide_eq_true_eq] at h
    rcases (show a % 2 = 0 ∨ a % 2 = 1 by omega) with q | q
    · rw [if_pos ⟨q, by omega, by omega, by omega, h.1.1.1⟩, if_neg (fun z => by omega)]
    · rw [if_neg (fun z => by omega), if_pos ⟨q, by omega, by omega, by omega, h.1.1.1⟩]
  · rw [if_neg h]
    simp only [okQ, Bool.and_eq_true, decide_eq_true_eq] at h
    rw [if_neg (fun z => h ⟨⟨⟨z.2.2.2.2, by omega⟩, by omega⟩, by omega⟩), if_neg (fun z => h ⟨⟨⟨z.2.2.2.2, by omega⟩, by omega⟩, by omega⟩)]
/-- the even ones alone -/
theorem S0_ev {k : Nat} {M : Nat} : ((S0 k M).filter (fun q => decide (q.1 % 2 = 0))).length = cq M 0 4 k := by
  have e3 : ∀ a b c : Int, ((S3 k M a b c).filter (fun q => decide (q.1 % 2 = 0))).length = sm (II M) (fun d => if a % 2 = 0 ∧ okQ k a b c d = true then 1 else 0) := fun a b c => by
    by_cases h : a % 2 = 0
    · have : (S3 k M a b c).filter (fun q => decide (q.1 % 2 = 0)) = S3 k M a b c := by
        rw [List.filter_eq_self]
        intro q hq
        obtain ⟨d, -, rfl⟩ := List.mem_map.mp hq
        simpa using h
      rw [this, S3, List.length_map, ds, len_filt]
      refine sm_congr (fun d _ => ?_)
      simp [h]
    · have : (S3 k M a b c).filter (fun q => decide (q.1 % 2 = 0)) = [] := by
        rw [List.filter_eq_nil_iff]
        intro q hq
        obtain ⟨d, -, rfl⟩ := List.mem_map.mp hq
        simpa using h
      rw [this]
      refine (sm_zero (fun d _ => ?_)).symm
      rw [if_neg (fun z => h z.1)]
  have e0 : ((S0 k M).filter (fun q => decide (q.1 % 2 = 0))).length = sm (II M) (fun a => sm (II M) (fun b => sm (II M) (fun c => sm (II M) (fun d => if a % 2 = 0 ∧ okQ k a b c d = true then 1 else 0)))) := by
    simp only [S0, S1, S2, List.filter_flatMap, len_flat, e3]
  rw [e0, cq_4]
  refine sm_congr (fun a _ => sm_congr (fun b _ => sm_congr (fun c _ => sm_congr (fun d _ => ?_))))
  by_cases h : a % 2 = 0 ∧ okQ k a b c d = true
  · rw [if_pos h]
    obtain ⟨q, h⟩ := h
    simp only [okQ, Bool.and_eq_true, decide_eq_true_eq] at h
    rw [if_pos ⟨q, by omega, by omega, by omega, h.1.1.1⟩]
  · rw [if_neg h, if_neg (fun z => h ⟨z.1, by simp only [okQ, Bool.and_eq_true, decide_eq_true_eq]; exact ⟨⟨⟨z.2.2.2.2, by omega⟩, by omega⟩, by omega⟩⟩)]
/-- a wider range finds no more -/
theorem cq_wide {M p : Nat} : ∀ (j : Nat) {k : Nat} (e : Nat), k < (M + 1) * (M + 1) → cq (M + e) p j k = cq M p j k
  | 0, _, _, _ => rfl
  | j + 1, k, e, h => by
    simp only [cq]
    have e1 : sm (II (M + e)) (fun a => if a % 2 = p ∧ a * a ≤ k then cq (M + e) p j (k - (a * a).toNat) else 0) = sm (II (M + e)) (fun a => if a % 2 = p ∧ a * a ≤ k then cq M p j (k - (a * a).toNat) else 0) := by
      refine sm_congr (fun a _ => ?_)
      by_cases q : a % 2 = (p : Int) ∧ a * a ≤ k
      · rw [if_pos q, if_pos q, cq_wide j e (by omega)]
      · rw [if_neg q, if_neg q]
    rw [e1]
    refine sm_wide (fun x hx => ?_) e
    rw [if_neg (fun z => ?_)]
    have h1 : (M + 1) * (M + 1) ≤ x.natAbs * x.natAbs := Nat.mul_le_mul (by omega) (by omega)
    have h2 : ((x.natAbs * x.natAbs : Nat) : Int) = x * x := Int.natAbs_mul_self
    omega
/-! tables -/
def zipA : List Nat → List Nat → List Nat
  | [], _ => []
  | x :: a, [] => x :: a
  | x :: a, y :: l => (x + y) :: zipA a l
def addS : Nat → List Nat → List Nat → List Nat
  | 0, l, acc => zipA acc l
  | _ + 1, _, [] => []
  | k + 1, l, x :: acc => x :: addS k l acc
theorem zipA_get : ∀ (a l : List Nat) (i : Nat), i < a.length → (zipA a l).getD i 0 = a.getD i 0 + l.getD i 0
  | [], _, i, h => by simp at h
  | x :: a, [], i, h => by simp [zipA]
  | x :: a, y :: l, 0, h => by simp [zipA]
  | x :: a, y :: l, i + 1, h => by
    have := zipA_get a l i (by simpa using h)
    simpa [zipA] using this
theorem zipA_len : ∀ (a l : List Nat), (zipA a l).length = a.length
  | [], _ => rfl
  | x :: a, [] => rfl
  | x :: a, y :: l => by simp [zipA, zipA_len a l]
theorem addS_len : ∀ (k : Nat) (l a : List Nat), (addS k l a).length = a.length
  | 0, l, a => zipA_len a l
  | _ + 1, _, [] => rfl
  | k + 1, l, x :: a => by simp [addS, addS_len k l a]
theorem addS_get : ∀ (k : Nat) (l a : List Nat) (i : Nat), i < a.length → (addS k l a).getD i 0 = a.getD i 0 + (if k ≤ i then l.getD (i - k) 0 else 0)
  | 0, l, a, i, h => by simpa [addS] using zipA_get a l i h
  | _ + 1, _, [], i, h => by simp at h
  | k + 1, l, x :: a, 0, h => by simp [addS]
  | k + 1, l, x :: a, i + 1, h => by
    have := addS_get k l a i (by simpa using h)
    simpa [addS] using this
def stepG (p : Int) (l : List Nat) (n : Nat) : List Int → List Nat
  | [] => List.replicate n 0
  | a :: r => if a % 2 = p then addS (a * a).toNat l (stepG p l n r) else stepG p l n r
theorem stepG_len (p : Int) (l : List Nat) (n : Nat) : ∀ r, (stepG p l n r).length = n
  | [] => by simp [stepG]
  | a :: r => by
    simp only [stepG]
    split
    · rw [addS_len, stepG_len]
    · exact stepG_len p l n r
theorem stepG_get (p : Int) (l : List Nat) (n i : Nat) (hi : i < n) : ∀ r, (stepG p l n r).getD i 0 = sm r (fun a => if a % 2 = p ∧ a * a ≤ i then l.getD (i - (a * a).toNat) 0 else 0)
  | [] => by
    simp only [stepG, sm, List.getD_eq_getElem?_getD, List.getElem?_replicate]
    split <;> rfl
  | a :: r => by
    have ih := stepG_get p l n i hi r
    have hsq := toNat_sq a
    simp only [stepG, sm]
    by_cases h : a % 2 = p
    · rw [if_pos h, addS_get _ _ _ _ (by rw [stepG_len]; exact hi), ih]
      by_cases h2 : (a * a).toNat ≤ i
      · rw [if_pos h2, if_pos ⟨h, by omega⟩]; omega
      · rw [if_neg h2, if_neg (fun z => h2 (by omega))]; omega
    · rw [if_neg h, if_neg (fun z => h z.1), ih]; omega
def tb (p : Int) (n : Nat) (l : List Nat) : List Nat := stepG p l n (II 28)
theorem tb_ok {p : Int} {n j : Nat} {l t : List Nat} (h : ∀ i, i < n → l.getD i 0 = cq 28 p j i) (e : tb p n l = t) : ∀ i, i < n → t.getD i 0 = cq 28 p (j + 1) i := by
  intro i hi
  rw [← e, tb, stepG_get p l n i hi]
  simp only [cq]
  refine sm_congr (fun a _ => ?_)
  by_cases q : a % 2 = p ∧ a * a ≤ i
  · rw [if_pos q, if_pos q, h _ (by omega)]
  · rw [if_neg q, if_neg q]
