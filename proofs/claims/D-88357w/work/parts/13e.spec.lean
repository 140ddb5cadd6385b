/-! THE SPECIFICATION: what each call answers and does, over the model's arrays -/
set_option maxRecDepth 100000
def h_g (g : Nat → Int32) (j : Nat) (v : Q4) : Nat → Int32 := if q_low v then wq g j v else g
/-- no whole divides it but units: the model's word -/
def m_prim (v : Q4) : Prop := q_null v = false ∧ (∃ k, gN v = 2 ^ k) ∧ ¬ (gN v % 2 = 0 ∧ q_one (q_half v) = true)
abbrev AI : Type := Nat → Int32
abbrev AL : Type := Nat → Int64
def zrk (sh : AL) (j k : Nat) : AL := fun q => if 16 * j ≤ q ∧ q < 16 * j + k then 0 else sh q
theorem zrk_0 (sh : AL) (j : Nat) : zrk sh j 0 = sh := funext fun q => if_neg (by omega)
theorem zrk_s (sh : AL) (j k : Nat) : vp_updL (zrk sh j k) (16 * j + k) 0 = zrk sh j (k + 1) := by
  funext q
  simp only [vp_updL, zrk]
  by_cases h : q = 16 * j + k
  · rw [if_pos h, if_pos (by omega)]
  · rw [if_neg h]
    by_cases h2 : 16 * j ≤ q ∧ q < 16 * j + k
    · rw [if_pos h2, if_pos (by omega)]
    · rw [if_neg h2, if_neg (by omega)]
def m_sheet (kd sz : AI) (sh : AL) (r k n : Int32) : Int32 × AI × AI × AL :=
  if p_in r.toInt64 0 5 then
    if p_in k.toInt64 (-1) 2 then
      if k < 0 then (0, upd kd r.toNatClampNeg k, upd sz r.toNatClampNeg 0, zrk sh r.toNatClampNeg 16)
      else if n ≤ 16 then
        if 0 ≤ n then (0, upd kd r.toNatClampNeg k, upd sz r.toNatClampNeg n, zrk sh r.toNatClampNeg 16)
        else (-13, kd, sz, sh)
      else (-1, kd, sz, sh)
    else (-1, kd, sz, sh)
  else (-1, kd, sz, sh)
def m_cut (kd : AI) (j : Nat) (v : Int64) : Int64 := if kd j = 0 then v.toInt32.toInt8.toInt32.toInt64 else if kd j = 1 then v.toInt32.toInt64 else v
def m_ag (kd sz : AI) (j : Nat) (i n : Int32) : Int32 := if 0 ≤ kd j then (if i < 0 then -12 else if i.toInt64 + n.toInt64 ≤ (sz j).toInt64 then 0 else -12) else -11
def okS (sz : AI) : Prop := ∀ j, j < 6 → ∃ k, k ≤ 16 ∧ sz j = nI k
theorem nI_64 {n : Nat} (h : n < 2 ^ 31) : (nI n).toInt64.toInt = n := by rw [Int32.toInt_toInt64, nI_toInt h]
theorem ag_0 {kd sz : AI} {j : Nat} {i : Int32} {n : Nat} (hz : okS sz) (hj : j < 6) (hn : n < 2 ^ 31) (h : m_ag kd sz j i (nI n) = 0) : ∃ a, i = nI a ∧ a + n ≤ 16 ∧ sz j = nI (sz j).toNatClampNeg ∧ a + n ≤ (sz j).toNatClampNeg ∧ (sz j).toNatClampNeg ≤ 16 := by
  obtain ⟨k, hk, hs⟩ := hz j hj
  unfold m_ag at h
  by_cases h1 : 0 ≤ kd j
  · rw [if_pos h1] at h
    by_cases h2 : i < 0
    · rw [if_pos h2] at h; exact absurd h (by decide)
    · rw [if_neg h2] at h
      obtain ⟨a, ha, rfl⟩ := nI_of h2
      by_cases h3 : (nI a).toInt64 + (nI n).toInt64 ≤ (sz j).toInt64
      · rw [hs, nI_l ha, nI_l (by omega), nI_l (by omega), lN_add, pk_lLE (by omega) (by omega)] at h3
        refine ⟨a, rfl, by omega, ?_, ?_, ?_⟩ <;> rw [hs, nI_clamp (by omega)] <;> omega
      · rw [if_neg h3] at h; exact absurd h (by decide)
  · rw [if_neg h1] at h; exact absurd h (by decide)
def m_put (kd sz : AI) (sh : AL) (r i : Int32) (v : Int64) : Int32 × AL :=
  if p_in r.toInt64 0 5 then
    if m_ag kd sz r.toNatClampNeg i 1 = 0 then (0, vp_updL sh (16 * r.toNatClampNeg + i.toNatClampNeg) (m_cut kd r.toNatClampNeg v))
    else (m_ag kd sz r.toNatClampNeg i 1, sh)
  else (-1, sh)
/-- four places of a sheet -/
def sq4 (sh : AL) (a : Nat) : Q4 := (sh a, sh (a + 1), sh (a + 2), sh (a + 3))
def m_read (kd sz : AI) (sh : AL) (g : AI) (s r i : Int32) : Int32 × AI :=
  if p_in s.toInt64 0 15 then
    if p_in r.toInt64 0 5 then
      if m_ag kd sz r.toNatClampNeg i 4 = 0 then
        if q_one (sq4 sh (16 * r.toNatClampNeg + i.toNatClampNeg)) then
          if q_low (sq4 sh (16 * r.toNatClampNeg + i.toNatClampNeg)) then (0, wq g s.toNatClampNeg (sq4 sh (16 * r.toNatClampNeg + i.toNatClampNeg)))
          else (-16, g)
        else (-15, g)
      else (m_ag kd sz r.toNatClampNeg i 4, g)
    else (-1, g)
  else (-1, g)
def w4 (sh : AL) (a : Nat) (v : Q4) : AL := vp_updL (vp_updL (vp_updL (vp_updL sh a v.1) (a + 1) v.2.1) (a + 2) v.2.2.1) (a + 3) v.2.2.2
def c4 (kd : AI) (j : Nat) (v : Q4) : Q4 := (m_cut kd j v.1, m_cut kd j v.2.1, m_cut kd j v.2.2.1, m_cut kd j v.2.2.2)
def m_write (kd sz : AI) (sh : AL) (g : AI) (s r i : Int32) : Int32 × AL :=
  if p_in s.toInt64 0 15 then
    if p_in r.toInt64 0 5 then
      if m_ag kd sz r.toNatClampNeg i 4 = 0 then (0, w4 sh (16 * r.toNatClampNeg + i.toNatClampNeg) (c4 kd r.toNatClampNeg (rq g s.toNatClampNeg)))
      else (m_ag kd sz r.toNatClampNeg i 4, sh)
    else (-1, sh)
  else (-1, sh)
def m_set (g : AI) (s a b c d : Int32) : Int32 × AI :=
  if p_in s.toInt64 0 15 then
    if p_one a.toInt64 b.toInt64 c.toInt64 d.toInt64 then (if q_low (a.toInt64, b.toInt64, c.toInt64, d.toInt64) then 0 else -3, h_g g s.toNatClampNeg (a.toInt64, b.toInt64, c.toInt64, d.toInt64))
    else (-2, g)
  else (-1, g)
/-- k places from a on, laid at b -/
def cpk (sh : AL) (a b k : Nat) : AL := fun q => if b ≤ q ∧ q < b + k then sh (a + (q - b)) else sh q
def mdk (sh mid : AL) (a k : Nat) : AL := fun q => if q < k then sh (a + q) else mid q
theorem cpk_0 (sh : AL) (a b : Nat) : cpk sh a b 0 = sh := funext fun q => if_neg (by omega)
theorem mdk_0 (sh mid : AL) (a : Nat) : mdk sh mid a 0 = mid := funext fun q => if_neg (by omega)
theorem mdk_in {sh mid : AL} {a k n : Nat} (h : k < n) : mdk sh mid a n k = sh (a + k) := if_pos h
theorem mdk_s (sh mid : AL) (a k : Nat) : vp_updL (mdk sh mid a k) k (sh (a + k)) = mdk sh mid a (k + 1) := by
  funext q
  simp only [vp_updL, mdk]
  by_cases h : q = k
  · rw [if_pos h, if_pos (by omega), h]
  · rw [if_neg h]
    by_cases h2 : q < k
    · rw [if_pos h2, if_pos (by omega)]
    · rw [if_neg h2, if_neg (by omega)]
theorem cpk_s (sh : AL) (a b k : Nat) : vp_updL (cpk sh a b k) (b + k) (sh (a + k)) = cpk sh a b (k + 1) := by
  funext q
  simp only [vp_updL, cpk]
  by_cases h : q = b + k
  · rw [if_pos h, if_pos (by omega), h, show a + (b + k - b) = a + k by omega]
  · rw [if_neg h]
    by_cases h2 : b ≤ q ∧ q < b + k
    · rw [if_pos h2, if_pos (by omega)]
    · rw [if_neg h2, if_neg (by omega)]
def m_copy (kd sz : AI) (sh : AL) (r i t j n : Int32) : Int32 × AL :=
  if p_in r.toInt64 0 5 then
    if p_in t.toInt64 0 5 then
      if kd r.toNatClampNeg < 0 then (-11, sh)
      else if 0 ≤ kd t.toNatClampNeg then
        if kd r.toNatClampNeg = kd t.toNatClampNeg then
          if n < 0 then (-12, sh)
          else if m_ag kd sz r.toNatClampNeg i n = 0 then
            if m_ag kd sz t.toNatClampNeg j n = 0 then (0, cpk sh (16 * r.toNatClampNeg + i.toNatClampNeg) (16 * t.toNatClampNeg + j.toNatClampNeg) n.toNatClampNeg)
            else (-12, sh)
          else (-12, sh)
        else (-14, sh)
      else (-11, sh)
    else (-1, sh)
  else (-1, sh)
/-! dividing -/
def q_sub (v w : Q4) : Q4 := (v.1 - w.1, v.2.1 - w.2.1, v.2.2.1 - w.2.2.1, v.2.2.2 - w.2.2.2)
def q_add (v w : Q4) : Q4 := (v.1 + w.1, v.2.1 + w.2.1, v.2.2.1 + w.2.2.1, v.2.2.2 + w.2.2.2)
def d_off (n x : Int64) : Int64 := x - 2 * n * p_fl (x + n) (2 * n)
def d_oth (n x : Int64) : Int64 := x - n * (2 * p_fl x (2 * n) + 1)
def d_whole (n : Int64) (w : Q4) : Int64 := 0 + d_off n w.1 * d_off n w.1 + d_off n w.2.1 * d_off n w.2.1 + d_off n w.2.2.1 * d_off n w.2.2.1 + d_off n w.2.2.2 * d_off n w.2.2.2
def d_half (n : Int64) (w : Q4) : Int64 := 0 + d_oth n w.1 * d_oth n w.1 + d_oth n w.2.1 * d_oth n w.2.1 + d_oth n w.2.2.1 * d_oth n w.2.2.1 + d_oth n w.2.2.2 * d_oth n w.2.2.2
def d_e (n x : Int64) : Int64 := 2 * p_fl (x + n) (2 * n)
def d_o (n x : Int64) : Int64 := 2 * p_fl x (2 * n) + 1
def nearM (n : Int64) (w : Q4) : Q4 := if d_half n w < d_whole n w then (d_o n w.1, d_o n w.2.1, d_o n w.2.2.1, d_o n w.2.2.2) else (d_e n w.1, d_e n w.2.1, d_e n w.2.2.1, d_e n w.2.2.2)
def d_w (sd : Int32) (v t : Q4) : Q4 := if sd = 0 then q_times v (q_mirror t) else q_times (q_mirror t) v
def d_b (sd : Int32) (q t : Q4) : Q4 := if sd = 0 then q_times q t else q_times t q
def d_q (sd : Int32) (v t : Q4) : Q4 := nearM (q_norm t) (d_w sd v t)
def d_r (sd : Int32) (v t : Q4) : Q4 := q_sub v (d_b sd (d_q sd v t) t)
def euc (sd : Int32) : Nat → Q4 → Q4 → Q4
  | 0, x, _ => x
  | n + 1, x, y => if q_null y then x else euc sd n y (d_r sd x y)
def eucOk (sd : Int32) : Nat → Q4 → Q4 → Prop
  | 0, _, y => q_null y = true
  | n + 1, x, y => q_null y = true ∨ (q_null y = false ∧ ¬ 2 * q_norm y = 0 ∧ eucOk sd n y (d_r sd x y))
def bst (un : AI) (sd : Int32) (x : Q4) : Nat → Q4
  | 0 => x
  | k + 1 => if q_gt (d_b sd (rq un k) x) (bst un sd x k) then d_b sd (rq un k) x else bst un sd x k
def m_work (g : AI) (s how t u : Int32) : Int32 × AI :=
  if p_in s.toInt64 0 15 then
    if p_in how.toInt64 0 3 then
      if p_in t.toInt64 0 15 then
        if how.toNatClampNeg = 3 then (if q_low (q_mirror (rq g t.toNatClampNeg)) then 0 else -3, h_g g s.toNatClampNeg (q_mirror (rq g t.toNatClampNeg)))
        else if p_in u.toInt64 0 15 then
          if how.toNatClampNeg = 2 then (if q_low (q_times (rq g t.toNatClampNeg) (rq g u.toNatClampNeg)) then 0 else -3, h_g g s.toNatClampNeg (q_times (rq g t.toNatClampNeg) (rq g u.toNatClampNeg)))
          else if how.toNatClampNeg = 0 then (if q_low (q_add (rq g t.toNatClampNeg) (rq g u.toNatClampNeg)) then 0 else -3, h_g g s.toNatClampNeg (q_add (rq g t.toNatClampNeg) (rq g u.toNatClampNeg)))
          else (if q_low (q_sub (rq g t.toNatClampNeg) (rq g u.toNatClampNeg)) then 0 else -3, h_g g s.toNatClampNeg (q_sub (rq g t.toNatClampNeg) (rq g u.toNatClampNeg)))
        else (-1, g)
      else (-1, g)
    else (-1, g)
  else (-1, g)
def m_unit (g un : AI) (s t u sd : Int32) : Int32 × AI :=
  if p_in s.toInt64 0 15 then
    if p_in t.toInt64 0 15 then
      if p_in u.toInt64 0 23 then
        if p_in sd.toInt64 0 1 then (if q_low (d_b sd (rq g t.toNatClampNeg) (rq un u.toNatClampNeg)) then 0 else -3, h_g g s.toNatClampNeg (d_b sd (rq g t.toNatClampNeg) (rq un u.toNatClampNeg)))
        else (-1, g)
      else (-1, g)
    else (-1, g)
  else (-1, g)
def m_divide (g : AI) (s r t u sd : Int32) : Int32 × AI :=
  if p_in s.toInt64 0 15 then
    if p_in r.toInt64 0 15 then
      if p_in t.toInt64 0 15 then
        if p_in u.toInt64 0 15 then
          if p_in sd.toInt64 0 1 then
            if s.toNatClampNeg = r.toNatClampNeg then (-1, g)
            else if q_null (rq g u.toNatClampNeg) then (-2, g)
            else if q_low (d_q sd (rq g t.toNatClampNeg) (rq g u.toNatClampNeg)) then
              if q_low (d_r sd (rq g t.toNatClampNeg) (rq g u.toNatClampNeg)) then (0, wq (wq g s.toNatClampNeg (d_q sd (rq g t.toNatClampNeg) (rq g u.toNatClampNeg))) r.toNatClampNeg (d_r sd (rq g t.toNatClampNeg) (rq g u.toNatClampNeg)))
              else (-3, g)
            else (-3, g)
          else (-1, g)
        else (-1, g)
      else (-1, g)
    else (-1, g)
  else (-1, g)
def m_divisor (g un : AI) (s t u sd : Int32) : Int32 × AI :=
  if p_in s.toInt64 0 15 then
    if p_in t.toInt64 0 15 then
      if p_in u.toInt64 0 15 then
        if p_in sd.toInt64 0 1 then
          if q_null (rq g t.toNatClampNeg) && q_null (rq g u.toNatClampNeg) then (-2, g)
          else if q_low (bst un sd (euc sd 40 (rq g t.toNatClampNeg) (rq g u.toNatClampNeg)) 24) then ((q_norm (bst un sd (euc sd 40 (rq g t.toNatClampNeg) (rq g u.toNatClampNeg)) 24)).toInt32, wq g s.toNatClampNeg (bst un sd (euc sd 40 (rq g t.toNatClampNeg) (rq g u.toNatClampNeg)) 24))
          else (-3, g)
        else (-1, g)
      else (-1, g)
    else (-1, g)
  else (-1, g)
def m_like (g un : AI) (s t sd : Int32) : Int32 :=
  if p_in s.toInt64 0 15 then
    if p_in t.toInt64 0 15 then
      if p_in sd.toInt64 0 1 then oI (fstF (fun k => q_same (d_b sd (rq g s.toNatClampNeg) (rq un k)) (rq g t.toNatClampNeg)) 0 24)
      else -1
    else -1
  else -1
/-! turns, parts, factors -/
noncomputable def pI (p : Prop) : Int32 := @ite _ p (Classical.propDecidable p) 1 0
theorem pI_t {p : Prop} (h : p) : pI p = 1 := by simp [pI, h]
theorem pI_f {p : Prop} (h : ¬ p) : pI p = 0 := by simp [pI, h]
theorem rem3 {a : Nat} (h : a < 2 ^ 30) : (nI a + 1) - (nI a + 1) / 3 * 3 = nI ((a + 1) % 3) := by
  rw [nI_1]; exact pk_rem (d := 3) (by omega) (by decide) (by decide)
def m_ent (g : AI) (s i j : Nat) : Int64 :=
  if i = j then ((rq g s).1 * (rq g s).1 - (rq g s).2.1 * (rq g s).2.1 - (rq g s).2.2.1 * (rq g s).2.2.1 - (rq g s).2.2.2 * (rq g s).2.2.2 + 2 * (g (4 * s + 1 + i)).toInt64 * (g (4 * s + 1 + i)).toInt64) / 4
  else ((g (4 * s + 1 + i)).toInt64 * (g (4 * s + 1 + j)).toInt64 + (if j = (i + 1) % 3 then -(g (4 * s)).toInt64 * (g (4 * s + 1 + (3 - i - j))).toInt64 else (g (4 * s)).toInt64 * (g (4 * s + 1 + (3 - i - j))).toInt64)) / 2
def m_turn (g : AI) (s i j : Int32) : Int32 :=
  if p_in s.toInt64 0 15 then
    if p_in i.toInt64 0 2 then
      if p_in j.toInt64 0 2 then
        if q_null (rq g s.toNatClampNeg) then -2000000001 else (m_ent g s.toNatClampNeg i.toNatClampNeg j.toNatClampNeg).toInt32
      else -2000000000
    else -2000000000
  else -2000000000
def m_turned (g : AI) (s x y z i : Int32) : Int64 :=
  if p_in s.toInt64 0 15 then
    if p_in x.toInt64 (-100) 100 then
      if p_in y.toInt64 (-100) 100 then
        if p_in z.toInt64 (-100) 100 then
          if p_in i.toInt64 0 2 then m_ent g s.toNatClampNeg i.toNatClampNeg 0 * x.toInt64 + m_ent g s.toNatClampNeg i.toNatClampNeg 1 * y.toInt64 + m_ent g s.toNatClampNeg i.toNatClampNeg 2 * z.toInt64
          else -1
        else -1
      else -1
    else -1
  else -1
noncomputable def m_part (g un : AI) (s w : Int32) : Int32 :=
  if p_in s.toInt64 0 15 then
    if p_in w.toInt64 0 6 then
      if w.toNatClampNeg < 4 then g (4 * s.toNatClampNeg + w.toNatClampNeg)
      else if w.toNatClampNeg = 4 then (q_norm (rq g s.toNatClampNeg)).toInt32
      else if w.toNatClampNeg = 5 then pI (m_prim (rq g s.toNatClampNeg))
      else oI (fstF (fun k => q_same (rq g s.toNatClampNeg) (rq un k)) 0 24)
    else -1000000000
  else -1000000000
/-- four places of the factors' row -/
def fq (fc : AL) (k : Nat) : Q4 := (fc (4 * k), fc (4 * k + 1), fc (4 * k + 2), fc (4 * k + 3))
def m_factor (g : AI) (nf : Nat) (fc : AL) (s k : Int32) : Int32 × AI :=
  if p_in s.toInt64 0 15 then
    if p_in k.toInt64 0 (nI nf - 1).toInt64 then
      if q_low (fq fc k.toNatClampNeg) then ((q_norm (fq fc k.toNatClampNeg)).toInt32, wq g s.toNatClampNeg (fq fc k.toNatClampNeg)) else (-3, g)
    else (-2, g)
  else (-1, g)
/-- the units' array, and its Fours, as they are read -/
def Un (D : va_G) (ca : Nat → ClassId) (H : Heap) (hu : Nat) (ua : Nat → Nat) (un : AI) : Prop := va_P D vwCl [(hu, .inl (ca 4, 24, .inr (.inr (.inr (.inr (fun i => some (ua i)))))))] H ∧ ∀ i, i < 24 → Fo D H (ua i) (rq un i)
theorem Un.keep {D : va_G} {ca : Nat → ClassId} {H0 H : Heap} {hu : Nat} {ua : Nat → Nat} {un : AI} {A : Nat → Prop} {locs : List Loc} (h : Un D ca H0 hu ua un) (hS : va_S A H0 H locs) (hn : ∀ q, q < H0.size → ¬ A q) : Un D ca H hu ua un := by
  refine ⟨va_P.kept h.1 (fun k q hk => hS.2.1 q.1 (h.1 k q hk).lt (hn q.1 (h.1 k q hk).lt)), fun i hi => (h.2 i hi).keep hS (hn _ (h.2 i hi).lt)⟩
theorem bst_y {un : AI} {sd : Int32} {x : Q4} {i : Nat} (h : q_gt (d_b sd (rq un i) x) (bst un sd x i) = true) : bst un sd x (i + 1) = d_b sd (rq un i) x := by simp [bst, h]
theorem bst_n {un : AI} {sd : Int32} {x : Q4} {i : Nat} (h : q_gt (d_b sd (rq un i) x) (bst un sd x i) = false) : bst un sd x (i + 1) = bst un sd x i := by simp [bst, h]
