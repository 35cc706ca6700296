/-! what both sides compute, of the row s of 169 ints: rooms, gaps, night (6), seed, gaps of eight -/
set_option maxRecDepth 100000
def remP (x y : Int32) : Int32 := x - x / y * y
/-- place w of gap g -/
abbrev gp (g w : Nat) : Nat := 9 + 8 * g + w
def breadthP (s : Nat → Int32) (g : Nat) : Int32 :=
  if s (gp g 7) = 1 then 0
  else if s (gp g 0) = 1 then s (gp g 3) / 2
  else if s (gp g 0) = 3 then s 6
  else if s (gp g 0) = 4 then (if s (gp g 2) = -1 then (if s 3 ≤ 0 then s (gp g 3) else if s 4 = s (gp g 5) then 2 * s (gp g 3) else s (gp g 3)) else s (gp g 3))
  else s (gp g 3)
def windP (s : Nat → Int32) (g : Nat) : Int32 :=
  if remP (s 4 - s (gp g 5) + 4) 4 = 0 then s 3 else if remP (s 4 - s (gp g 5) + 4) 4 = 2 then 0 - s 3 / 2 else 0 - s 3 / 4
def pushP (s : Nat → Int32) (g : Nat) : Int32 :=
  if s (gp g 2) = -1 then
    (if s (gp g 0) = 5 then s 2 * (5 - s (gp g 4)) + windP s g - 3 * s 2 else s 2 * (5 - s (gp g 4)) + windP s g)
  else 0
/-- what is pushed at a gap on its other side, seen from its own room, of pressures p -/
def thereP (s p : Nat → Int32) (g : Nat) : Int32 := if s (gp g 2) = -1 then 8 * pushP s g else p (s (gp g 2)).toNatClampNeg
/-- sums of a room's round over the first n gaps: above, below -/
def askP (s p : Nat → Int32) (room : Int32) : Nat → Int32 × Int32
  | 0 => (if room = 0 then 80 * s 5 else 0, 0)
  | n + 1 =>
    if s (gp n 1) = room then ((askP s p room n).1 + breadthP s n * thereP s p n, (askP s p room n).2 + breadthP s n)
    else if s (gp n 2) = room then ((askP s p room n).1 + breadthP s n * p (s (gp n 1)).toNatClampNeg, (askP s p room n).2 + breadthP s n)
    else askP s p room n
def askedP (s p : Nat → Int32) (room : Int32) : Int32 :=
  if (askP s p room (s 1).toNatClampNeg).2 = 0 then 0 else (askP s p room (s 1).toNatClampNeg).1 / (askP s p room (s 1).toNatClampNeg).2
/-- a round: the new pressures -/
def roundP (s p : Nat → Int32) : Nat → Int32 := fun r => if r < (s 0).toNatClampNeg then askedP s p (nI r) else p r
/-- whether a round changes any pressure of the first n rooms -/
def chgN (s p : Nat → Int32) : Nat → Bool
  | 0 => false
  | n + 1 => chgN s p n || decide (askedP s p (nI n) ≠ p n)
def chgP (s p : Nat → Int32) : Bool := chgN s p (s 0).toNatClampNeg
/-- pressures after n rounds -/
def prN (s : Nat → Int32) : Nat → Nat → Int32
  | 0 => fun _ => 0
  | n + 1 => roundP s (prN s n)
/-- how many rounds change something: k at most, behind n -/
def rdN (s : Nat → Int32) : Nat → Nat → Nat
  | 0, n => n
  | k + 1, n => if chgP s (prN s n) = true then rdN s k (n + 1) else n
def rdP (s : Nat → Int32) : Nat := rdN s 60 0
/-- the pressures in rest -/
def prP (s : Nat → Int32) : Nat → Int32 := prN s (rdP s)
theorem chgN_false {s p : Nat → Int32} : ∀ {n : Nat}, chgN s p n = false → ∀ r, r < n → askedP s p (nI r) = p r
  | 0, _, r, h => absurd h (Nat.not_lt_zero r)
  | n + 1, e, r, h => by
    unfold chgN at e
    rw [Bool.or_eq_false_iff] at e
    rcases Nat.lt_or_ge r n with q | q
    · exact chgN_false e.1 r q
    · have : r = n := by omega
      subst this
      exact Classical.byContradiction fun q => absurd (decide_eq_true q) (by rw [e.2]; decide)
/-- a round that changes nothing leaves the pressures -/
theorem roundP_same {s p : Nat → Int32} (h : chgP s p = false) : roundP s p = p := by
  funext r
  unfold roundP
  split
  · rename_i q
    exact chgN_false h r q
  · rfl
def flowQ (s p : Nat → Int32) (g : Nat) : Int32 := breadthP s g * (thereP s p g - p (s (gp g 1)).toNatClampNeg) / 80
def flowP (s : Nat → Int32) (g : Nat) : Int32 := flowQ s (prP s) g
def sizeP (v : Int32) : Int32 := if v < 0 then 0 - v else v
def leanV (v : Int32) : Int32 :=
  if sizeP v < 5 then 0
  else if v < 0 then 0 - (if 9 < sizeP v / 20 + 1 then 9 else sizeP v / 20 + 1)
  else (if 9 < sizeP v / 20 + 1 then 9 else sizeP v / 20 + 1)
def leanP (s : Nat → Int32) (g : Nat) : Int32 := leanV (flowP s g)
def freshN (s p : Nat → Int32) : Nat → Int32
  | 0 => 0
  | n + 1 => freshN s p n + (if 0 < (if s (gp n 2) = -1 then flowQ s p n else 0) then (if s (gp n 2) = -1 then flowQ s p n else 0) else 0)
def freshP (s : Nat → Int32) : Int32 := freshN s (prP s) (s 1).toNatClampNeg
def lostP (s : Nat → Int32) : Int32 := freshP s * s 2
abbrev needP (s : Nat → Int32) (g : Nat) : Prop := s (gp g 0) = 2 ∨ s (gp g 0) = 5
/-- gap g smokes -/
abbrev smkG (s p : Nat → Int32) (g : Nat) : Prop := needP s g ∧ s (gp g 2) = -1 ∧ s (gp g 7) = 0 ∧ 0 ≤ flowQ s p g
def smkN (s p : Nat → Int32) : Nat → Bool
  | 0 => false
  | n + 1 => smkN s p n || decide (smkG s p n)
def smokesP (s : Nat → Int32) : Bool := smkN s (prP s) (s 1).toNatClampNeg
/-- the numbers that a row may hold -/
def GapOk (s : Nat → Int32) (R g : Nat) : Prop :=
  (∃ k, k < 6 ∧ s (gp g 0) = nI k) ∧ (∃ r, r < R ∧ s (gp g 1) = nI r) ∧ (s (gp g 2) = -1 ∨ ∃ t, t < R ∧ s (gp g 2) = nI t) ∧ s (gp g 2) ≠ s (gp g 1) ∧
  (∃ w, w < 100 ∧ s (gp g 3) = nI w) ∧ (∃ h, h < 10 ∧ s (gp g 4) = nI h) ∧ (∃ d, d < 4 ∧ s (gp g 5) = nI d) ∧ (∃ c, c < 100 ∧ s (gp g 6) = nI c) ∧ (s (gp g 7) = 0 ∨ s (gp g 7) = 1)
def OkN (s : Nat → Int32) (R N : Nat) : Prop :=
  R ≤ 6 ∧ N ≤ 20 ∧ s 0 = nI R ∧ s 1 = nI N ∧ (∃ c, c ≤ 40 ∧ s 2 = nI c) ∧ (∃ c, c ≤ 99 ∧ s 3 = nI c) ∧ (∃ c, c ≤ 3 ∧ s 4 = nI c) ∧ (-99 ≤ s 5 ∧ s 5 ≤ 99) ∧ (∃ c, c ≤ 99 ∧ s 6 = nI c) ∧ (∃ c, c ≤ 100 ∧ s 7 = nI c) ∧ ∀ g, g < N → GapOk s R g
theorem OkN.cl1 {s : Nat → Int32} {R N : Nat} (h : OkN s R N) : (s 1).toNatClampNeg = N := by
  rw [h.2.2.2.1]
  exact nI_clamp (by have := h.2.1; omega)
theorem OkN.cl0 {s : Nat → Int32} {R N : Nat} (h : OkN s R N) : (s 0).toNatClampNeg = R := by
  rw [h.2.2.1]
  exact nI_clamp (by have := h.1; omega)
theorem OkN.gap {s : Nat → Int32} {R N g : Nat} (h : OkN s R N) (hg : g < N) : GapOk s R g := h.2.2.2.2.2.2.2.2.2.2 g hg
/-- the other room's place is within -/
theorem GapOk.toIx {s : Nat → Int32} {R g : Nat} (h : GapOk s R g) (hR : R ≤ 6) (hn : ¬ s (gp g 2) = -1) : IdxOk (s (gp g 2)) (s (gp g 2)).toNatClampNeg 6 := by
  rcases h.2.2.1 with e | ⟨t, ht, e⟩
  · exact absurd e hn
  · refine ⟨?_, rfl⟩
    rw [e]
    exact vp_in_nI (by omega) (by decide)
theorem GapOk.rmIx {s : Nat → Int32} {R g : Nat} (h : GapOk s R g) (hR : R ≤ 6) : IdxOk (s (gp g 1)) (s (gp g 1)).toNatClampNeg 6 := by
  obtain ⟨r, hr, e⟩ := h.2.1
  refine ⟨?_, rfl⟩
  rw [e]
  exact vp_in_nI (by omega) (by decide)
theorem inP32 {x lo hi : Int32} : (lo.toInt64 ≤ x.toInt64 ∧ x.toInt64 ≤ hi.toInt64) ↔ (lo ≤ x ∧ x ≤ hi) := by
  rw [i64_le, i64_le]
theorem ne_toInt {x k : Int32} (h : ¬ x = k) : x.toInt ≠ k.toInt := fun e => h (Int32.toInt_inj.mp e)
/-- a number from 0 to n, as a place -/
theorem ex_le {x : Int32} (n : Nat) {hi : Int32} (e : hi = nI n) (hn : n < 2 ^ 31) (h0 : 0 ≤ x) (h : x ≤ hi) : ∃ j, j ≤ n ∧ x = nI j := by
  obtain ⟨j, hj, rfl⟩ := nI_of (x := x) (Int32.not_lt.mpr h0)
  subst e
  exact ⟨j, (nI_leI hj hn).mp h, rfl⟩
theorem ex_lt {x : Int32} (n : Nat) {hi : Int32} (e : hi = nI n) (hn : n < 2 ^ 31) (h0 : 0 ≤ x) (h : ¬ hi ≤ x) : ∃ j, j < n ∧ x = nI j := by
  obtain ⟨j, hj, rfl⟩ := nI_of (x := x) (Int32.not_lt.mpr h0)
  subst e
  refine ⟨j, ?_, rfl⟩
  exact Nat.not_le.mp fun q => h ((nI_leI hn hj).mpr q)
/-- 0 ≤ x ≤ n - 1 -/
theorem ex_pred {x : Int32} {n : Nat} {hi : Int32} (e : hi = nI n) (hn : n < 2 ^ 30) (h : 0 ≤ x ∧ x ≤ hi - 1) : ∃ j, j < n ∧ x = nI j := by
  obtain ⟨j, hj, rfl⟩ := nI_of (x := x) (Int32.not_lt.mpr h.1)
  subst e
  refine ⟨j, ?_, rfl⟩
  have h2 := h.2
  rw [Int32.le_iff_toInt_le, nI_toInt hj, show (1 : Int32) = nI 1 from rfl, pk_sub_toInt hn (by decide)] at h2
  omega
theorem OkN.exGap {s : Nat → Int32} {R N : Nat} (h : OkN s R N) {x : Int32} (hx : 0 ≤ x ∧ x ≤ s 1 - 1) : ∃ j, j < N ∧ x = nI j := ex_pred h.2.2.2.1 (by have := h.2.1; omega) hx
theorem OkN.exRoom {s : Nat → Int32} {R N : Nat} (h : OkN s R N) {x : Int32} (hx : 0 ≤ x ∧ x ≤ s 0 - 1) : ∃ j, j < R ∧ x = nI j := ex_pred h.2.2.1 (by have := h.1; omega) hx
theorem OkN.nFull {s : Nat → Int32} {R N : Nat} (h : OkN s R N) (hx : ¬ s 1 = 20) : N < 20 := by
  have h1 := h.2.1
  have : N ≠ 20 := fun e => hx (by rw [h.2.2.2.1, e]; rfl)
  omega
/-! the seed isn't looked at by the air -/
def Eq8 (s s' : Nat → Int32) : Prop := ∀ j, j ≠ 8 → s' j = s j
theorem eq8_upd {s : Nat → Int32} {z : Int32} : Eq8 s (upd s 8 z) := fun j h => by simp [upd, h]
theorem Eq8.pl {s s' : Nat → Int32} (h : Eq8 s s') (g w : Nat) : s' (gp g w) = s (gp g w) := h _ (by show 9 + 8 * g + w ≠ 8; omega)
theorem breadthP_8 {s s' : Nat → Int32} (h : Eq8 s s') (g : Nat) : breadthP s' g = breadthP s g := by
  unfold breadthP
  rw [h.pl, h.pl, h.pl, h.pl, h.pl, h 6 (by decide), h 3 (by decide), h 4 (by decide)]
theorem pushP_8 {s s' : Nat → Int32} (h : Eq8 s s') (g : Nat) : pushP s' g = pushP s g := by
  unfold pushP windP
  rw [h.pl, h.pl, h.pl, h.pl, h 2 (by decide), h 3 (by decide), h 4 (by decide)]
theorem thereP_8 {s s' : Nat → Int32} (h : Eq8 s s') (p : Nat → Int32) (g : Nat) : thereP s' p g = thereP s p g := by
  unfold thereP
  rw [h.pl, pushP_8 h]
theorem askP_8 {s s' : Nat → Int32} (h : Eq8 s s') (p : Nat → Int32) (x : Int32) : ∀ n, askP s' p x n = askP s p x n
  | 0 => by unfold askP; rw [h 5 (by decide)]
  | n + 1 => by
    unfold askP
    rw [h.pl, h.pl, askP_8 h p x n, breadthP_8 h, thereP_8 h]
theorem askedP_8 {s s' : Nat → Int32} (h : Eq8 s s') (p : Nat → Int32) (x : Int32) : askedP s' p x = askedP s p x := by
  unfold askedP
  rw [h 1 (by decide), askP_8 h]
theorem roundP_8 {s s' : Nat → Int32} (h : Eq8 s s') (p : Nat → Int32) : roundP s' p = roundP s p := by
  funext r
  unfold roundP
  rw [h 0 (by decide), askedP_8 h]
theorem chgN_8 {s s' : Nat → Int32} (h : Eq8 s s') (p : Nat → Int32) : ∀ n, chgN s' p n = chgN s p n
  | 0 => rfl
  | n + 1 => by unfold chgN; rw [chgN_8 h p n, askedP_8 h]
theorem prN_8 {s s' : Nat → Int32} (h : Eq8 s s') : ∀ n, prN s' n = prN s n
  | 0 => rfl
  | n + 1 => by unfold prN; rw [prN_8 h n, roundP_8 h]
theorem rdN_8 {s s' : Nat → Int32} (h : Eq8 s s') : ∀ k n, rdN s' k n = rdN s k n
  | 0, _ => rfl
  | k + 1, n => by unfold rdN chgP; rw [prN_8 h, h 0 (by decide), chgN_8 h, rdN_8 h k]
theorem rdP_8 {s s' : Nat → Int32} (h : Eq8 s s') : rdP s' = rdP s := rdN_8 h 60 0
theorem prP_8 {s s' : Nat → Int32} (h : Eq8 s s') : prP s' = prP s := by unfold prP; rw [rdP_8 h, prN_8 h]
theorem flowQ_8 {s s' : Nat → Int32} (h : Eq8 s s') (p : Nat → Int32) (g : Nat) : flowQ s' p g = flowQ s p g := by
  unfold flowQ
  rw [breadthP_8 h, thereP_8 h, h.pl]
theorem OkN_8 {s s' : Nat → Int32} {R N : Nat} (h : Eq8 s s') (hO : OkN s R N) : OkN s' R N := by
  unfold OkN GapOk at hO ⊢
  simp only [h.pl, h 0 (by decide), h 1 (by decide), h 2 (by decide), h 3 (by decide), h 4 (by decide), h 5 (by decide), h 6 (by decide), h 7 (by decide)]
  exact hO
