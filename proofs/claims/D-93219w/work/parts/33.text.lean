/-! the text: tokens of the tape t of T bytes; a state of reading: from, to, value, wrong, the row -/
set_option maxRecDepth 100000
def bA (t : Nat → Int32) (T k : Nat) : Int32 := if k < T then t k else -1
abbrev isL (c : Int32) : Prop := 97 ≤ c ∧ c ≤ 122
abbrev isD (c : Int32) : Prop := 48 ≤ c ∧ c ≤ 57
def skF (t : Nat → Int32) (T : Nat) : Nat → Nat → Nat
  | 0, a => a
  | q + 1, a => if bA t T a = 32 then skF t T q (a + 1) else a
/-- where the next token begins -/
def nxA (t : Nat → Int32) (T b : Nat) : Nat := skF t T (T - b) b
def enF (t : Nat → Int32) (T : Nat) (w n : Bool) : Nat → Nat → Nat
  | 0, b => b
  | q + 1, b => if (w = true ∧ isL (bA t T b)) ∨ (n = true ∧ isD (bA t T b)) then enF t T w n q (b + 1) else b
def nx1 (T a : Nat) : Nat := if a < T then a + 1 else a
/-- where it ends -/
def nxB (t : Nat → Int32) (T b : Nat) : Nat :=
  enF t T (decide (isL (bA t T (nxA t T b)))) (decide (isD (bA t T (nxA t T b)))) (T - nx1 T (nxA t T b)) (nx1 T (nxA t T b))
theorem bA_32 {t : Nat → Int32} {T k : Nat} (h : bA t T k = 32) : k < T := by
  unfold bA at h
  split at h
  · assumption
  · exact absurd h (by decide)
theorem bA_L {t : Nat → Int32} {T k : Nat} (h : isL (bA t T k)) : k < T := by
  unfold bA at h
  split at h
  · assumption
  · exact absurd h (by decide)
theorem bA_D {t : Nat → Int32} {T k : Nat} (h : isD (bA t T k)) : k < T := by
  unfold bA at h
  split at h
  · assumption
  · exact absurd h (by decide)
theorem skF_ge {t : Nat → Int32} {T : Nat} : ∀ q a, a ≤ skF t T q a
  | 0, a => Nat.le_refl a
  | q + 1, a => by
    unfold skF
    split
    · have := skF_ge (t := t) (T := T) q (a + 1); omega
    · omega
theorem skF_le {t : Nat → Int32} {T : Nat} : ∀ q a, a ≤ T → skF t T q a ≤ T
  | 0, a, h => h
  | q + 1, a, h => by
    unfold skF
    split
    · rename_i e
      exact skF_le q (a + 1) (bA_32 e)
    · exact h
theorem enF_ge {t : Nat → Int32} {T : Nat} {w n : Bool} : ∀ q a, a ≤ enF t T w n q a
  | 0, a => Nat.le_refl a
  | q + 1, a => by
    unfold enF
    split
    · have := enF_ge (t := t) (T := T) (w := w) (n := n) q (a + 1); omega
    · omega
theorem enF_le {t : Nat → Int32} {T : Nat} {w n : Bool} : ∀ q a, a ≤ T → enF t T w n q a ≤ T
  | 0, a, h => h
  | q + 1, a, h => by
    unfold enF
    split
    · rename_i e
      refine enF_le q (a + 1) ?_
      rcases e with e | e
      · exact bA_L e.2
      · exact bA_D e.2
    · exact h
theorem nxA_ge {t : Nat → Int32} {T b : Nat} : b ≤ nxA t T b := skF_ge _ _
theorem nxA_le {t : Nat → Int32} {T b : Nat} (h : b ≤ T) : nxA t T b ≤ T := skF_le _ _ h
theorem nx1_le {T a : Nat} (h : a ≤ T) : nx1 T a ≤ T := by unfold nx1; split <;> omega
theorem nx1_ge {T a : Nat} : a ≤ nx1 T a := by unfold nx1; split <;> omega
theorem nxB_le {t : Nat → Int32} {T b : Nat} (h : b ≤ T) : nxB t T b ≤ T := enF_le _ _ (nx1_le (nxA_le h))
theorem nxB_ge {t : Nat → Int32} {T b : Nat} : nx1 T (nxA t T b) ≤ nxB t T b := enF_ge _ _
/-- from, to, value, wrong, row -/
abbrev PS : Type := Nat × Nat × Int32 × Bool × (Nat → Int32)
def psT (f : Nat → Nat → Int32) (p : PS) : Nat → Nat → Int32 := fun k => match k with
  | 0 => p.2.2.2.2
  | 7 => fun _ => nI p.1
  | 8 => fun _ => nI p.2.1
  | 9 => fun _ => p.2.2.1
  | 10 => fun _ => b2i (p.2.2.2.1 = true)
  | k => f k
/-- the places are in order -/
def PB (T : Nat) (p : PS) : Prop := p.1 ≤ p.2.1 ∧ p.2.1 ≤ T
def nextP (t : Nat → Int32) (T : Nat) (p : PS) : PS := (nxA t T p.2.1, nxB t T p.2.1, p.2.2.1, p.2.2.2.1, p.2.2.2.2)
def ndP (t : Nat → Int32) (T : Nat) (q : Bool) (p : PS) : PS := if p.2.2.2.1 = true then p else if q = true then nextP t T p else (p.1, p.2.1, p.2.2.1, true, p.2.2.2.2)
theorem nextP_B {t : Nat → Int32} {T : Nat} {p : PS} (h : PB T p) : PB T (nextP t T p) ∧ p.2.1 ≤ (nextP t T p).1 := ⟨⟨Nat.le_trans nx1_ge nxB_ge, nxB_le h.2⟩, nxA_ge⟩
theorem ndP_B {t : Nat → Int32} {T : Nat} {q : Bool} {p : PS} (h : PB T p) : PB T (ndP t T q p) ∧ p.1 ≤ (ndP t T q p).1 := by
  unfold ndP
  split
  · exact ⟨h, Nat.le_refl _⟩
  · split
    · exact ⟨(nextP_B h).1, Nat.le_trans h.1 (nextP_B h).2⟩
    · exact ⟨h, Nat.le_refl _⟩
/-- the letters c stand at from -/
def wdB (t : Nat → Int32) (T : Nat) (p : PS) (c : List Int32) : Bool := !p.2.2.2.1 && (decide (p.2.1 - p.1 = c.length) && (List.range c.length).all fun i => decide (bA t T (p.1 + i) = c.getD i 0))
def nuF (t : Nat → Int32) : Nat → Nat → Int32 → Int32
  | 0, _, v => v
  | q + 1, k, v => nuF t q (k + 1) (if v ≤ 999 then 10 * v + t k - 48 else v)
/-- the number from a to b -/
def nuV (t : Nat → Int32) (a b : Nat) : Int32 := nuF t (b - a) a 0
def nmV (t : Nat → Int32) (T : Nat) (p : PS) : Int32 := if isD (bA t T p.1) then nuV t p.1 p.2.1 else 0
def nmP (t : Nat → Int32) (T : Nat) (lo hi : Int32) (p : PS) : PS :=
  if p.2.2.2.1 = true then p
  else ndP t T (decide (isD (bA t T p.1) ∧ lo ≤ nmV t T p ∧ nmV t T p ≤ hi)) (p.1, p.2.1, nmV t T p, p.2.2.2.1, p.2.2.2.2)
theorem nmP_B {t : Nat → Int32} {T : Nat} {lo hi : Int32} {p : PS} (h : PB T p) : PB T (nmP t T lo hi p) ∧ p.1 ≤ (nmP t T lo hi p).1 := by
  unfold nmP
  split
  · exact ⟨h, Nat.le_refl _⟩
  · exact ndP_B (p := (p.1, p.2.1, nmV t T p, p.2.2.2.1, p.2.2.2.2)) h
def phP (t : Nat → Int32) (T : Nat) (q : Bool) (most : Int32) (p : PS) : Int32 × PS :=
  if p.2.2.2.1 = true then (0, p) else if q = true then ((nmP t T 0 most (ndP t T true p)).2.2.1, nmP t T 0 most (ndP t T true p)) else (0, p)
theorem phP_B {t : Nat → Int32} {T : Nat} {q : Bool} {most : Int32} {p : PS} (h : PB T p) : PB T (phP t T q most p).2 ∧ p.1 ≤ (phP t T q most p).2.1 := by
  unfold phP
  split
  · exact ⟨h, Nat.le_refl _⟩
  · split
    · have h1 := ndP_B (t := t) (q := true) h
      have h2 := nmP_B (t := t) (lo := 0) (hi := most) h1.1
      exact ⟨h2.1, Nat.le_trans h1.2 h2.2⟩
    · exact ⟨h, Nat.le_refl _⟩
section PSX
variable {f : Nat → Nat → Int32} {G : GD} {A : Nat → Prop} {g : Nat → Nat → Int64} {ad : Nat → Nat} {H : Heap} {a b : Nat} {v : Int32} {wr : Bool} {s : Nat → Int32} {x : Int32}
theorem psT_else {p : PS} {k : Nat} (h0 : k ≠ 0) (h7 : k ≠ 7) (h8 : k ≠ 8) (h9 : k ≠ 9) (h10 : k ≠ 10) : psT f p k = f k := by
  unfold psT
  split
  · exact absurd rfl h0
  · exact absurd rfl h7
  · exact absurd rfl h8
  · exact absurd rfl h9
  · exact absurd rfl h10
  · rfl
theorem psT_sc {p p' : PS} {k0 : Nat} (hk : mKnd k0 = 4) (h : MW G A (up2 (psT f p) k0 0 x) g ad H) (hs : p'.2.2.2.2 = p.2.2.2.2) (hx : psT f p' k0 0 = x) (ho : ∀ k, mKnd k = 4 → k ≠ k0 → psT f p' k 0 = psT f p k 0) : MW G A (psT f p') g ad H := by
  refine h.ext (fun k hk4 => ?_) (fun k j hk1 hj => ?_) (fun _ _ _ _ => rfl)
  · by_cases q : k = k0
    · subst q; rw [hx, up2_at]
    · rw [up2_ne q]; exact ho k hk4 q
  · have q : k ≠ k0 := fun e => by rw [e, hk] at hk1; exact absurd hk1 (by decide)
    rw [up2_ne q]
    by_cases h0 : k = 0
    · subst h0; exact congrFun hs j
    · have e : ∀ p : PS, psT f p k = f k := fun p => psT_else h0 (fun e => by rw [e] at hk1; exact absurd hk1 (by decide)) (fun e => by rw [e] at hk1; exact absurd hk1 (by decide)) (fun e => by rw [e] at hk1; exact absurd hk1 (by decide)) (fun e => by rw [e] at hk1; exact absurd hk1 (by decide))
      rw [e, e]
theorem psT_7 {p : PS} {a' : Nat} (h : MW G A (up2 (psT f p) 7 0 (nI a')) g ad H) : MW G A (psT f (a', p.2.1, p.2.2.1, p.2.2.2.1, p.2.2.2.2)) g ad H :=
  psT_sc rfl h rfl rfl (fun k hk hn => by unfold psT; split <;> first | rfl | exact absurd rfl hn)
theorem psT_8 {p : PS} {b' : Nat} (h : MW G A (up2 (psT f p) 8 0 (nI b')) g ad H) : MW G A (psT f (p.1, b', p.2.2.1, p.2.2.2.1, p.2.2.2.2)) g ad H :=
  psT_sc rfl h rfl rfl (fun k hk hn => by unfold psT; split <;> first | rfl | exact absurd rfl hn)
theorem psT_9 {p : PS} {v' : Int32} (h : MW G A (up2 (psT f p) 9 0 v') g ad H) : MW G A (psT f (p.1, p.2.1, v', p.2.2.2.1, p.2.2.2.2)) g ad H :=
  psT_sc rfl h rfl rfl (fun k hk hn => by unfold psT; split <;> first | rfl | exact absurd rfl hn)
theorem psT_10 {p : PS} {w' : Bool} (h : MW G A (up2 (psT f p) 10 0 x) g ad H) (hx : b2i (w' = true) = x) : MW G A (psT f (p.1, p.2.1, p.2.2.1, w', p.2.2.2.2)) g ad H :=
  psT_sc rfl h rfl hx (fun k hk hn => by unfold psT; split <;> first | rfl | exact absurd rfl hn)
theorem psT_0 {p : PS} {j : Nat} : up2 (psT f p) 0 j x = psT f (p.1, p.2.1, p.2.2.1, p.2.2.2.1, upd p.2.2.2.2 j x) := by
  funext k r
  by_cases h0 : k = 0
  · subst h0
    rw [up2_row]; rfl
  · rw [up2_ne h0]
    unfold psT
    split <;> first | rfl | exact absurd rfl h0
theorem psT_self (h : MW G A f g ad H) (ha : f 7 0 = nI a) (hb : f 8 0 = nI b) (hw : f 10 0 = b2i (wr = true)) : MW G A (psT f (a, b, f 9 0, wr, f 0)) g ad H := by
  refine h.ext (fun k hk => ?_) (fun k j hk hj => ?_) (fun _ _ _ _ => rfl)
  · unfold psT
    split
    · exact absurd hk (by decide)
    · exact ha.symm
    · exact hb.symm
    · rfl
    · exact hw.symm
    · rfl
  · unfold psT
    split
    · rfl
    · exact absurd hk (by decide)
    · exact absurd hk (by decide)
    · exact absurd hk (by decide)
    · exact absurd hk (by decide)
    · rfl
end PSX
