/-! bits: the next part of a set, how many ones; rows with some gaps shut -/
set_option maxRecDepth 100000
theorem bt_and2 (a b c d : Nat) (hb : b < 2) (hd : d < 2) : (2 * a + b) &&& (2 * c + d) = 2 * (a &&& c) + (b &&& d) := by
  apply Nat.eq_of_testBit_eq
  intro i
  cases i with
  | zero =>
    rw [Nat.testBit_and]
    simp only [Nat.testBit_zero]
    have h1 : (2 * a + b) % 2 = b := by omega
    have h2 : (2 * c + d) % 2 = d := by omega
    rw [h1, h2]
    have hb' : b = 0 ∨ b = 1 := by omega
    have hd' : d = 0 ∨ d = 1 := by omega
    rcases hb' with rfl | rfl <;> rcases hd' with rfl | rfl <;> simp <;> omega
  | succ i =>
    rw [Nat.testBit_and]
    simp only [Nat.testBit_succ]
    have h1 : (2 * a + b) / 2 = a := by omega
    have h2 : (2 * c + d) / 2 = c := by omega
    rw [h1, h2]
    have hb' : b = 0 ∨ b = 1 := by omega
    have hd' : d = 0 ∨ d = 1 := by omega
    have h3 : (2 * (a &&& c) + (b &&& d)) / 2 = a &&& c := by
      rcases hb' with rfl | rfl <;> rcases hd' with rfl | rfl <;> simp <;> omega
    rw [h3, Nat.testBit_and]
/-- a part m of a set s, both under 2^w: its complement in it, by subtraction -/
theorem bt_comp : ∀ (w m s : Nat), s < 2 ^ w → m &&& s = m → m ≤ s ∧ (2 ^ w - 1 + m - s) &&& s = m := by
  intro w
  induction w with
  | zero =>
    intro m s hs h
    have : s = 0 := by simpa using hs
    subst this
    simp at h
    subst h
    simp
  | succ w ih =>
    intro m s hs h
    obtain ⟨m', b, hb, rfl⟩ : ∃ m' b, b < 2 ∧ m = 2 * m' + b := ⟨m / 2, m % 2, Nat.mod_lt _ (by decide), by omega⟩
    obtain ⟨s', c, hc, rfl⟩ : ∃ s' c, c < 2 ∧ s = 2 * s' + c := ⟨s / 2, s % 2, Nat.mod_lt _ (by decide), by omega⟩
    rw [bt_and2 _ _ _ _ hb hc] at h
    have hbc : b &&& c < 2 := by
      have hb' : b = 0 ∨ b = 1 := by omega
      have hc' : c = 0 ∨ c = 1 := by omega
      rcases hb' with rfl | rfl <;> rcases hc' with rfl | rfl <;> simp
    have h1 : m' &&& s' = m' := by omega
    have h2 : b &&& c = b := by omega
    have hs' : s' < 2 ^ w := by rw [Nat.pow_succ] at hs; omega
    obtain ⟨i1, i2⟩ := ih m' s' hs' h1
    have hp : 0 < 2 ^ w := Nat.pos_of_ne_zero (by simp)
    have hle : b ≤ c := by
      have hb' : b = 0 ∨ b = 1 := by omega
      have hc' : c = 0 ∨ c = 1 := by omega
      rcases hb' with rfl | rfl <;> rcases hc' with rfl | rfl <;> simp at h2 ⊢
    refine ⟨by omega, ?_⟩
    have e : 2 ^ (w + 1) - 1 + (2 * m' + b) - (2 * s' + c) = 2 * (2 ^ w - 1 + m' - s') + (1 + b - c) := by rw [Nat.pow_succ]; omega
    rw [e, bt_and2 _ _ _ _ (by omega) hc, i2]
    have : (1 + b - c) &&& c = b := by
      have hb' : b = 0 ∨ b = 1 := by omega
      have hc' : c = 0 ∨ c = 1 := by omega
      rcases hb' with rfl | rfl <;> rcases hc' with rfl | rfl <;> simp at h2 ⊢
    rw [this]
/-- the next part of a set is greater -/
theorem bt_next : ∀ (w m s : Nat), s < 2 ^ w → m &&& s = m → m ≠ s → m < (2 ^ w + m - s) &&& s := by
  intro w
  induction w with
  | zero =>
    intro m s hs h hne
    have : s = 0 := by simpa using hs
    subst this
    simp at h
    exact absurd h.symm hne
  | succ w ih =>
    intro m s hs h hne
    obtain ⟨m', b, hb, rfl⟩ : ∃ m' b, b < 2 ∧ m = 2 * m' + b := ⟨m / 2, m % 2, Nat.mod_lt _ (by decide), by omega⟩
    obtain ⟨s', c, hc, rfl⟩ : ∃ s' c, c < 2 ∧ s = 2 * s' + c := ⟨s / 2, s % 2, Nat.mod_lt _ (by decide), by omega⟩
    rw [bt_and2 _ _ _ _ hb hc] at h
    have hbc : b &&& c < 2 := by
      have hb' : b = 0 ∨ b = 1 := by omega
      have hc' : c = 0 ∨ c = 1 := by omega
      rcases hb' with rfl | rfl <;> rcases hc' with rfl | rfl <;> simp
    have h1 : m' &&& s' = m' := by omega
    have h2 : b &&& c = b := by omega
    have hs' : s' < 2 ^ w := by rw [Nat.pow_succ] at hs; omega
    obtain ⟨i1, i2⟩ := bt_comp w m' s' hs' h1
    have hp : 0 < 2 ^ w := Nat.pos_of_ne_zero (by simp)
    by_cases hq : b = c
    · subst hq
      have e : 2 ^ (w + 1) + (2 * m' + b) - (2 * s' + b) = 2 * (2 ^ w + m' - s') + 0 := by rw [Nat.pow_succ]; omega
      rw [e, bt_and2 _ _ _ _ (by decide) hc, Nat.zero_and]
      have := ih m' s' hs' h1 (fun e => hne (by rw [e]))
      omega
    · have hb0 : b = 0 := by
        have hb' : b = 0 ∨ b = 1 := by omega
        have hc' : c = 0 ∨ c = 1 := by omega
        rcases hb' with rfl | rfl
        · rfl
        · rcases hc' with rfl | rfl
          · simp at h2
          · exact absurd rfl hq
      have hc1 : c = 1 := by omega
      subst hb0
      subst hc1
      have e : 2 ^ (w + 1) + (2 * m' + 0) - (2 * s' + 1) = 2 * (2 ^ w - 1 + m' - s') + 1 := by rw [Nat.pow_succ]; omega
      rw [e, bt_and2 _ _ _ _ (by decide) (by decide), i2]
      simp
/-- as the machine has it -/
theorem nx_gt {m s : Nat} (hs : s < 2 ^ 31) (h : m &&& s = m) (hne : m ≠ s) : ∃ m', (nI m - nI s) &&& nI s = nI m' ∧ m < m' ∧ m' ≤ s ∧ m' &&& s = m' := by
  have hml : m ≤ s := (bt_comp 31 m s hs h).1
  refine ⟨(2 ^ 32 + m - s) &&& s, ?_, bt_next 32 m s (by omega) h hne, Nat.and_le_right, by rw [Nat.and_assoc, Nat.and_self]⟩
  apply Int32.toBitVec_inj.mp
  apply BitVec.eq_of_toNat_eq
  rw [Int32.toBitVec_and, Int32.toBitVec_sub, BitVec.toNat_and, BitVec.toNat_sub, pk_tn (by omega), pk_tn (by omega), pk_tn (Nat.lt_of_le_of_lt Nat.and_le_right (by omega))]
  rw [show (2 ^ 32 - s + m) % 2 ^ 32 = 2 ^ 32 + m - s by omega]
theorem nx_eq {s : Int32} : (s - s) &&& s = 0 := by
  rw [Int32.sub_self, Int32.zero_and]
/-- how many ones: a one is taken off till none is left -/
theorem on_lt {r : Int32} (h : ¬ r = 0) : (r &&& (r - 1)).toBitVec.toNat < r.toBitVec.toNat := by
  have h0 : r.toBitVec.toNat ≠ 0 := fun e => h (Int32.toBitVec_inj.mp (BitVec.eq_of_toNat_eq (by rw [e]; rfl)))
  rw [Int32.toBitVec_and, BitVec.toNat_and, Int32.toBitVec_sub, BitVec.toNat_sub]
  have h1 : (1 : Int32).toBitVec.toNat = 1 := rfl
  have hl : r.toBitVec.toNat < 2 ^ 32 := r.toBitVec.isLt
  rw [h1, show (2 ^ 32 - 1 + r.toBitVec.toNat) % 2 ^ 32 = r.toBitVec.toNat - 1 by omega]
  exact Nat.lt_of_le_of_lt Nat.and_le_right (by omega)
def onesF : Nat → Int32 → Int32
  | 0, _ => 0
  | k + 1, r => if r = 0 then 0 else onesF k (r &&& (r - 1)) + 1
theorem onesF_more {r : Int32} : ∀ {k j : Nat}, r.toBitVec.toNat ≤ k → r.toBitVec.toNat ≤ j → onesF k r = onesF j r := by
  intro k
  induction k generalizing r with
  | zero =>
    intro j hk hj
    have e : r = 0 := Int32.toBitVec_inj.mp (BitVec.eq_of_toNat_eq (by have : r.toBitVec.toNat = 0 := by omega
                                                                       rw [this]; rfl))
    subst e
    cases j <;> simp [onesF]
  | succ k ih =>
    intro j hk hj
    by_cases h : r = 0
    · subst h
      cases j <;> simp [onesF]
    · have := on_lt h
      cases j with
      | zero => omega
      | succ j =>
        unfold onesF
        rw [if_neg h, if_neg h, ih (j := j) (by omega) (by omega)]
def onesP (r : Int32) : Int32 := onesF r.toBitVec.toNat r
theorem onesP_0 : onesP 0 = 0 := rfl
theorem onesP_s {r : Int32} (h : ¬ r = 0) : onesP r = onesP (r &&& (r - 1)) + 1 := by
  have := on_lt h
  unfold onesP
  rw [onesF_more (k := r.toBitVec.toNat) (j := r.toBitVec.toNat + 1) (Nat.le_refl _) (by omega)]
  show (if r = 0 then 0 else onesF r.toBitVec.toNat (r &&& (r - 1)) + 1) = _
  rw [if_neg h, onesF_more (k := r.toBitVec.toNat) (j := (r &&& (r - 1)).toBitVec.toNat) (by omega) (Nat.le_refl _)]
/-- gap g is in the set -/
abbrev sBit (m : Int32) (g : Nat) : Int32 := (m >>> (nI g &&& 31)) &&& 1
/-- a row with the gaps of a set shut or open (the first n of them) -/
def shN (s : Nat → Int32) (m v : Int32) : Nat → Nat → Int32
  | 0 => s
  | n + 1 => if sBit m n = 1 then upd (shN s m v n) (gp n 7) v else shN s m v n
def costN (s : Nat → Int32) (m : Int32) : Nat → Int32
  | 0 => 0
  | n + 1 => costN s m n + sBit m n * s (gp n 6)
theorem shN_ne {s : Nat → Int32} {m v : Int32} {j : Nat} : ∀ {n : Nat}, (∀ g, g < n → j ≠ gp g 7) → shN s m v n j = s j
  | 0, _ => rfl
  | n + 1, h => by
    unfold shN
    split
    · rw [show upd (shN s m v n) (gp n 7) v j = shN s m v n j from by simp [upd, h n (Nat.lt_succ_self n)]]
      exact shN_ne fun g hg => h g (by omega)
    · exact shN_ne fun g hg => h g (by omega)
theorem shN_7 {s : Nat → Int32} {m v : Int32} {g : Nat} : ∀ {n : Nat}, shN s m v n (gp g 7) = if g < n ∧ sBit m g = 1 then v else s (gp g 7)
  | 0 => by simp [shN]
  | n + 1 => by
    unfold shN
    by_cases hg : g = n
    · subst hg
      by_cases hb : sBit m g = 1
      · rw [if_pos hb]
        simp [upd, hb]
      · rw [if_neg hb, shN_7, if_neg (fun h => hb h.2), if_neg (fun h => hb h.2)]
    · have hlt : (g < n + 1 ∧ sBit m g = 1) ↔ (g < n ∧ sBit m g = 1) := by
        constructor <;> intro h <;> exact ⟨by have := h.1; omega, h.2⟩
      have hne : gp g 7 ≠ gp n 7 := by show 9 + 8 * g + 7 ≠ 9 + 8 * n + 7; omega
      split
      · rw [show upd (shN s m v n) (gp n 7) v (gp g 7) = shN s m v n (gp g 7) from pk_un hne, shN_7]
        simp only [hlt]
      · rw [shN_7]
        simp only [hlt]
theorem shN_w {s : Nat → Int32} {m v : Int32} {n g w : Nat} (hw : w < 7) : shN s m v n (gp g w) = s (gp g w) := shN_ne fun q _ => by show 9 + 8 * g + w ≠ 9 + 8 * q + 7; omega
theorem shN_lo {s : Nat → Int32} {m v : Int32} {n j : Nat} (hj : j < 9) : shN s m v n j = s j := shN_ne fun q _ => by show j ≠ 9 + 8 * q + 7; omega
theorem OkN_sh {s : Nat → Int32} {R N : Nat} (m : Int32) {v : Int32} (hv : v = 0 ∨ v = 1) (n : Nat) (hO : OkN s R N) : OkN (shN s m v n) R N := by
  unfold OkN GapOk at hO ⊢
  simp only [shN_lo (show (0 : Nat) < 9 by decide), shN_lo (show (1 : Nat) < 9 by decide), shN_lo (show (2 : Nat) < 9 by decide), shN_lo (show (3 : Nat) < 9 by decide), shN_lo (show (4 : Nat) < 9 by decide), shN_lo (show (5 : Nat) < 9 by decide), shN_lo (show (6 : Nat) < 9 by decide), shN_lo (show (7 : Nat) < 9 by decide), shN_w (show (0 : Nat) < 7 by decide), shN_w (show (1 : Nat) < 7 by decide), shN_w (show (2 : Nat) < 7 by decide), shN_w (show (3 : Nat) < 7 by decide), shN_w (show (4 : Nat) < 7 by decide), shN_w (show (5 : Nat) < 7 by decide), shN_w (show (6 : Nat) < 7 by decide)]
  obtain ⟨h1, h2, h3, h4, h5, h6, h7, h8, h9, h10, h11⟩ := hO
  refine ⟨h1, h2, h3, h4, h5, h6, h7, h8, h9, h10, fun g hg => ?_⟩
  obtain ⟨q1, q2, q3, q4, q5, q6, q7, q8, q9⟩ := h11 g hg
  refine ⟨q1, q2, q3, q4, q5, q6, q7, q8, ?_⟩
  rw [shN_7]
  split
  · exact hv
  · exact q9
/-- shut and open again -/
theorem shN_back {s : Nat → Int32} {m : Int32} {n : Nat} (h : ∀ g, g < n → sBit m g = 1 → s (gp g 7) = 0) : shN (shN s m 1 n) m 0 n = s := by
  funext j
  by_cases q : ∃ g, g < n ∧ j = gp g 7
  · obtain ⟨g, hg, rfl⟩ := q
    rw [shN_7]
    split
    · rename_i e; exact (h g hg e.2).symm
    · rename_i e
      rw [shN_7, if_neg e]
  · rw [shN_ne fun g hg e => q ⟨g, hg, e⟩, shN_ne fun g hg e => q ⟨g, hg, e⟩]
theorem sBit_one : ∀ g, g < 20 → ∀ j, j < 20 → (sBit (1 <<< (nI g &&& 31)) j = 1 ↔ j = g) := by decide +kernel
/-- one gap alone -/
theorem shN_one {s : Nat → Int32} {g n : Nat} {v : Int32} (hg : g < n) (hn : n ≤ 20) : shN s (1 <<< (nI g &&& 31)) v n = upd s (gp g 7) v := by
  funext j
  by_cases q : ∃ q, q < n ∧ j = gp q 7
  · obtain ⟨q, hq, rfl⟩ := q
    rw [shN_7]
    have hb := sBit_one g (by omega) q (by omega)
    by_cases e : q = g
    · subst e
      rw [if_pos ⟨hq, hb.mpr rfl⟩]
      simp [upd]
    · rw [if_neg (fun h => e (hb.mp h.2))]
      have : gp q 7 ≠ gp g 7 := by show 9 + 8 * q + 7 ≠ 9 + 8 * g + 7; omega
      exact (pk_un this).symm
  · rw [shN_ne fun a ha e => q ⟨a, ha, e⟩]
    have : j ≠ gp g 7 := fun e => q ⟨g, hg, e⟩
    simp [upd, this]
