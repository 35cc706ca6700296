/-! what gaps of a kind answer is what the reference computes -/
set_option maxRecDepth 100000
/-- the kind of gap g -/
def gkP (s : Nat → Int32) (g : Nat) : Nat := (s (gp g 0)).toNatClampNeg
theorem GapOk.kd {s : Nat → Int32} {R g : Nat} (h : GapOk s R g) : gkP s g < 6 ∧ s (gp g 0) = nI (gkP s g) := by
  obtain ⟨k, hk, e⟩ := h.1
  have : gkP s g = k := by
    unfold gkP
    rw [e]
    exact nI_clamp (by omega)
  rw [this]
  exact ⟨hk, e⟩
theorem kd_cases {k : Nat} (h : k < 6) : k = 0 ∨ k = 1 ∨ k = 2 ∨ k = 3 ∨ k = 4 ∨ k = 5 := by omega
theorem brK_eq {s : Nat → Int32} {R g : Nat} (h : GapOk s R g) : brK s g (gkP s g) = breadthP s g := by
  obtain ⟨hk, e⟩ := h.kd
  have h7 := h.2.2.2.2.2.2.2.2
  generalize gkP s g = k at hk e
  have n01 : ¬ (0 : Int32) = 1 := by decide
  have n10 : ¬ (1 : Int32) = 0 := by decide
  rcases kd_cases hk with rfl | rfl | rfl | rfl | rfl | rfl
  · have e : s (gp g 0) = 0 := e
    rcases h7 with h7 | h7
    · simp only [brK, brB, breadthP, e, h7]; simp
    · simp only [brK, brB, breadthP, e, h7]; simp
  · have e : s (gp g 0) = 1 := e
    rcases h7 with h7 | h7
    · simp only [brK, brB, breadthP, e, h7]; simp
    · simp only [brK, brB, breadthP, e, h7]; simp
  · have e : s (gp g 0) = 2 := e
    rcases h7 with h7 | h7
    · simp only [brK, brB, breadthP, e, h7]; simp
    · simp only [brK, brB, breadthP, e, h7]; simp
  · have e : s (gp g 0) = 3 := e
    rcases h7 with h7 | h7
    · simp only [brK, brB, breadthP, e, h7]; simp
    · simp only [brK, brB, breadthP, e, h7]; simp
  · have e : s (gp g 0) = 4 := e
    rcases h7 with h7 | h7
    · simp only [brK, brB, breadthP, e, h7, trnP]
      by_cases c1 : s (gp g 2) = -1
      · by_cases c2 : s 3 ≤ 0
        · have c3 : ¬ 0 < s 3 := Int32.not_lt.mpr c2
          simp [c1, c2, c3]
        · have c3 : 0 < s 3 := Int32.not_le.mp c2
          by_cases c4 : s 4 = s (gp g 5)
          · simp [c1, c2, c3, c4]
          · simp [c1, c2, c3, c4]
      · simp [c1]
    · simp only [brK, brB, breadthP, e, h7]
      simp
  · have e : s (gp g 0) = 5 := e
    rcases h7 with h7 | h7
    · simp only [brK, brB, breadthP, e, h7]; simp
    · simp only [brK, brB, breadthP, e, h7]; simp
theorem wd_eq {w f t : Int32} (hf : ∃ c, c ≤ 3 ∧ f = nI c) (ht : ∃ d, d < 4 ∧ t = nI d) : wdC w f t = if remP (f - t + 4) 4 = 0 then w else if remP (f - t + 4) 4 = 2 then 0 - w / 2 else 0 - w / 4 := by
  obtain ⟨c, hc, rfl⟩ := hf
  obtain ⟨d, hd, rfl⟩ := ht
  have hz : ∀ x : Int32, 0 - x = -x := fun x => by simp
  have key : ∀ c d : Fin 4, ((nI c.val = nI d.val) ↔ remP (nI c.val - nI d.val + 4) 4 = 0) ∧ (remP (nI c.val + 2) 4 = nI d.val ↔ remP (nI c.val - nI d.val + 4) 4 = 2) := by decide
  obtain ⟨k1, k2⟩ := key ⟨c, by omega⟩ ⟨d, hd⟩
  unfold wdC
  rw [hz, hz]
  by_cases c1 : nI c = nI d
  · rw [if_pos c1, if_pos (k1.mp c1)]
  · rw [if_neg c1, if_neg (fun h => c1 (k1.mpr h))]
    by_cases c2 : remP (nI c + 2) 4 = nI d
    · rw [if_pos c2, if_pos (k2.mp c2)]
    · rw [if_neg c2, if_neg (fun h => c2 (k2.mpr h))]
theorem psK_eq {s : Nat → Int32} {R N g : Nat} (hO : OkN s R N) (hg : g < N) (hm : s (gp g 2) = -1) : psK s g (gkP s g) = pushP s g := by
  have h := hO.gap hg
  obtain ⟨hk, e⟩ := h.kd
  have hw : wdC (s 3) (s 4) (s (gp g 5)) = windP s g := wd_eq hO.2.2.2.2.2.2.1 h.2.2.2.2.2.2.1
  have h5 : gkP s g = 5 ↔ s (gp g 0) = 5 := by
    rw [e]
    have key : ∀ k : Fin 6, (k.val = 5 ↔ nI k.val = 5) := by decide
    exact key ⟨_, hk⟩
  unfold pushP
  rw [if_pos hm]
  by_cases c5 : gkP s g = 5
  · rw [if_pos (h5.mp c5), c5]
    show psC s g - 3 * s 2 = _
    unfold psC
    rw [hw]
  · rw [if_neg (fun h => c5 (h5.mpr h))]
    have : psK s g (gkP s g) = psC s g := by
      generalize gkP s g = k at c5 hk
      rcases kd_cases hk with rfl | rfl | rfl | rfl | rfl | rfl <;> first | rfl | exact absurd rfl c5
    rw [this]
    unfold psC
    rw [hw]
theorem isK_eq {s : Nat → Int32} {R g : Nat} (h : GapOk s R g) (q : Int32) : isK (gkP s g) q ↔ (q = 0 ∨ s (gp g 0) = q ∨ (q = 2 ∧ needP s g)) := by
  obtain ⟨hk, e⟩ := h.kd
  unfold needP
  rw [e]
  generalize gkP s g = k at hk e
  have f1 : ∀ k : Fin 6, k.val ≠ 2 → k.val ≠ 5 → ¬ (nI k.val = 2 ∨ nI k.val = 5) := by decide
  rcases kd_cases hk with rfl | rfl | rfl | rfl | rfl | rfl
  · have := f1 0 (by decide) (by decide)
    show (q = 0 ∨ q = 0) ↔ (q = 0 ∨ (0 : Int32) = q ∨ _)
    constructor
    · rintro (h | h)
      · exact Or.inl h
      · exact Or.inl h
    · rintro (h | h | h)
      · exact Or.inl h
      · exact Or.inl h.symm
      · exact absurd h.2 this
  · have := f1 1 (by decide) (by decide)
    show (q = 0 ∨ q = 1) ↔ (q = 0 ∨ (1 : Int32) = q ∨ _)
    constructor
    · rintro (h | h)
      · exact Or.inl h
      · exact Or.inr (Or.inl h.symm)
    · rintro (h | h | h)
      · exact Or.inl h
      · exact Or.inr h.symm
      · exact absurd h.2 this
  · show (q = 2 ∨ (q = 0 ∨ q = 2)) ↔ (q = 0 ∨ (2 : Int32) = q ∨ _)
    constructor
    · rintro (h | h | h)
      · exact Or.inr (Or.inl h.symm)
      · exact Or.inl h
      · exact Or.inr (Or.inl h.symm)
    · rintro (h | h | h)
      · exact Or.inr (Or.inl h)
      · exact Or.inl h.symm
      · exact Or.inl h.1
  · have := f1 3 (by decide) (by decide)
    show (q = 0 ∨ q = 3) ↔ (q = 0 ∨ (3 : Int32) = q ∨ _)
    constructor
    · rintro (h | h)
      · exact Or.inl h
      · exact Or.inr (Or.inl h.symm)
    · rintro (h | h | h)
      · exact Or.inl h
      · exact Or.inr h.symm
      · exact absurd h.2 this
  · have := f1 4 (by decide) (by decide)
    show (q = 0 ∨ q = 4) ↔ (q = 0 ∨ (4 : Int32) = q ∨ _)
    constructor
    · rintro (h | h)
      · exact Or.inl h
      · exact Or.inr (Or.inl h.symm)
    · rintro (h | h | h)
      · exact Or.inl h
      · exact Or.inr h.symm
      · exact absurd h.2 this
  · show (q = 2 ∨ (q = 0 ∨ q = 5)) ↔ (q = 0 ∨ (5 : Int32) = q ∨ _)
    constructor
    · rintro (h | h | h)
      · exact Or.inr (Or.inr ⟨h, Or.inr rfl⟩)
      · exact Or.inl h
      · exact Or.inr (Or.inl h.symm)
    · rintro (h | h | h)
      · exact Or.inr (Or.inl h)
      · exact Or.inr (Or.inr h.symm)
      · exact Or.inl h.1
theorem isK_2 {s : Nat → Int32} {R g : Nat} (h : GapOk s R g) : isK (gkP s g) 2 ↔ needP s g := by
  rw [isK_eq h]
  constructor
  · rintro (q | q | q)
    · exact absurd q (by decide)
    · exact Or.inl q
    · exact q.2
  · intro q
    exact Or.inr (Or.inr ⟨rfl, q⟩)
theorem isB_iff {k : Nat} (hk : k < 6) (q : Int32) : isB k q = true ↔ isK k q := by
  rcases kd_cases hk with rfl | rfl | rfl | rfl | rfl | rfl <;> exact decide_eq_true_iff
theorem isB_eq {s : Nat → Int32} {R g : Nat} (h : GapOk s R g) (q : Int32) : isB (gkP s g) q = true ↔ (q = 0 ∨ s (gp g 0) = q ∨ (q = 2 ∧ needP s g)) := (isB_iff h.kd.1 q).trans (isK_eq h q)
theorem isB_2 {s : Nat → Int32} {R g : Nat} (h : GapOk s R g) : isB (gkP s g) 2 = true ↔ needP s g := (isB_iff h.kd.1 2).trans (isK_2 h)
theorem kd_nI {s : Nat → Int32} {R g : Nat} (h : GapOk s R g) : nI (gkP s g) = s (gp g 0) := h.kd.2.symm
