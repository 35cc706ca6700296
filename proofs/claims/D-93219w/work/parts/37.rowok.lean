/-! the row stays well-formed; the text's items go on -/
set_option maxRecDepth 100000
theorem ex_leC {x : Int32} {c : Nat} (hc : c < 2 ^ 31) (h0 : 0 ≤ x) (h : x ≤ nI c) : ∃ j, j ≤ c ∧ x = nI j := by
  obtain ⟨j, hj, rfl⟩ := nI_of (x := x) (Int32.not_lt.mpr h0)
  refine ⟨j, ?_, rfl⟩
  rw [Int32.le_iff_toInt_le, nI_toInt hj, nI_toInt hc] at h
  omega
theorem upd_ne {s : Nat → Int32} {j k : Nat} {x : Int32} (h : k ≠ j) : upd s j x k = s k := by simp [upd, h]
section ROK
variable {s s' : Nat → Int32} {R N : Nat}
theorem GapOk.cg {g : Nat} (h : GapOk s R g) {R' : Nat} (hR : R ≤ R') (e : ∀ b, b < 8 → s' (gp g b) = s (gp g b)) : GapOk s' R' g := by
  obtain ⟨h0, ⟨r, hr, h1⟩, h2, h3, h4⟩ := h
  unfold GapOk
  rw [e 0 (by decide), e 1 (by decide), e 2 (by decide), e 3 (by decide), e 4 (by decide), e 5 (by decide), e 6 (by decide), e 7 (by decide)]
  refine ⟨h0, ⟨r, by omega, h1⟩, ?_, h3, h4⟩
  rcases h2 with h2 | ⟨t, ht, h2⟩
  · exact Or.inl h2
  · exact Or.inr ⟨t, by omega, h2⟩
theorem ngR_lo {n j : Nat} {a0 a1 a2 a3 a4 a5 a6 : Int32} (h : j < 9) (h1 : j ≠ 1) : ngR s n a0 a1 a2 a3 a4 a5 a6 j = s j := by
  unfold ngR
  rw [upd_ne h1, upd_ne, upd_ne, upd_ne, upd_ne, upd_ne, upd_ne, upd_ne, upd_ne] <;> (unfold gp; omega)
theorem ngR_old {n g b : Nat} {a0 a1 a2 a3 a4 a5 a6 : Int32} (h : g < n) (hb : b < 8) : ngR s n a0 a1 a2 a3 a4 a5 a6 (gp g b) = s (gp g b) := by
  unfold ngR
  rw [upd_ne, upd_ne, upd_ne, upd_ne, upd_ne, upd_ne, upd_ne, upd_ne, upd_ne] <;> (unfold gp; omega)
section
variable {n : Nat} {a0 a1 a2 a3 a4 a5 a6 : Int32}
theorem ngR_1 : ngR s n a0 a1 a2 a3 a4 a5 a6 1 = nI (n + 1) := upd_at
theorem ngR_g7 : ngR s n a0 a1 a2 a3 a4 a5 a6 (gp n 7) = 0 := by
  unfold ngR; rw [upd_ne, upd_at] <;> (unfold gp; omega)
theorem ngR_g6 : ngR s n a0 a1 a2 a3 a4 a5 a6 (gp n 6) = a6 := by
  unfold ngR; rw [upd_ne, upd_ne, upd_at] <;> (unfold gp; omega)
theorem ngR_g5 : ngR s n a0 a1 a2 a3 a4 a5 a6 (gp n 5) = a5 := by
  unfold ngR; rw [upd_ne, upd_ne, upd_ne, upd_at] <;> (unfold gp; omega)
theorem ngR_g4 : ngR s n a0 a1 a2 a3 a4 a5 a6 (gp n 4) = a4 := by
  unfold ngR; rw [upd_ne, upd_ne, upd_ne, upd_ne, upd_at] <;> (unfold gp; omega)
theorem ngR_g3 : ngR s n a0 a1 a2 a3 a4 a5 a6 (gp n 3) = a3 := by
  unfold ngR; rw [upd_ne, upd_ne, upd_ne, upd_ne, upd_ne, upd_at] <;> (unfold gp; omega)
theorem ngR_g2 : ngR s n a0 a1 a2 a3 a4 a5 a6 (gp n 2) = a2 := by
  unfold ngR; rw [upd_ne, upd_ne, upd_ne, upd_ne, upd_ne, upd_ne, upd_at] <;> (unfold gp; omega)
theorem ngR_g1 : ngR s n a0 a1 a2 a3 a4 a5 a6 (gp n 1) = a1 := by
  unfold ngR; rw [upd_ne, upd_ne, upd_ne, upd_ne, upd_ne, upd_ne, upd_ne, upd_at] <;> (unfold gp; omega)
theorem ngR_g0 : ngR s n a0 a1 a2 a3 a4 a5 a6 (gp n 0) = a0 := by
  unfold ngR; rw [upd_ne, upd_ne, upd_ne, upd_ne, upd_ne, upd_ne, upd_ne, upd_ne, upd_at] <;> (unfold gp; omega)
end
theorem OkN.ng (h : OkN s R N) (hN : N < 20) {a0 a1 a2 a3 a4 a5 a6 : Int32} (h0 : ∃ k, k < 6 ∧ a0 = nI k) (h1 : ∃ r, r < R ∧ a1 = nI r) (h2 : a2 = -1 ∨ ∃ t, t < R ∧ a2 = nI t) (h21 : a2 ≠ a1)
    (h3 : ∃ w, w < 100 ∧ a3 = nI w) (h4 : ∃ w, w < 10 ∧ a4 = nI w) (h5 : ∃ w, w < 4 ∧ a5 = nI w) (h6 : ∃ w, w < 100 ∧ a6 = nI w) : OkN (ngR s N a0 a1 a2 a3 a4 a5 a6) R (N + 1) := by
  obtain ⟨q0, q1, q2, q3, q4, q5, q6, q7, q8, q9, q10⟩ := h
  unfold OkN
  rw [ngR_lo (j := 0) (by decide) (by decide), ngR_1, ngR_lo (j := 2) (by decide) (by decide), ngR_lo (j := 3) (by decide) (by decide), ngR_lo (j := 4) (by decide) (by decide), ngR_lo (j := 5) (by decide) (by decide), ngR_lo (j := 6) (by decide) (by decide), ngR_lo (j := 7) (by decide) (by decide)]
  refine ⟨q0, by omega, q2, rfl, q4, q5, q6, q7, q8, q9, fun g hg => ?_⟩
  by_cases e : g = N
  · subst e
    unfold GapOk
    rw [ngR_g0, ngR_g1, ngR_g2, ngR_g3, ngR_g4, ngR_g5, ngR_g6, ngR_g7]
    exact ⟨h0, h1, h2, h21, h3, h4, h5, h6, Or.inl rfl⟩
  · exact (q10 g (by omega)).cg (Nat.le_refl _) (fun b hb => ngR_old (by omega) hb)
theorem OkN.rm (h : OkN s R N) (hR : R < 6) : OkN (upd s 0 (s 0 + 1)) (R + 1) N := by
  obtain ⟨q0, q1, q2, q3, q4, q5, q6, q7, q8, q9, q10⟩ := h
  unfold OkN
  rw [upd_at, upd_ne (k := 1) (by decide), upd_ne (k := 2) (by decide), upd_ne (k := 3) (by decide), upd_ne (k := 4) (by decide), upd_ne (k := 5) (by decide), upd_ne (k := 6) (by decide), upd_ne (k := 7) (by decide)]
  exact ⟨by omega, q1, by rw [q2]; exact nI_add R 1, q3, q4, q5, q6, q7, q8, q9, fun g hg => (q10 g hg).cg (by omega) (fun b hb => upd_ne (by unfold gp; omega))⟩
theorem OkN.night (h : OkN s R N) {j : Nat} {v : Int32} (hj : (j = 2 ∧ 0 ≤ v ∧ v ≤ 40) ∨ (j = 3 ∧ 0 ≤ v ∧ v ≤ 99) ∨ (j = 4 ∧ 0 ≤ v ∧ v ≤ 3) ∨ (j = 5 ∧ -99 ≤ v ∧ v ≤ 99) ∨ (j = 6 ∧ 0 ≤ v ∧ v ≤ 99) ∨ (j = 7 ∧ 0 ≤ v ∧ v ≤ 100)) : OkN (upd s j v) R N := by
  obtain ⟨q0, q1, q2, q3, q4, q5, q6, q7, q8, q9, q10⟩ := h
  have hg : 2 ≤ j → j ≤ 7 → ∀ g, g < N → GapOk (upd s j v) R g := fun _ _ g hg => (q10 g hg).cg (Nat.le_refl _) (fun b hb => upd_ne (by unfold gp; omega))
  unfold OkN
  rcases hj with ⟨rfl, a, b⟩ | ⟨rfl, a, b⟩ | ⟨rfl, a, b⟩ | ⟨rfl, a, b⟩ | ⟨rfl, a, b⟩ | ⟨rfl, a, b⟩ <;> rw [upd_ne (k := 0) (by decide), upd_ne (k := 1) (by decide)]
  · rw [upd_at, upd_ne (k := 3) (by decide), upd_ne (k := 4) (by decide), upd_ne (k := 5) (by decide), upd_ne (k := 6) (by decide), upd_ne (k := 7) (by decide)]
    exact ⟨q0, q1, q2, q3, ex_leC (by decide) a b, q5, q6, q7, q8, q9, hg (by decide) (by decide)⟩
  · rw [upd_at, upd_ne (k := 2) (by decide), upd_ne (k := 4) (by decide), upd_ne (k := 5) (by decide), upd_ne (k := 6) (by decide), upd_ne (k := 7) (by decide)]
    exact ⟨q0, q1, q2, q3, q4, ex_leC (by decide) a b, q6, q7, q8, q9, hg (by decide) (by decide)⟩
  · rw [upd_at, upd_ne (k := 2) (by decide), upd_ne (k := 3) (by decide), upd_ne (k := 5) (by decide), upd_ne (k := 6) (by decide), upd_ne (k := 7) (by decide)]
    exact ⟨q0, q1, q2, q3, q4, q5, ex_leC (by decide) a b, q7, q8, q9, hg (by decide) (by decide)⟩
  · rw [upd_at, upd_ne (k := 2) (by decide), upd_ne (k := 3) (by decide), upd_ne (k := 4) (by decide), upd_ne (k := 6) (by decide), upd_ne (k := 7) (by decide)]
    exact ⟨q0, q1, q2, q3, q4, q5, q6, ⟨a, b⟩, q8, q9, hg (by decide) (by decide)⟩
  · rw [upd_at, upd_ne (k := 2) (by decide), upd_ne (k := 3) (by decide), upd_ne (k := 4) (by decide), upd_ne (k := 5) (by decide), upd_ne (k := 7) (by decide)]
    exact ⟨q0, q1, q2, q3, q4, q5, q6, q7, ex_leC (by decide) a b, q9, hg (by decide) (by decide)⟩
  · rw [upd_at, upd_ne (k := 2) (by decide), upd_ne (k := 3) (by decide), upd_ne (k := 4) (by decide), upd_ne (k := 5) (by decide), upd_ne (k := 6) (by decide)]
    exact ⟨q0, q1, q2, q3, q4, q5, q6, q7, q8, ex_leC (by decide) a b, hg (by decide) (by decide)⟩
end ROK
/-! what a number that isn't wrong holds -/
section VAL
variable {t : Nat → Int32} {T : Nat} {q : Bool} {p : PS} {lo hi most : Int32}
theorem ndP_v : (ndP t T q p).2.2.1 = p.2.2.1 := by
  unfold ndP; split
  · rfl
  · split <;> rfl
theorem nmP_v (h : ¬ (nmP t T lo hi p).2.2.2.1 = true) : isD (bA t T p.1) ∧ (nmP t T lo hi p).2.2.1 = nuV t p.1 p.2.1 ∧ lo ≤ (nmP t T lo hi p).2.2.1 ∧ (nmP t T lo hi p).2.2.1 ≤ hi := by
  have hw := nmP_nw h
  unfold nmP at h ⊢
  rw [if_neg hw] at h ⊢
  have hq := of_decide_eq_true (ndP_nw h).2
  rw [ndP_v]
  refine ⟨hq.1, ?_, hq.2.1, hq.2.2⟩
  show nmV t T p = _
  rw [nmV, if_pos hq.1]
theorem phP_v (hm : 0 ≤ most) (h : ¬ (phP t T q most p).2.2.2.2.1 = true) : 0 ≤ (phP t T q most p).1 ∧ (phP t T q most p).1 ≤ most := by
  have hw := phP_nw h
  unfold phP at h ⊢
  rw [if_neg hw] at h ⊢
  split
  · rename_i hq
    rw [if_pos hq] at h
    exact (nmP_v h).2.2
  · exact ⟨Int32.le_refl 0, hm⟩
theorem giT5_Ok {k r o w h sd c : Int32} {R N : Nat} (hO : OkN p.2.2.2.2 R N) (hg : ¬ p.2.2.2.1 = true → N < 20 ∧ (∃ j, j < 6 ∧ k = nI j) ∧ (∃ j, j < R ∧ r = nI j) ∧ (o = -1 ∨ ∃ j, j < R ∧ o = nI j) ∧ o ≠ r ∧ (0 ≤ w ∧ w ≤ 99) ∧ (0 ≤ h ∧ h ≤ 9) ∧ (0 ≤ sd ∧ sd ≤ 3) ∧ (0 ≤ c ∧ c ≤ 99)) : ∃ N', OkN (giT5 k r o w h sd c p).2.2.2.2 R N' := by
  unfold giT5
  split
  · exact ⟨N, hO⟩
  · rename_i hw
    obtain ⟨h1, h2, h3, h4, h5, h6, h7, h8, h9⟩ := hg hw
    have up : ∀ {x : Int32} {c : Nat}, c < 2 ^ 31 → 0 ≤ x ∧ x ≤ nI c → ∃ j, j < c + 1 ∧ x = nI j := fun hc hx => by
      obtain ⟨j, hj, e⟩ := ex_leC hc hx.1 hx.2
      exact ⟨j, by omega, e⟩
    refine ⟨N + 1, ?_⟩
    show OkN (ngR _ _ _ _ _ _ _ _ _) R (N + 1)
    rw [hO.cl1]
    exact hO.ng h1 h2 h3 h4 h5 (up (c := 99) (by decide) h6) (up (c := 9) (by decide) h7) (up (c := 3) (by decide) h8) (up (c := 99) (by decide) h9)
theorem giT1_Ok {k r o : Int32} {R N : Nat} (hO : OkN p.2.2.2.2 R N) (hg : ¬ p.2.2.2.1 = true → N < 20 ∧ (∃ j, j < 6 ∧ k = nI j) ∧ (∃ j, j < R ∧ r = nI j) ∧ (o = -1 ∨ ∃ j, j < R ∧ o = nI j) ∧ o ≠ r) : ∃ N', OkN (giT1 t T k r o p).2.2.2.2 R N' := by
  unfold giT1 giT0 giT2 giT3 giT4
  obtain ⟨p4, e4⟩ : ∃ x, x = nmP t T 0 99 p := ⟨_, rfl⟩
  rw [← e4]
  obtain ⟨x5, e5⟩ : ∃ x, x = phP t T (wdB t T p4 [104, 105, 103, 104]) 9 p4 := ⟨_, rfl⟩
  rw [← e5]
  obtain ⟨x6, e6⟩ : ∃ x, x = phP t T (wdB t T x5.2 [115, 105, 100, 101]) 3 x5.2 := ⟨_, rfl⟩
  rw [← e6]
  obtain ⟨x7, e7⟩ : ∃ x, x = phP t T (wdB t T x6.2 [99, 111, 115, 116]) 99 x6.2 := ⟨_, rfl⟩
  rw [← e7]
  refine giT5_Ok (N := N) (by rw [e7, phP_s, e6, phP_s, e5, phP_s, e4, nmP_s]; exact hO) (fun hw => ?_)
  have v7 : 0 ≤ x7.1 ∧ x7.1 ≤ 99 := by rw [e7] at hw ⊢; exact phP_v (by decide) hw
  have w6 : ¬ x6.2.2.2.2.1 = true := phP_nw (e7 ▸ hw)
  have v6 : 0 ≤ x6.1 ∧ x6.1 ≤ 3 := by rw [e6] at w6 ⊢; exact phP_v (by decide) w6
  have w5 : ¬ x5.2.2.2.2.1 = true := phP_nw (e6 ▸ w6)
  have v5 : 0 ≤ x5.1 ∧ x5.1 ≤ 9 := by rw [e5] at w5 ⊢; exact phP_v (by decide) w5
  have w4 : ¬ p4.2.2.2.1 = true := phP_nw (e5 ▸ w5)
  have v4 : 0 ≤ p4.2.2.1 ∧ p4.2.2.1 ≤ 99 := by rw [e4] at w4 ⊢; exact (nmP_v w4).2.2
  obtain ⟨h1, h2, h3, h4, h5⟩ := hg (nmP_nw (e4 ▸ w4))
  exact ⟨h1, h2, h3, h4, h5, v4, v5, v6, v7⟩
theorem giP_Ok {k : Int32} {R N : Nat} (hO : OkN p.2.2.2.2 R N) (hk : ∃ j, j < 6 ∧ k = nI j) : ∃ N', OkN (giP t T k p).2.2.2.2 R N' := by
  unfold giP giC
  obtain ⟨p1, e1⟩ : ∃ x, x = ndP t T (decide (p.2.2.2.2 1 < 20)) p := ⟨_, rfl⟩
  rw [← e1]
  obtain ⟨p2, e2⟩ : ∃ x, x = nmP t T 0 (p1.2.2.2.2 0 - 1) p1 := ⟨_, rfl⟩
  rw [← e2]
  have s1 : p1.2.2.2.2 = p.2.2.2.2 := by rw [e1, ndP_s]
  have s2 : p2.2.2.2.2 = p.2.2.2.2 := by rw [e2, nmP_s, s1]
  have g2 : ¬ p2.2.2.2.1 = true → N < 20 ∧ ∃ j, j < R ∧ p2.2.2.1 = nI j := fun hw => by
    have w1 : ¬ p1.2.2.2.1 = true := nmP_nw (e2 ▸ hw)
    have v2 : 0 ≤ p2.2.2.1 ∧ p2.2.2.1 ≤ p.2.2.2.2 0 - 1 := by rw [← s1]; rw [e2] at hw ⊢; exact (nmP_v hw).2.2
    exact ⟨hO.nLt (of_decide_eq_true (ndP_nw (e1 ▸ w1)).2), hO.exRoom v2⟩
  unfold giA
  split
  · refine giT1_Ok (N := N) (by rw [ndP_s, s2]; exact hO) (fun hw => ?_)
    obtain ⟨a, j, hj, e⟩ := g2 (ndP_nw hw).1
    refine ⟨a, hk, ⟨j, hj, e⟩, Or.inl rfl, fun h => ?_⟩
    rw [e] at h
    have := congrArg Int32.toInt h
    rw [nI_toInt (by have := hO.1; omega)] at this
    have h1 : (-1 : Int32).toInt = -1 := rfl
    omega
  · unfold giB
    obtain ⟨p3, e3⟩ : ∃ x, x = nmP t T 0 (p2.2.2.2.2 0 - 1) (giS t T p2) := ⟨_, rfl⟩
    rw [← e3]
    have sS : (giS t T p2).2.2.2.2 = p2.2.2.2.2 := by unfold giS; split <;> rfl
    refine giT1_Ok (N := N) (by rw [e3, nmP_s, sS, s2]; exact hO) (fun hw => ?_)
    have wS : ¬ (giS t T p2).2.2.2.1 = true := nmP_nw (e3 ▸ hw)
    have v3 := nmP_v (e3 ▸ hw)
    rw [← e3] at v3
    by_cases hq : decide (giQ t T p2) = true
    · rw [giS, if_pos hq] at wS; exact absurd rfl wS
    · rw [giS, if_neg hq] at wS v3
      obtain ⟨a, b⟩ := g2 wS
      rw [s2] at v3
      exact ⟨a, hk, b, Or.inr (hO.exRoom v3.2.2), fun h => hq (decide_eq_true ⟨wS, v3.1, v3.2.1.symm.trans h⟩)⟩
theorem niP_Ok {R N : Nat} (hO : OkN p.2.2.2.2 R N) : OkN (niP t T p).2.2.2.2 R N := by
  unfold niP
  obtain ⟨w, ew⟩ : ∃ x, x = ntW t T p := ⟨_, rfl⟩
  rw [← ew]
  obtain ⟨p2, e2⟩ : ∃ x, x = nmP t T 0 (mostP w) (ndP t T (decide (0 ≤ w)) p) := ⟨_, rfl⟩
  rw [← e2]
  have s2 : p2.2.2.2.2 = p.2.2.2.2 := by rw [e2, nmP_s, ndP_s]
  unfold niB
  split
  · rw [s2]; exact hO
  · rename_i hw
    have h0 : 0 ≤ w := of_decide_eq_true (ndP_nw (nmP_nw (e2 ▸ hw))).2
    have v := (nmP_v (e2 ▸ hw)).2.2
    rw [← e2] at v
    show OkN (upd p2.2.2.2.2 _ _) R N
    rw [s2]
    refine hO.night ?_
    unfold ntW at ew
    split at ew
    · subst ew; exact Or.inl ⟨rfl, v⟩
    · split at ew
      · subst ew; exact Or.inr (Or.inl ⟨rfl, v⟩)
      · split at ew
        · subst ew; exact Or.inr (Or.inr (Or.inr (Or.inr (Or.inl ⟨rfl, v⟩))))
        · subst ew; exact absurd h0 (by decide)
theorem kdP_6 (h : ¬ kdP t T p < 0) : ∃ j, j < 6 ∧ kdP t T p = nI j := by
  unfold kdP at h ⊢
  split
  · exact ⟨0, by decide, rfl⟩
  · split
    · exact ⟨1, by decide, rfl⟩
    · split
      · exact ⟨2, by decide, rfl⟩
      · split
        · exact ⟨3, by decide, rfl⟩
        · split
          · exact ⟨4, by decide, rfl⟩
          · split
            · exact ⟨5, by decide, rfl⟩
            · rename_i a b c d e f
              rw [if_neg a, if_neg b, if_neg c, if_neg d, if_neg e, if_neg f] at h
              exact absurd (by decide) h
theorem itP_Ok {R N : Nat} (hO : OkN p.2.2.2.2 R N) : ∃ R' N', OkN (itP t T p).2.2.2.2 R' N' := by
  unfold itP
  split
  · split
    · have s1 : (ndP t T (decide (p.2.2.2.2 0 < 6)) p).2.2.2.2 = p.2.2.2.2 := ndP_s
      unfold rmB
      split
      · refine ⟨R, N, ?_⟩
        show OkN (upd _ 0 _) R N
        rw [s1, upd_same (Int32.add_zero _).symm]
        exact hO
      · rename_i hw
        have h6 : p.2.2.2.2 0 < 6 := of_decide_eq_true (ndP_nw hw).2
        refine ⟨R + 1, N, ?_⟩
        show OkN (upd _ 0 _) _ N
        rw [s1]
        refine hO.rm ?_
        rw [hO.2.2.1] at h6
        have h7 := Int32.lt_iff_toInt_lt.mp h6
        rw [nI_toInt (by have := hO.1; omega)] at h7
        have h8 : (6 : Int32).toInt = 6 := rfl
        omega
    · exact ⟨R, N, niP_Ok hO⟩
  · rename_i h
    obtain ⟨N', h'⟩ := giP_Ok (t := t) (T := T) hO (kdP_6 h)
    exact ⟨R, N', h'⟩
end VAL
