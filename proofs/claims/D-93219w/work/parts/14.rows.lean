/-! rows with one number changed -/
set_option maxRecDepth 100000
theorem upd_upd {s : Nat → Int32} {j : Nat} {x y : Int32} : upd (upd s j x) j y = upd s j y := by
  funext k
  unfold upd
  split <;> rfl
theorem upd_self {s : Nat → Int32} {j : Nat} : upd s j (s j) = s := by
  funext k
  unfold upd
  split
  · rename_i h; rw [h]
  · rfl
theorem upd_at {s : Nat → Int32} {j : Nat} {x : Int32} : upd s j x j = x := by simp [upd]
theorem OkN_width {s : Nat → Int32} {R N i w : Nat} (hO : OkN s R N) (hw : w < 100) : OkN (upd s (gp i 3) (nI w)) R N := by
  have lo : ∀ j, j < 9 → upd s (gp i 3) (nI w) j = s j := fun j hj => pk_un (by show j ≠ 9 + 8 * i + 3; omega)
  have hi : ∀ g v, v ≠ 3 → v < 8 → upd s (gp i 3) (nI w) (gp g v) = s (gp g v) := fun g v hv hv8 => pk_un (by show 9 + 8 * g + v ≠ 9 + 8 * i + 3; omega)
  have h3 : ∀ g, g < N → ∃ w', w' < 100 ∧ upd s (gp i 3) (nI w) (gp g 3) = nI w' := by
    intro g hg
    by_cases q : g = i
    · subst q; exact ⟨w, hw, upd_at⟩
    · rw [pk_un (show 9 + 8 * g + 3 ≠ 9 + 8 * i + 3 by omega)]; exact (hO.gap hg).2.2.2.2.1
  unfold OkN GapOk at hO ⊢
  simp only [lo 0 (by decide), lo 1 (by decide), lo 2 (by decide), lo 3 (by decide), lo 4 (by decide), lo 5 (by decide), lo 6 (by decide), lo 7 (by decide), hi _ 0 (by decide) (by decide), hi _ 1 (by decide) (by decide), hi _ 2 (by decide) (by decide), hi _ 4 (by decide) (by decide), hi _ 5 (by decide) (by decide), hi _ 6 (by decide) (by decide), hi _ 7 (by decide) (by decide)]
  obtain ⟨h1, h2, h4, h5, h6, h7, h8, h9, h10, h11, h12⟩ := hO
  refine ⟨h1, h2, h4, h5, h6, h7, h8, h9, h10, h11, fun g hg => ?_⟩
  obtain ⟨q1, q2, q3, q4, q5, q6, q7, q8, q9⟩ := h12 g hg
  exact ⟨q1, q2, q3, q4, h3 g hg, q6, q7, q8, q9⟩
theorem OkN_shut {s : Nat → Int32} {R N i : Nat} {v : Int32} (hO : OkN s R N) (hv : v = 0 ∨ v = 1) : OkN (upd s (gp i 7) v) R N := by
  have lo : ∀ j, j < 9 → upd s (gp i 7) v j = s j := fun j hj => pk_un (by show j ≠ 9 + 8 * i + 7; omega)
  have hi : ∀ g w, w < 7 → upd s (gp i 7) v (gp g w) = s (gp g w) := fun g w hw => pk_un (by show 9 + 8 * g + w ≠ 9 + 8 * i + 7; omega)
  have h7 : ∀ g, g < N → (upd s (gp i 7) v (gp g 7) = 0 ∨ upd s (gp i 7) v (gp g 7) = 1) := by
    intro g hg
    by_cases q : g = i
    · subst q; rw [upd_at]; exact hv
    · rw [pk_un (show 9 + 8 * g + 7 ≠ 9 + 8 * i + 7 by omega)]; exact (hO.gap hg).2.2.2.2.2.2.2.2
  unfold OkN GapOk at hO ⊢
  simp only [lo 0 (by decide), lo 1 (by decide), lo 2 (by decide), lo 3 (by decide), lo 4 (by decide), lo 5 (by decide), lo 6 (by decide), lo 7 (by decide), hi _ 0 (by decide), hi _ 1 (by decide), hi _ 2 (by decide), hi _ 3 (by decide), hi _ 4 (by decide), hi _ 5 (by decide), hi _ 6 (by decide)]
  obtain ⟨h1, h2, h4, h5, h6, h7', h8, h9, h10, h11, h12⟩ := hO
  refine ⟨h1, h2, h4, h5, h6, h7', h8, h9, h10, h11, fun g hg => ?_⟩
  obtain ⟨q1, q2, q3, q4, q5, q6, q7, q8, q9⟩ := h12 g hg
  exact ⟨q1, q2, q3, q4, q5, q6, q7, q8, h7 g hg⟩
theorem OkN_wind {s : Nat → Int32} {R N w : Nat} (hO : OkN s R N) (hw : w ≤ 99) : OkN (upd s 3 (nI w)) R N := by
  have lo : ∀ j, j ≠ 3 → upd s 3 (nI w) j = s j := fun j hj => pk_un hj
  have hi : ∀ g v, upd s 3 (nI w) (gp g v) = s (gp g v) := fun g v => pk_un (by show 9 + 8 * g + v ≠ 3; omega)
  unfold OkN GapOk at hO ⊢
  simp only [lo 0 (by decide), lo 1 (by decide), lo 2 (by decide), lo 4 (by decide), lo 5 (by decide), lo 6 (by decide), lo 7 (by decide), hi, upd_at]
  obtain ⟨h1, h2, h4, h5, h6, h7, h8, h9, h10, h11, h12⟩ := hO
  exact ⟨h1, h2, h4, h5, h6, ⟨w, hw, rfl⟩, h8, h9, h10, h11, h12⟩
theorem OkN_from {s : Nat → Int32} {R N w : Nat} (hO : OkN s R N) (hw : w ≤ 3) : OkN (upd s 4 (nI w)) R N := by
  have lo : ∀ j, j ≠ 4 → upd s 4 (nI w) j = s j := fun j hj => pk_un hj
  have hi : ∀ g v, upd s 4 (nI w) (gp g v) = s (gp g v) := fun g v => pk_un (by show 9 + 8 * g + v ≠ 4; omega)
  unfold OkN GapOk at hO ⊢
  simp only [lo 0 (by decide), lo 1 (by decide), lo 2 (by decide), lo 3 (by decide), lo 5 (by decide), lo 6 (by decide), lo 7 (by decide), hi, upd_at]
  obtain ⟨h1, h2, h4, h5, h6, h7, h8, h9, h10, h11, h12⟩ := hO
  exact ⟨h1, h2, h4, h5, h6, h7, ⟨w, hw, rfl⟩, h9, h10, h11, h12⟩
theorem upA_upA {f : Nat → Nat → Int32} {k : Nat} {a b : Nat → Int32} : upA (upA f k a) k b = upA f k b := by
  funext q
  unfold upA
  split <;> rfl
theorem upA_self {f : Nat → Nat → Int32} {k : Nat} : upA f k (f k) = f := by
  funext q
  unfold upA
  split
  · rename_i h; rw [h]
  · rfl
theorem up2_eqA {f : Nat → Nat → Int32} {k j : Nat} {x : Int32} : up2 f k j x = upA f k (upd (f k) j x) := by
  funext q r
  unfold up2 upA
  by_cases h : q = k
  · subst h
    simp only [true_and, if_true]
    rfl
  · simp [h]
theorem airF_else {f : Nat → Nat → Int32} {a b : Nat → Int32} {n z : Int32} {q : Nat} (h1 : q ≠ 11) (h2 : q ≠ 12) (h3 : q ≠ 13) (h4 : q ≠ 14) : airF f a b n z q = f q := by
  unfold airF
  split
  · exact absurd rfl h1
  · exact absurd rfl h2
  · exact absurd rfl h3
  · exact absurd rfl h4
  · rfl
theorem airF_upA {f : Nat → Nat → Int32} {a b c : Nat → Int32} {n z : Int32} {k : Nat} (hk : k < 11) : upA (airF f a b n z) k c = airF (upA f k c) a b n z := by
  funext q
  by_cases h1 : q = 11
  · subst h1; unfold upA airF; simp; omega
  by_cases h2 : q = 12
  · subst h2; unfold upA airF; simp; omega
  by_cases h3 : q = 13
  · subst h3; unfold upA airF; simp; omega
  by_cases h4 : q = 14
  · subst h4; unfold upA airF; simp; omega
  rw [airF_else h1 h2 h3 h4]
  unfold upA
  split
  · rfl
  · exact airF_else h1 h2 h3 h4
theorem airF_upJ {f : Nat → Nat → Int32} {a b : Nat → Int32} {n z x : Int32} {k j : Nat} (hk : 14 < k) : up2 (airF f a b n z) k j x = airF (up2 f k j x) a b n z := by
  funext q
  by_cases h1 : q = 11
  · subst h1; rw [up2_ne (by omega)]; rfl
  by_cases h2 : q = 12
  · subst h2; rw [up2_ne (by omega)]; rfl
  by_cases h3 : q = 13
  · subst h3; rw [up2_ne (by omega)]; rfl
  by_cases h4 : q = 14
  · subst h4; rw [up2_ne (by omega)]; rfl
  rw [airF_else h1 h2 h3 h4]
  funext r
  unfold up2
  rw [airF_else h1 h2 h3 h4]
theorem upA_up2 {f : Nat → Nat → Int32} {a : Nat → Int32} {x : Int32} {k k' j : Nat} (hk : k' ≠ k) : up2 (upA f k a) k' j x = upA (up2 f k' j x) k a := by
  funext q r
  unfold up2 upA
  by_cases h : q = k
  · subst h
    rw [if_neg (fun e => hk e.1.symm), if_pos rfl, if_pos rfl]
  · rw [if_neg h, if_neg h]
/-- the row is back, junk apart -/
theorem AXj {G : GD} {A : Nat → Prop} {f f1 : Nat → Nat → Int32} {g : Nat → Nat → Int64} {ad : Nat → Nat} {a b : Nat → Int32} {n z : Int32} {H : Heap} (hj : Jk f f1) (h : MW G A (airF (upA f1 0 (f 0)) a b n z) g ad H) : MP G A f g ad H :=
  ⟨airF (upA f1 0 (f 0)) a b n z, g, ⟨rfl, hj.2.1, hj.2.2.1, hj.2.2.2.1, hj.2.2.2.2.1, hj.2.2.2.2.2.1, hj.2.2.2.2.2.2.1, hj.2.2.2.2.2.2.2⟩, rfl, h⟩
theorem upd_same {s : Nat → Int32} {j : Nat} {x : Int32} (h : s j = x) : upd s j x = s := by
  rw [← h]
  exact upd_self
/-! sets of gaps as numbers -/
theorem sh_amt : ∀ n, n < 32 → ((nI n &&& 31).toBitVec.smod 32).toNat = n := by decide +kernel
theorem sBit_nat {a g : Nat} (ha : a < 2 ^ 31) (hg : g < 32) : sBit (nI a) g = nI (a / 2 ^ g % 2) := by
  unfold sBit
  rw [pk_shrN ha _ g (sh_amt g hg), pk_andN (k := 1) (Nat.lt_of_le_of_lt (Nat.div_le_self _ _) (by omega)) rfl]
theorem sBit_tb {a g : Nat} (ha : a < 2 ^ 31) (hg : g < 32) : sBit (nI a) g = 1 ↔ a.testBit g = true := by
  rw [sBit_nat ha hg, show (1 : Int32) = nI 1 from rfl, nI_eq (by omega) (by decide), Nat.testBit_eq_decide_div_mod_eq, decide_eq_true_iff]
theorem sBit_sub {a t g : Nat} (ht : t < 2 ^ 31) (hg : g < 32) (h : a &&& t = a) (hb : sBit (nI a) g = 1) : sBit (nI t) g = 1 := by
  have hat : a ≤ t := by rw [← h]; exact Nat.and_le_right
  rw [sBit_tb (by omega) hg] at hb
  rw [sBit_tb ht hg]
  rw [← h, Nat.testBit_and, Bool.and_eq_true] at hb
  exact hb.2
theorem sh_lim : ∀ n, n < 21 → ((1 : Int32) <<< (nI n &&& 31)) - 1 = nI (2 ^ n - 1) := by decide +kernel
section SMJ
variable {p : Program} {l : Launch} {e : Env} {R : Room} {s : State} {m : MethodId} {args : Array Value} {below : List Frame} {meth : Method} {c : Code} {H : Heap} {locs : List Loc} {cells slots : Nat} {Q : State → Prop} {pc : Nat} {ls : Array Slot} {st : List Value}
/-- several ways meet at pcJ -/
theorem w_lab (P : Prop) (pcJ : Nat) (rest : List Value) (h : P → W p l e R s m args below meth c H locs cells slots Q (F0 m pcJ ls rest))
    (k : (P → W p l e R s m args below meth c H locs cells slots Q (F0 m pcJ ls rest)) → W p l e R s m args below meth c H locs cells slots Q (F0 m pc ls st)) : W p l e R s m args below meth c H locs cells slots Q (F0 m pc ls st) := k h
end SMJ
