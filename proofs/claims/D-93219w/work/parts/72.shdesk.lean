/-! sheets within the desk's world -/
set_option maxRecDepth 100000
/-- what sheets may be -/
def ZO (f : Nat → Nat → Int32) (g : Nat → Nat → Int64) : Prop := ∀ i, i < 4 → (f 19 i = 0 ∨ bitsOk (f 19 i)) ∧ (∃ n, n ≤ 40 ∧ f 20 i = nI n) ∧ ∀ j, j < (f 20 i).toNatClampNeg → narOk (f 19 i) (g 21 (40 * i + j))
theorem ZO.okz {f : Nat → Nat → Int32} {g : Nat → Nat → Int64} (h : ZO f g) : OkZ f := fun k hk => (h k hk).2.1
section SHD
variable {G : GD} {A : Nat → Prop} {f : Nat → Nat → Int32} {g : Nat → Nat → Int64} {b : Nat → Nat → Int32} {hh hk ht : Nat} {ad : Nat → Nat} {H H1 : Heap} {i j : Nat}
theorem dS_sh (hi : i < 4) (hz : bitsOk (f 19 i)) : dS (f 19) (20 + i) := Or.inr (Or.inr ⟨by omega, by omega, by rw [Nat.add_sub_cancel_left]; exact hz⟩)
theorem DW.msh (h : DW G A f g b hh hk ht ad H) (hi : i < 4) (hz : bitsOk (f 19 i)) : A (ad (20 + i)) := by
  cases he : dEnc G f g b hh hk ht ad (20 + i) with
  | none => exact absurd he (dE_ne (dS_sh hi hz))
  | some e => exact h.mem he
theorem up2L_at {k j : Nat} {x : Int64} : up2L g k j x k j = x := by simp [up2L]
theorem sh_row {y : Int64} : (fun k => up2L g 21 (40 * i + j) y 21 (40 * i + k)) = vp_updL (fun k => g 21 (40 * i + k)) j y := by
  funext k
  unfold up2L vp_updL
  by_cases h : k = j
  · subst h
    rw [if_pos ⟨rfl, rfl⟩, if_pos rfl]
  · rw [if_neg (fun q => h (by omega)), if_neg h]
/-- other roles see nothing of another sheet's numbers -/
theorem dE_gconv {g' : Nat → Nat → Int64} {q : Nat} (hg : ∀ i' k, i' < 4 → q = 20 + i' → k < (f 20 i').toNatClampNeg → g' 21 (40 * i' + k) = g 21 (40 * i' + k)) (e' : va_E) (he : dEnc G f g' b hh hk ht ad q = some e') : ∃ e, dEnc G f g b hh hk ht ad q = some e ∧ ∀ K : Heap, va_at G.1 vwCl (ad q, e) K → va_at G.1 vwCl (ad q, e') K := by
  have hs := dE_some (show dEnc G f g' b hh hk ht ad q ≠ none by rw [he]; exact fun z => by cases z)
  rcases hs with hs | hs | hs
  · rcases (show q = 0 ∨ q = 1 ∨ q = 2 ∨ q = 3 ∨ q = 4 ∨ q = 5 by omega) with rfl | rfl | rfl | rfl | rfl | rfl <;> (cases he; exact ⟨_, rfl, fun K h => h⟩)
  · obtain ⟨i', rfl⟩ : ∃ i', q = 10 + i' := ⟨q - 10, by omega⟩
    rw [dE_sl (by omega)] at he
    cases he
    exact ⟨_, dE_sl (by omega), fun K h => h⟩
  · obtain ⟨i', rfl⟩ : ∃ i', q = 20 + i' := ⟨q - 20, by omega⟩
    have hi : i' < 4 := by omega
    rw [dE_sh hi] at he
    rw [dE_sh hi]
    unfold shE at he ⊢
    by_cases c1 : f 19 i' = 8
    · rw [if_pos c1] at he ⊢
      cases he
      exact ⟨_, rfl, at_ext fun j hj => congrArg Int64.toInt32 (hg i' j hi rfl hj)⟩
    rw [if_neg c1] at he ⊢
    by_cases c2 : f 19 i' = 16
    · rw [if_pos c2] at he ⊢
      cases he
      exact ⟨_, rfl, at_ext fun j hj => congrArg Int64.toInt32 (hg i' j hi rfl hj)⟩
    rw [if_neg c2] at he ⊢
    by_cases c3 : f 19 i' = 64
    · rw [if_pos c3] at he ⊢
      cases he
      exact ⟨_, rfl, at_extL fun j hj => hg i' j hi rfl hj⟩
    rw [if_neg c3] at he
    cases he
/-- a sheet's numbers are others now -/
theorem DW.shset {g' : Nat → Nat → Int64} {v' : Nat → Int64} (h : DW G A f g b hh hk ht ad H) (hi : i < 4) (hz : bitsOk (f 19 i)) (hv : ∀ k, k < (f 20 i).toNatClampNeg → g' 21 (40 * i + k) = v' k) (hg : ∀ i' k, i' < 4 → i' ≠ i → k < (f 20 i').toNatClampNeg → g' 21 (40 * i' + k) = g 21 (40 * i' + k)) (hs : ShA G (f 19 i) (f 20 i).toNatClampNeg v' (ad (20 + i)) H1) (oq : ∀ q : Nat, q ≠ ad (20 + i) → H1[q]? = H[q]?) : DW G A f g' b hh hk ht ad H1 := by
  obtain ⟨e1, h1, h2⟩ := hs
  cases he0 : dEnc G f g b hh hk ht ad (20 + i) with
  | none => exact absurd he0 (dE_ne (dS_sh hi hz))
  | some e0 =>
    have hW1 : Wd G A (updC (dEnc G f g b hh hk ht ad) (20 + i) e1) ad H1 := Wd.wrU h he0 h2 oq
    refine hW1.conv fun q e' he => ?_
    by_cases c : q = 20 + i
    · subst c
      refine ⟨e1, updC_same, fun K hK => ?_⟩
      rw [dE_sh hi] at he
      unfold shE at he h1
      by_cases c1 : f 19 i = 8
      · rw [if_pos c1] at he h1
        cases he
        cases h1
        exact at_ext (fun j hj => congrArg Int64.toInt32 (hv j hj)) K hK
      rw [if_neg c1] at he h1
      by_cases c2 : f 19 i = 16
      · rw [if_pos c2] at he h1
        cases he
        cases h1
        exact at_ext (fun j hj => congrArg Int64.toInt32 (hv j hj)) K hK
      rw [if_neg c2] at he h1
      by_cases c3 : f 19 i = 64
      · rw [if_pos c3] at he h1
        cases he
        cases h1
        exact at_extL hv K hK
      rw [if_neg c3] at he
      cases he
    · obtain ⟨e, h3, h4⟩ := dE_gconv (g := g) (fun i' k hi' hq hk => hg i' k hi' (fun e => c (by rw [hq, e])) hk) e' he
      exact ⟨e, (updC_ne c).trans h3, h4⟩
theorem DW.shput {y : Int64} (h : DW G A f g b hh hk ht ad H) (hZ : OkZ f) (hi : i < 4) (hz : bitsOk (f 19 i)) (hj : j < (f 20 i).toNatClampNeg) (hs : ShA G (f 19 i) (f 20 i).toNatClampNeg (vp_updL (fun k => g 21 (40 * i + k)) j y) (ad (20 + i)) H1) (oq : ∀ q : Nat, q ≠ ad (20 + i) → H1[q]? = H[q]?) : DW G A f (up2L g 21 (40 * i + j) y) b hh hk ht ad H1 := by
  refine h.shset hi hz (fun k hk => congrFun sh_row k) (fun i' k hi' hne hk => ?_) hs oq
  obtain ⟨n, hn, e⟩ := hZ i hi
  obtain ⟨n', hn', e'⟩ := hZ i' hi'
  rw [e, nI_clamp (by omega)] at hj
  rw [e', nI_clamp (by omega)] at hk
  unfold up2L
  rw [if_neg (by omega)]
end SHD
theorem narP_64 {z : Int32} {y : Int64} (hz : bitsOk z) : narOk z (narP z y) := by
  rcases hz with rfl | rfl | rfl
  · refine Or.inr ?_
    rw [show narP 8 y = y.toInt32.toInt8.toInt32.toInt64 from if_pos rfl, t64_32]
  · refine Or.inr ?_
    rw [show narP 16 y = y.toInt32.toInt16.toInt32.toInt64 from (if_neg (by decide)).trans (if_pos rfl), t64_32]
  · exact Or.inl rfl
