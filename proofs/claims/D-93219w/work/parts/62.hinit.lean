/-! a house is made -/
set_option maxRecDepth 100000
def h0Fs : List Value := [.int 0, .int 0, .null, .null, .int 0, .int 0, .null, .null, .int 0, .int 0]
/-- the row of a new house -/
def iniR : Nat → Int32 := fun j => if j = 2 then 10 else if j = 6 then 5 else if j = 8 then 1 else 0
theorem iniR_Ok : OkN iniR 0 0 := by
  refine ⟨by decide, by decide, rfl, rfl, ⟨10, by decide, rfl⟩, ⟨0, by decide, rfl⟩, ⟨0, by decide, rfl⟩, by decide, ⟨5, by decide, rfl⟩, ⟨0, by decide, rfl⟩, fun g hg => absurd hg (Nat.not_lt_zero g)⟩
theorem at_extq {G : GD} {a n : Nat} {cA : ClassId} {f f' : Nat → Option Nat} (h : ∀ j, j < n → f' j = f j) (K : Heap) (hK : va_at G.1 vwCl (a, .inl (cA, n, .inr (.inr (.inr (.inr f))))) K) : va_at G.1 vwCl (a, .inl (cA, n, .inr (.inr (.inr (.inr f'))))) K := by
  have q2 : K[a]? = some (vp_cell _ _) := hK
  show K[a]? = some (vp_cell _ _)
  rw [q2, vp_cell_q, vp_cell_q]
  exact congrArg some (arrV_ext fun j hj => by rw [h j hj]).symm
set_option maxHeartbeats 4000000 in
theorem D_X1_init (l : Launch) {G : GD} {A : Nat → Prop} {H0 : Heap} {a : Nat} (hN : NG G) (hW : Wd G A (updC (fun _ => none) 0 (.inr (1, h0Fs))) (fun _ => a) H0) (hA : ∀ q, H0.size ≤ q → A q) (hg : G.2.2.heap.size ≤ H0.size) : MetW l G yX1_init cX1_init 1 none 3 24 58 A [.ref a] H0 none (fun H => ∃ ah : Nat → Nat, ah 0 = a ∧ HS G A 0 iniR ah (fun _ => 0) H) := by
  refine mx_of (by decide) (Nat.le_of_ble_eq_true rfl) ?_
  intro p e s m below meth c hx hb hr hc hlk hnm hs0 ls hl
  subst hs0
  have hown := hc.2.2.2.1
  have hts := hc.2.2.2.2.1
  have hK := hc.2.2.2.2.2
  have hl : lv_has ls 1 [(0, .ref a)] := hl
  have hS : va_S A s.heap s.heap [] := va_S.rf
  refine lv_aload_n hx hb dX1_init_0 rfl (lv_at hl 0 rfl) ?_
  refine a_oinit hc q102 hl.1 dX1_init_1 (Nat.le_of_ble_eq_true rfl) (Nat.le_of_ble_eq_true rfl) ?_
  refine lv_aload_n hx hb dX1_init_4 rfl (lv_at hl 0 rfl) ?_
  refine lv_bipush (v := 20) hx hb dX1_init_5 (by decide) ?_
  refine cn_W1 (rest := [.ref a]) (As := [.int (nI 20)]) hc (D_slots l hN 20 (by decide)) hN.2.2.1 q104 q67 q105 nd_X0_slots ⟨Nat.le_of_ble_eq_true rfl, Nat.le_of_ble_eq_true rfl⟩ rfl hl.1 rfl (Nat.le_of_ble_eq_true rfl) dX1_init_7 ⟨Nat.le_of_ble_eq_true rfl, Nat.le_of_ble_eq_true rfl⟩ hS hA (fun P0 locs hq hS hz hk => ?_)
  have hW := hW.addS hq hA (fun q hq => hk q hq (fun h => by have : s.heap.size ≤ q := h; omega)) hg
  obtain ⟨n0, hn0⟩ : ∃ n, n = s.heap.size := ⟨_, rfl⟩
  rw [← hn0] at hW hz hg ⊢
  have hsz : n0 ≤ P0.size := by omega
  refine g_put (q0 := 0) (rest := []) hc hW hS in_X1 tyX1 tyX1_ok nmX1 rfl rfl 2 (by decide) q125 rfl (Or.inr ⟨rfl, hnm, rfl⟩) rfl rfl rfl (Nat.le_of_ble_eq_true rfl) dX1_init_10 (fun P1 locs hW hS hz oq => ?_)
  have hsz : n0 ≤ P1.size := by omega
  refine lv_aload_n hx hb dX1_init_13 rfl (lv_at hl 0 rfl) ?_
  refine lv_bipush (v := 6) hx hb dX1_init_14 (by decide) ?_
  refine a_newI hc hS (N := 6) (by decide) (by decide) (by decide) (Nat.le_of_ble_eq_true rfl) (Nat.le_of_ble_eq_true rfl) dX1_init_16 (fun P2 hat hS hz o1 => ?_)
  have hW := hW.addU (q0 := 2) rfl hat (hA _ (by rw [hn0] at hsz; exact hsz)) o1 (by omega)
  generalize hx2 : P1.size = x2 at hW hz ⊢
  have hsz : n0 ≤ P2.size := by omega
  refine lv_dup hx hb dX1_init_18 rfl ?_
  refine lv_iconst (v := 0) hx hb dX1_init_19 (by decide) ?_
  refine lv_bipush (v := 10) hx hb dX1_init_20 (by decide) ?_
  refine s_iast (rest := [.ref x2, .ref a]) hx hb hK.1 0 (hW.at (r := 2) rfl) rfl (ix_eq (k := 0) rfl (by decide) (by decide)) dX1_init_22 (fun P3 e1 hz oq => ?_)
  have hS := hS.put (k := 0) hz oq (hW.mem (r := 2) rfl)
  have hW := hW.wrU (q0 := 2) rfl e1 oq
  have hsz : n0 ≤ P3.size := by omega
  refine lv_dup hx hb dX1_init_23 rfl ?_
  refine lv_iconst (v := 1) hx hb dX1_init_24 (by decide) ?_
  refine lv_iconst (v := 0) hx hb dX1_init_25 (by decide) ?_
  refine s_iast (rest := [.ref x2, .ref a]) hx hb hK.1 0 (hW.at (r := 2) rfl) rfl (ix_eq (k := 1) rfl (by decide) (by decide)) dX1_init_26 (fun P4 e1 hz oq => ?_)
  have hS := hS.put (k := 1) hz oq (hW.mem (r := 2) rfl)
  have hW := hW.wrU (q0 := 2) rfl e1 oq
  have hsz : n0 ≤ P4.size := by omega
  refine lv_dup hx hb dX1_init_27 rfl ?_
  refine lv_iconst (v := 2) hx hb dX1_init_28 (by decide) ?_
  refine lv_iconst (v := 0) hx hb dX1_init_29 (by decide) ?_
  refine s_iast (rest := [.ref x2, .ref a]) hx hb hK.1 0 (hW.at (r := 2) rfl) rfl (ix_eq (k := 2) rfl (by decide) (by decide)) dX1_init_30 (fun P5 e1 hz oq => ?_)
  have hS := hS.put (k := 2) hz oq (hW.mem (r := 2) rfl)
  have hW := hW.wrU (q0 := 2) rfl e1 oq
  have hsz : n0 ≤ P5.size := by omega
  refine lv_dup hx hb dX1_init_31 rfl ?_
  refine lv_iconst (v := 3) hx hb dX1_init_32 (by decide) ?_
  refine lv_iconst (v := 0) hx hb dX1_init_33 (by decide) ?_
  refine s_iast (rest := [.ref x2, .ref a]) hx hb hK.1 0 (hW.at (r := 2) rfl) rfl (ix_eq (k := 3) rfl (by decide) (by decide)) dX1_init_34 (fun P6 e1 hz oq => ?_)
  have hS := hS.put (k := 3) hz oq (hW.mem (r := 2) rfl)
  have hW := hW.wrU (q0 := 2) rfl e1 oq
  have hsz : n0 ≤ P6.size := by omega
  refine lv_dup hx hb dX1_init_35 rfl ?_
  refine lv_iconst (v := 4) hx hb dX1_init_36 (by decide) ?_
  refine lv_iconst (v := 5) hx hb dX1_init_37 (by decide) ?_
  refine s_iast (rest := [.ref x2, .ref a]) hx hb hK.1 0 (hW.at (r := 2) rfl) rfl (ix_eq (k := 4) rfl (by decide) (by decide)) dX1_init_38 (fun P7 e1 hz oq => ?_)
  have hS := hS.put (k := 4) hz oq (hW.mem (r := 2) rfl)
  have hW := hW.wrU (q0 := 2) rfl e1 oq
  have hsz : n0 ≤ P7.size := by omega
  refine lv_dup hx hb dX1_init_39 rfl ?_
  refine lv_iconst (v := 5) hx hb dX1_init_40 (by decide) ?_
  refine lv_iconst (v := 0) hx hb dX1_init_41 (by decide) ?_
  refine s_iast (rest := [.ref x2, .ref a]) hx hb hK.1 0 (hW.at (r := 2) rfl) rfl (ix_eq (k := 5) rfl (by decide) (by decide)) dX1_init_42 (fun P8 e1 hz oq => ?_)
  have hS := hS.put (k := 5) hz oq (hW.mem (r := 2) rfl)
  have hW := hW.wrU (q0 := 2) rfl e1 oq
  have hsz : n0 ≤ P8.size := by omega
  refine g_put (q0 := 0) (rest := []) hc hW hS in_X1 tyX1 tyX1_ok nmX1 rfl rfl 3 (by decide) q128 rfl (Or.inr ⟨rfl, hnm, rfl⟩) rfl rfl rfl (Nat.le_of_ble_eq_true rfl) dX1_init_43 (fun P9 locs hW hS hz oq => ?_)
  have hsz : n0 ≤ P9.size := by omega
  refine lv_aload_n hx hb dX1_init_46 rfl (lv_at hl 0 rfl) ?_
  refine lv_iconst (v := 1) hx hb dX1_init_47 (by decide) ?_
  refine g_put (q0 := 0) (rest := []) hc hW hS in_X1 tyX1 tyX1_ok nmX1 rfl rfl 4 (by decide) q131 rfl (Or.inl rfl) rfl rfl rfl (Nat.le_of_ble_eq_true rfl) dX1_init_48 (fun P10 locs hW hS hz oq => ?_)
  have hsz : n0 ≤ P10.size := by omega
  refine lv_aload_n hx hb dX1_init_51 rfl (lv_at hl 0 rfl) ?_
  refine lv_bipush (v := 6) hx hb dX1_init_52 (by decide) ?_
  refine a_newI hc hS (N := 6) (by decide) (by decide) (by decide) (Nat.le_of_ble_eq_true rfl) (Nat.le_of_ble_eq_true rfl) dX1_init_54 (fun P11 hat hS hz o1 => ?_)
  have hW := hW.addU (q0 := 3) rfl hat (hA _ (by rw [hn0] at hsz; exact hsz)) o1 (by omega)
  generalize hx3 : P10.size = x3 at hW hz ⊢
  have hsz : n0 ≤ P11.size := by omega
  refine g_put (q0 := 0) (rest := []) hc hW hS in_X1 tyX1 tyX1_ok nmX1 rfl rfl 6 (by decide) q134 rfl (Or.inr ⟨rfl, hnm, rfl⟩) rfl rfl rfl (Nat.le_of_ble_eq_true rfl) dX1_init_56 (fun P12 locs hW hS hz oq => ?_)
  have hsz : n0 ≤ P12.size := by omega
  refine lv_aload_n hx hb dX1_init_59 rfl (lv_at hl 0 rfl) ?_
  refine lv_bipush (v := 6) hx hb dX1_init_60 (by decide) ?_
  refine a_newI hc hS (N := 6) (by decide) (by decide) (by decide) (Nat.le_of_ble_eq_true rfl) (Nat.le_of_ble_eq_true rfl) dX1_init_62 (fun P13 hat hS hz o1 => ?_)
  have hW := hW.addU (q0 := 4) rfl hat (hA _ (by rw [hn0] at hsz; exact hsz)) o1 (by omega)
  generalize hx4 : P12.size = x4 at hW hz ⊢
  have hsz : n0 ≤ P13.size := by omega
  refine g_put (q0 := 0) (rest := []) hc hW hS in_X1 tyX1 tyX1_ok nmX1 rfl rfl 7 (by decide) q135 rfl (Or.inr ⟨rfl, hnm, rfl⟩) rfl rfl rfl (Nat.le_of_ble_eq_true rfl) dX1_init_64 (fun P14 locs hW hS hz oq => ?_)
  have hsz : n0 ≤ P14.size := by omega
  refine rv_W hx hb hr hlk hS ⟨updN (updN (updN (slA 20 n0 (fun _ => a)) 2 x2) 3 x3) 4 x4, rfl, fun _ _ => 0, fun _ => .null, HCok.of0 rfl, hW.cvA fun q e' he => ?_⟩ dX1_init_67
  have hs := hE_some (show hEnc G 0 iniR (fun _ _ => 0) (fun _ => .null) _ (fun _ => 0) q ≠ none by rw [he]; exact fun z => by cases z)
  refine ⟨if_pos (by omega), ?_⟩
  rcases hs with hs | hs | hs
  · rcases (show q = 0 ∨ q = 1 ∨ q = 2 ∨ q = 3 ∨ q = 4 by omega) with rfl | rfl | rfl | rfl | rfl
    · cases he
      exact ⟨_, rfl, fun K h => h⟩
    · cases he
      refine ⟨_, rfl, at_extq fun j hj => ?_⟩
      have h1 : ∀ k, k < 10 → 10 + j ≠ k := fun k hk => by omega
      simp only [updN, slA, if_neg (h1 2 (by decide)), if_neg (h1 3 (by decide)), if_neg (h1 4 (by decide)), if_neg (h1 1 (by decide)), if_pos hj, if_pos (show 10 ≤ 10 + j ∧ 10 + j < 10 + 20 by omega), Nat.add_sub_cancel_left]
    · cases he
      refine ⟨_, rfl, at_ext fun j hj => ?_⟩
      rcases (show j = 0 ∨ j = 1 ∨ j = 2 ∨ j = 3 ∨ j = 4 ∨ j = 5 by omega) with rfl | rfl | rfl | rfl | rfl | rfl <;> rfl
    · cases he
      exact ⟨_, rfl, fun K h => h⟩
    · cases he
      exact ⟨_, rfl, fun K h => h⟩
  · obtain ⟨i, rfl⟩ : ∃ i, q = 10 + i := ⟨q - 10, by omega⟩
    rw [hE_s (by omega)] at he
    cases he
    refine ⟨.inr (2, [.null]), ?_, fun K h => ?_⟩
    · have h1 : ∀ k, k < 10 → 10 + i ≠ k := fun k hk => by omega
      simp only [updC, slC, if_neg (h1 0 (by decide)), if_neg (h1 2 (by decide)), if_neg (h1 3 (by decide)), if_neg (h1 4 (by decide)), if_neg (h1 1 (by decide)), if_pos (show 10 ≤ 10 + i ∧ 10 + i < 10 + 20 by omega)]
    · rw [if_neg (Nat.not_lt_zero i)]
      exact h
  · omega
