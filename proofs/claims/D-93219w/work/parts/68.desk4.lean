/-! the desk, 4: widths, line, counts, of -/
set_option maxRecDepth 100000
theorem wd_a {s : Nat → Int32} {i n : Nat} {x : Int32} (h : ¬ leanP (upd s (gp i 3) (nI n)) i = x) : wdN s i x (n + 1) = wdN s i x n := by simp only [wdN, if_neg h]
theorem wd_b {s : Nat → Int32} {i n : Nat} {x : Int32} (h : leanP (upd s (gp i 3) (nI n)) i = x) (h2 : 0 ≤ (wdN s i x n).2.1) : wdN s i x (n + 1) = ((wdN s i x n).1 + 1, (wdN s i x n).2.1, nI n) := by simp only [wdN, if_pos h, if_pos h2]
theorem wd_c {s : Nat → Int32} {i n : Nat} {x : Int32} (h : leanP (upd s (gp i 3) (nI n)) i = x) (h2 : ¬ 0 ≤ (wdN s i x n).2.1) : wdN s i x (n + 1) = ((wdN s i x n).1 + 1, nI n, nI n) := by simp only [wdN, if_pos h, if_neg h2]
theorem nI_nn {n : Nat} (h : n < 2 ^ 31) : (0 : Int32) ≤ nI n := nI_le (a := 0) (Nat.zero_le n) h
theorem wd_inv {s : Nat → Int32} {i : Nat} {x : Int32} : ∀ n, n ≤ 100 → (∃ c, c ≤ n ∧ (wdN s i x n).1 = nI c ∧ (c = 0 → (wdN s i x n).2.1 = -1 ∧ (wdN s i x n).2.2 = -1) ∧ (0 < c → 0 ≤ (wdN s i x n).2.1 ∧ 0 ≤ (wdN s i x n).2.2))
  | 0, _ => ⟨0, Nat.le_refl _, rfl, fun _ => ⟨rfl, rfl⟩, fun h => absurd h (Nat.lt_irrefl 0)⟩
  | n + 1, hn => by
    obtain ⟨c, h1, h2, h3, h4⟩ := wd_inv (s := s) (i := i) (x := x) n (by omega)
    by_cases q : leanP (upd s (gp i 3) (nI n)) i = x
    · by_cases q2 : 0 ≤ (wdN s i x n).2.1
      · rw [wd_b q q2]
        exact ⟨c + 1, by omega, by show _ + 1 = _; rw [h2, nI_1], fun h => by omega, fun _ => ⟨q2, nI_nn (by omega)⟩⟩
      · rw [wd_c q q2]
        exact ⟨c + 1, by omega, by show _ + 1 = _; rw [h2, nI_1], fun h => by omega, fun _ => ⟨nI_nn (by omega), nI_nn (by omega)⟩⟩
    · rw [wd_a q]
      exact ⟨c, by omega, h2, h3, h4⟩
theorem wd_0 {s : Nat → Int32} {i : Nat} {x : Int32} (h : (wdN s i x 100).1 = 0) : (wdN s i x 100).2.1 = -1 ∧ (wdN s i x 100).2.2 = -1 := by
  obtain ⟨c, h1, h2, h3, -⟩ := wd_inv (s := s) (i := i) (x := x) 100 (Nat.le_refl _)
  refine h3 ?_
  have e := congrArg Int32.toNatClampNeg (h2.symm.trans h)
  rw [nI_clamp (by omega)] at e
  exact e
theorem wd_1 {s : Nat → Int32} {i : Nat} {x : Int32} (h : ¬ (wdN s i x 100).1 = 0) : 0 ≤ (wdN s i x 100).2.1 ∧ 0 ≤ (wdN s i x 100).2.2 := by
  obtain ⟨c, h1, h2, -, h4⟩ := wd_inv (s := s) (i := i) (x := x) 100 (Nat.le_refl _)
  refine h4 (Nat.pos_of_ne_zero fun e => h ?_)
  rw [h2, e]
  rfl
theorem ln_a {s : Nat → Int32} {k : Nat} (hk : k < 100) (h : smokesP (upd s 3 (nI k)) = true) : lnN s (100 - k) = nI k := by
  obtain ⟨n, hn⟩ : ∃ n, 100 - k = n + 1 := ⟨99 - k, by omega⟩
  rw [hn]
  have e : 99 - n = k := by omega
  simp only [lnN, e, if_pos h]
theorem ln_b {s : Nat → Int32} {k : Nat} (hk : k < 100) (h : ¬ smokesP (upd s 3 (nI k)) = true) : lnN s (100 - k) = lnN s (100 - (k + 1)) := by
  obtain ⟨n, hn⟩ : ∃ n, 100 - k = n + 1 := ⟨99 - k, by omega⟩
  rw [hn, show 100 - (k + 1) = n by omega]
  have e : 99 - n = k := by omega
  simp only [lnN, e, if_neg h]
theorem nd_X0_widths : yX0_widths.cls = "SmokeLeans" ∧ yX0_widths.cls ≠ "java/lang/invoke/MethodHandle" ∧ yX0_widths.cls ≠ "java/lang/invoke/VarHandle" ∧ (parseMethodDescriptor yX0_widths.desc).map (fun d => d.parameters.length) = some 3 := by decide +kernel
set_option maxHeartbeats 4000000 in
theorem O_widths (l : Launch) {G : GD} {A : Nat → Prop} {f : Nat → Nat → Int32} {g : Nat → Nat → Int64} {xo hk ht : Nat} {H0 : Heap} (hF : FG G) (hC : DC G A f g xo hk ht H0) (hAb : ∀ q, H0.size ≤ q → A q) (x y z : Int32) : MetH l G yX0_widths cX0_widths 10 (some .int) [((0), (173), (174), (1))] 9 100 1000 A [.ref xo, .int x, .int y, .int z] H0 (some (.int (widthsM f x y z).1)) (fun H => DC G A (widthsM f x y z).2 g xo hk ht H) := by
  refine mw_of (hh := [((0), (173), (174), (1))]) (by decide) (Nat.le_of_ble_eq_true rfl) ?_
  intro p e s m below meth c hx hb hr hc hlk hnm htab hs0 ls hl
  subst hs0
  have hown := hc.2.2.2.1
  have hts := hc.2.2.2.2.1
  have hK := hc.2.2.2.2.2
  obtain ⟨b, ad, ah, ga, N, R, rfl, hO, hDW, ⟨u, hv, hcok, hW⟩, hdj⟩ := hC
  have hl : lv_has ls 10 [(0, .ref (ad 0)), (1, .int x), (2, .int y), (3, .int z)] := hl
  have hS : va_S A s.heap s.heap [] := va_S.rf
  have hN20 := hO.2.1
  have hHA : ∀ q, HR N ah ga q → A q := fun q h => HR.mem hW h
  refine lv_aload_n hx hb dX0_widths_0 rfl (lv_at hl 0 rfl) ?_
  refine lv_iload_n hx hb dX0_widths_1 rfl (lv_at hl 1 rfl) ?_
  refine cv_R1 (rest := []) hc (D_isGap l hDW hW x) (lw_V q423 q425 qs3 q67 q426) nd_X0_isGap ⟨Nat.le_of_ble_eq_true rfl, Nat.le_of_ble_eq_true rfl⟩ (DW.recv hK hDW) rfl hl.1 rfl (Nat.le_of_ble_eq_true rfl) dX0_widths_2 ⟨Nat.le_of_ble_eq_true rfl, Nat.le_of_ble_eq_true rfl⟩ ?_
  refine bi_eq (tgt := 38) hx hb dX0_widths_5 (by decide) (fun c_506 => ?_) (fun c_506 => ?_)
  · refine lv_iconst (v := 0) hx hb dX0_widths_38 (by decide) ?_
    refine lv_iconst (v := 0) hx hb dX0_widths_39 (by decide) ?_
    refine cs_T (rest := []) hc (D_need_no l hF.1 hDW.2.1 hDW.gle (x := 0) rfl 0) q207 q208 q67 q209 nd_X0_need ⟨Nat.le_of_ble_eq_true rfl, Nat.le_of_ble_eq_true rfl⟩ rfl hl.1 rfl (Nat.le_of_ble_eq_true rfl) dX0_widths_40 ⟨Nat.le_of_ble_eq_true rfl, Nat.le_of_ble_eq_true rfl⟩ hS (fun q h => hAb q (Nat.le_trans hS.1 h)) (fun ex H locs hq hS hz hk1 => ?_)
    obtain ⟨hexn, hex, hsz⟩ := hq
    have hne : ex ≠ ad 3 := by have := hDW.lt (r := 3) (fun z => by cases z); omega
    have hDW := hDW.aftM hk1
    have hW := hW.aftM hk1
    refine ct_find (pre := []) (post := []) (y := ⟨0, 173, 174, 1⟩) hc htab (by decide) (by decide) rfl hex ?_
    refine lv_astore (lv' := [(4, .ref ex), (0, .ref (ad 0)), (1, .int x), (2, .int y), (3, .int z)]) hx hb dX0_widths_174 hl (by decide) rfl (fun ls hl => ?_)
    refine lv_aload_n hx hb dX0_widths_176 rfl (lv_at hl 1 rfl) ?_
    refine lv_aload hx hb dX0_widths_177 (lv_at hl 0 rfl) ?_
    refine cv_W1 (rest := []) hc (D_X0finds l hDW hex hne (k := 0) rfl (by decide)) (lw_V q277 q279 qs1 q67 q280) nd_X0_finds ⟨Nat.le_of_ble_eq_true rfl, Nat.le_of_ble_eq_true rfl⟩ (DW.recv hK hDW) rfl hl.1 rfl (Nat.le_of_ble_eq_true rfl) dX0_widths_179 ⟨Nat.le_of_ble_eq_true rfl, Nat.le_of_ble_eq_true rfl⟩ hS (fun _ h => h) (fun H locs hq hS hz hk1 => ?_)
    obtain ⟨hDW, hf3⟩ := hq
    have hW := hW.aftD (hdj 3 (Or.inl (by decide))) (hDW.1 _ (hDW.mem (r := 3) rfl)) hf3
    have hsp_507 : widthsM f x y z = (-1000000001, cntP f 0) := by unfold widthsM; rw [if_neg c_506]
    refine w_more (cells' := 100) (slots' := 1000) (Nat.le_of_ble_eq_true rfl) (Nat.le_of_ble_eq_true rfl) ?_
    exact ri_W hx hb hr hlk hS (by rw [hsp_507]; show (-1000000001 - 0 : Int32) = -1000000001; decide) (by rw [hsp_507]; exact DC.mk' rfl hO hDW hcok hW hdj) dX0_widths_182
  · refine lv_iload_n hx hb dX0_widths_8 rfl (lv_at hl 2 rfl) ?_
    refine lv_i2l hx hb dX0_widths_9 rfl ?_
    refine lv_ldc2 (v := (-9)) hx hb hown (hts _ q857) dX0_widths_10 (sm_topl (v := (-9 : Int32).toInt64) (by decide) ?_)
    refine lv_ldc2 (v := 9) hx hb hown (hts _ q427) dX0_widths_13 (sm_topl (v := (9 : Int32).toInt64) (by decide) ?_)
    refine cs_R1 (rest := []) hc (D_in32 l y (-9) 9) (lw_S q294 q295 q67 q296) nd_X0_in ⟨Nat.le_of_ble_eq_true rfl, Nat.le_of_ble_eq_true rfl⟩ rfl hl.1 rfl (Nat.le_of_ble_eq_true rfl) dX0_widths_16 ⟨Nat.le_of_ble_eq_true rfl, Nat.le_of_ble_eq_true rfl⟩ ?_
    refine bi_eq (tgt := 38) hx hb dX0_widths_19 (by decide) (fun c_508 => ?_) (fun c_508 => ?_)
    · refine lv_iconst (v := 0) hx hb dX0_widths_38 (by decide) ?_
      refine lv_iconst (v := 0) hx hb dX0_widths_39 (by decide) ?_
      refine cs_T (rest := []) hc (D_need_no l hF.1 hDW.2.1 hDW.gle (x := 0) rfl 0) q207 q208 q67 q209 nd_X0_need ⟨Nat.le_of_ble_eq_true rfl, Nat.le_of_ble_eq_true rfl⟩ rfl hl.1 rfl (Nat.le_of_ble_eq_true rfl) dX0_widths_40 ⟨Nat.le_of_ble_eq_true rfl, Nat.le_of_ble_eq_true rfl⟩ hS (fun q h => hAb q (Nat.le_trans hS.1 h)) (fun ex H locs hq hS hz hk1 => ?_)
      obtain ⟨hexn, hex, hsz⟩ := hq
      have hne : ex ≠ ad 3 := by have := hDW.lt (r := 3) (fun z => by cases z); omega
      have hDW := hDW.aftM hk1
      have hW := hW.aftM hk1
      refine ct_find (pre := []) (post := []) (y := ⟨0, 173, 174, 1⟩) hc htab (by decide) (by decide) rfl hex ?_
      refine lv_astore (lv' := [(4, .ref ex), (0, .ref (ad 0)), (1, .int x), (2, .int y), (3, .int z)]) hx hb dX0_widths_174 hl (by decide) rfl (fun ls hl => ?_)
      refine lv_aload_n hx hb dX0_widths_176 rfl (lv_at hl 1 rfl) ?_
      refine lv_aload hx hb dX0_widths_177 (lv_at hl 0 rfl) ?_
      refine cv_W1 (rest := []) hc (D_X0finds l hDW hex hne (k := 0) rfl (by decide)) (lw_V q277 q279 qs1 q67 q280) nd_X0_finds ⟨Nat.le_of_ble_eq_true rfl, Nat.le_of_ble_eq_true rfl⟩ (DW.recv hK hDW) rfl hl.1 rfl (Nat.le_of_ble_eq_true rfl) dX0_widths_179 ⟨Nat.le_of_ble_eq_true rfl, Nat.le_of_ble_eq_true rfl⟩ hS (fun _ h => h) (fun H locs hq hS hz hk1 => ?_)
      obtain ⟨hDW, hf3⟩ := hq
      have hW := hW.aftD (hdj 3 (Or.inl (by decide))) (hDW.1 _ (hDW.mem (r := 3) rfl)) hf3
      have hsp_509 : widthsM f x y z = (-1000000001, cntP f 0) := by unfold widthsM; rw [if_pos c_506, if_neg c_508]
      refine w_more (cells' := 100) (slots' := 1000) (Nat.le_of_ble_eq_true rfl) (Nat.le_of_ble_eq_true rfl) ?_
      exact ri_W hx hb hr hlk hS (by rw [hsp_509]; show (-1000000001 - 0 : Int32) = -1000000001; decide) (by rw [hsp_509]; exact DC.mk' rfl hO hDW hcok hW hdj) dX0_widths_182
    · refine lv_iload_n hx hb dX0_widths_22 rfl (lv_at hl 3 rfl) ?_
      refine lv_i2l hx hb dX0_widths_23 rfl ?_
      refine lv_lconst (v := (0 : Int32).toInt64) hx hb dX0_widths_24 (by decide) ?_
      refine lv_ldc2 (v := 2) hx hb hown (hts _ q858) dX0_widths_25 (sm_topl (v := (2 : Int32).toInt64) (by decide) ?_)
      refine cs_R1 (rest := []) hc (D_in32 l z 0 2) (lw_S q294 q295 q67 q296) nd_X0_in ⟨Nat.le_of_ble_eq_true rfl, Nat.le_of_ble_eq_true rfl⟩ rfl hl.1 rfl (Nat.le_of_ble_eq_true rfl) dX0_widths_28 ⟨Nat.le_of_ble_eq_true rfl, Nat.le_of_ble_eq_true rfl⟩ ?_
      refine bi_eq (tgt := 38) hx hb dX0_widths_31 (by decide) (fun c_510 => ?_) (fun c_510 => ?_)
      · refine lv_iconst (v := 0) hx hb dX0_widths_38 (by decide) ?_
        refine lv_iconst (v := 0) hx hb dX0_widths_39 (by decide) ?_
        refine cs_T (rest := []) hc (D_need_no l hF.1 hDW.2.1 hDW.gle (x := 0) rfl 0) q207 q208 q67 q209 nd_X0_need ⟨Nat.le_of_ble_eq_true rfl, Nat.le_of_ble_eq_true rfl⟩ rfl hl.1 rfl (Nat.le_of_ble_eq_true rfl) dX0_widths_40 ⟨Nat.le_of_ble_eq_true rfl, Nat.le_of_ble_eq_true rfl⟩ hS (fun q h => hAb q (Nat.le_trans hS.1 h)) (fun ex H locs hq hS hz hk1 => ?_)
        obtain ⟨hexn, hex, hsz⟩ := hq
        have hne : ex ≠ ad 3 := by have := hDW.lt (r := 3) (fun z => by cases z); omega
        have hDW := hDW.aftM hk1
        have hW := hW.aftM hk1
        refine ct_find (pre := []) (post := []) (y := ⟨0, 173, 174, 1⟩) hc htab (by decide) (by decide) rfl hex ?_
        refine lv_astore (lv' := [(4, .ref ex), (0, .ref (ad 0)), (1, .int x), (2, .int y), (3, .int z)]) hx hb dX0_widths_174 hl (by decide) rfl (fun ls hl => ?_)
        refine lv_aload_n hx hb dX0_widths_176 rfl (lv_at hl 1 rfl) ?_
        refine lv_aload hx hb dX0_widths_177 (lv_at hl 0 rfl) ?_
        refine cv_W1 (rest := []) hc (D_X0finds l hDW hex hne (k := 0) rfl (by decide)) (lw_V q277 q279 qs1 q67 q280) nd_X0_finds ⟨Nat.le_of_ble_eq_true rfl, Nat.le_of_ble_eq_true rfl⟩ (DW.recv hK hDW) rfl hl.1 rfl (Nat.le_of_ble_eq_true rfl) dX0_widths_179 ⟨Nat.le_of_ble_eq_true rfl, Nat.le_of_ble_eq_true rfl⟩ hS (fun _ h => h) (fun H locs hq hS hz hk1 => ?_)
        obtain ⟨hDW, hf3⟩ := hq
        have hW := hW.aftD (hdj 3 (Or.inl (by decide))) (hDW.1 _ (hDW.mem (r := 3) rfl)) hf3
        have hsp_511 : widthsM f x y z = (-1000000001, cntP f 0) := by unfold widthsM; rw [if_pos c_506, if_pos c_508, if_neg c_510]
        refine w_more (cells' := 100) (slots' := 1000) (Nat.le_of_ble_eq_true rfl) (Nat.le_of_ble_eq_true rfl) ?_
        exact ri_W hx hb hr hlk hS (by rw [hsp_511]; show (-1000000001 - 0 : Int32) = -1000000001; decide) (by rw [hsp_511]; exact DC.mk' rfl hO hDW hcok hW hdj) dX0_widths_182
      · refine lv_iconst (v := 1) hx hb dX0_widths_34 (by decide) ?_
        refine lv_goto (tgt := 39) hx hb dX0_widths_35 (by decide) ?_
        refine lv_iconst (v := 0) hx hb dX0_widths_39 (by decide) ?_
        refine cs_R0 (rest := []) hc (D_need_ok l (by decide) 0) (lw_S q207 q208 q67 q209) nd_X0_need ⟨Nat.le_of_ble_eq_true rfl, Nat.le_of_ble_eq_true rfl⟩ rfl hl.1 rfl (Nat.le_of_ble_eq_true rfl) dX0_widths_40 ⟨Nat.le_of_ble_eq_true rfl, Nat.le_of_ble_eq_true rfl⟩ ?_
        obtain ⟨i, hi, rfl⟩ := hO.exGap c_506
        have hcl_i : (nI i).toNatClampNeg = i := nI_clamp (by omega)
        refine lv_aload_n hx hb dX0_widths_43 rfl (lv_at hl 0 rfl) ?_
        refine d_get hc hDW 0 (by decide) q161 rfl rfl dX0_widths_44 ?_
        refine lv_iload_n hx hb dX0_widths_47 rfl (lv_at hl 1 rfl) ?_
        refine cv_R1 (rest := []) hc (D_hgap l hF hW hO i hi) (lw_V q428 q429 q430 q68 q431) nd_X1_gap ⟨Nat.le_of_ble_eq_true rfl, Nat.le_of_ble_eq_true rfl⟩ (HW.recv hK hW) rfl hl.1 rfl (Nat.le_of_ble_eq_true rfl) dX0_widths_48 ⟨Nat.le_of_ble_eq_true rfl, Nat.le_of_ble_eq_true rfl⟩ ?_
        refine lv_astore (lv' := [(4, .ref (ga i)), (0, .ref (ad 0)), (1, .int (nI i)), (2, .int y), (3, .int z)]) hx hb dX0_widths_51 hl (by decide) rfl (fun ls hl => ?_)
        refine lv_aload hx hb dX0_widths_53 (lv_at hl 0 rfl) ?_
        refine gv_get hc (hO.gap hi).kd.1 (hW.gp hi) 2 (by decide) q320 rfl dX0_widths_55 ?_
        refine lv_istore (lv' := [(5, .int ((f 0) (gp i 3))), (4, .ref (ga i)), (0, .ref (ad 0)), (1, .int (nI i)), (2, .int y), (3, .int z)]) hx hb dX0_widths_58 hl (by decide) rfl (fun ls hl => ?_)
        refine lv_iconst (v := 0) hx hb dX0_widths_60 (by decide) ?_
        refine lv_istore (lv' := [(6, .int 0), (5, .int ((f 0) (gp i 3))), (4, .ref (ga i)), (0, .ref (ad 0)), (1, .int (nI i)), (2, .int y), (3, .int z)]) hx hb dX0_widths_61 hl (by decide) rfl (fun ls hl => ?_)
        refine lv_iconst (v := (-1)) hx hb dX0_widths_63 (by decide) ?_
        refine lv_istore (lv' := [(7, .int (-1)), (6, .int 0), (5, .int ((f 0) (gp i 3))), (4, .ref (ga i)), (0, .ref (ad 0)), (1, .int (nI i)), (2, .int y), (3, .int z)]) hx hb dX0_widths_64 hl (by decide) rfl (fun ls hl => ?_)
        refine lv_iconst (v := (-1)) hx hb dX0_widths_66 (by decide) ?_
        refine lv_istore (lv' := [(8, .int (-1)), (7, .int (-1)), (6, .int 0), (5, .int ((f 0) (gp i 3))), (4, .ref (ga i)), (0, .ref (ad 0)), (1, .int (nI i)), (2, .int y), (3, .int z)]) hx hb dX0_widths_67 hl (by decide) rfl (fun ls hl => ?_)
        refine lv_iconst (v := 0) hx hb dX0_widths_69 (by decide) ?_
        refine lv_istore (lv' := [(9, .int 0), (8, .int (-1)), (7, .int (-1)), (6, .int 0), (5, .int ((f 0) (gp i 3))), (4, .ref (ga i)), (0, .ref (ad 0)), (1, .int (nI i)), (2, .int y), (3, .int z)]) hx hb dX0_widths_70 hl (by decide) rfl (fun ls hl => ?_)
        have hW : HW G A N (upd (f 0) (gp i 3) (f 0 (gp i 3))) u hv ah ga s.heap := by rw [upd_self]; exact hW
        have hcok : HCok (upd (f 0) (gp i 3) (f 0 (gp i 3))) u := by rw [upd_self]; exact hcok
        have hOv : OkN (upd (f 0) (gp i 3) (f 0 (gp i 3))) R N := by rw [upd_self]; exact hO
        refine w_loopH (σ := Nat) (fun k H locs cells slots fr => cells = 0 ∧ slots = 0 ∧ (∃ ls, fr = F0 m 72 ls [] ∧ lv_has ls 10 [(9, .int (nI k)), (8, .int ((wdN (f 0) i y k).2.2)), (7, .int ((wdN (f 0) i y k).2.1)), (6, .int ((wdN (f 0) i y k).1)), (5, .int (f 0 (gp i 3))), (4, .ref (ga i)), (0, .ref (ad 0)), (1, .int (nI i)), (2, .int y), (3, .int z)]) ∧ va_S A s.heap H locs ∧ (k ≤ 100 ∧ ∃ vv u hv, OkN (upd (f 0) (gp i 3) vv) R N ∧ HCok (upd (f 0) (gp i 3) vv) u ∧ HW G A N (upd (f 0) (gp i 3) vv) u hv ah ga H ∧ DW G A f g (b) (ah 0) hk ht ad H)) (fun k => 100 - k) 0 ⟨rfl, rfl, ⟨ls, rfl, lv_sub hl [0, 1, 2, 3, 4, 5, 6, 7, 8, 9] rfl⟩, hS, ⟨Nat.zero_le _, _, u, hv, hOv, hcok, hW, hDW⟩⟩ ?_
        intro k H locs cells slots fr hI ih
        obtain ⟨rfl, rfl, ⟨ls, rfl, hl⟩, hS, ⟨hk100, vv, u, hv, hOv, hcok, hW, hDW⟩⟩ := hI
        by_cases hk : k < 100
        · refine lv_iload hx hb dX0_widths_72 (lv_at hl 0 rfl) ?_
          refine lv_bipush (v := 99) hx hb dX0_widths_74 (by decide) ?_
          refine lv_icmp_gt (tgt := 135) hx hb dX0_widths_76 (by decide) (fun h => absurd h (Int32.not_lt.mpr (nI_le (b := 99) (by omega) (by decide)))) (fun _ => ?_)
          refine lv_aload hx hb dX0_widths_79 (lv_at hl 5 rfl) ?_
          refine lv_iload hx hb dX0_widths_81 (lv_at hl 0 rfl) ?_
          refine h_gput hc hW hS hi (hOv.gap hi).kd.1 2 3 (by decide) (by decide) gfs_2 q320 rfl rfl rfl rfl dX0_widths_83 (fun H locs hW hS hz oq => ?_)
          rw [upd_upd] at hW
          have hO3 : OkN (upd (f 0) (gp i 3) (nI k)) R N := OkN_width hO (by omega)
          have hDW := hDW.aftH hdj hHA (HR.g hi) oq
          refine lv_aload_n hx hb dX0_widths_86 rfl (lv_at hl 6 rfl) ?_
          refine d_get hc hDW 0 (by decide) q161 rfl rfl dX0_widths_87 ?_
          refine cv_W0 (rest := []) hc (D_changes l hF hW.toR hO3) (lw_V q273 q274 q275 q68 q276) nd_X1_changes ⟨Nat.le_of_ble_eq_true rfl, Nat.le_of_ble_eq_true rfl⟩ (HW.recv hK hW) rfl hl.1 rfl (Nat.le_of_ble_eq_true rfl) dX0_widths_90 ⟨Nat.le_of_ble_eq_true rfl, Nat.le_of_ble_eq_true rfl⟩ hS hHA (fun H locs hq hS hz hk1 => ?_)
          have hDW := hDW.aftC hdj hHA hk1
          obtain ⟨u, hv, hcok, hW⟩ := HS.ofR (HS.ch hq) hW.1 hHA
          refine lv_aload_n hx hb dX0_widths_93 rfl (lv_at hl 6 rfl) ?_
          refine d_get hc hDW 0 (by decide) q161 rfl rfl dX0_widths_94 ?_
          refine lv_iload_n hx hb dX0_widths_97 rfl (lv_at hl 7 rfl) ?_
          refine cv_W1 (rest := []) hc (D_lean l hF (HS.toR ⟨u, hv, hcok, hW⟩) hO3 i hi) (lw_V q765 q766 q767 q68 q768) nd_X1_lean ⟨Nat.le_of_ble_eq_true rfl, Nat.le_of_ble_eq_true rfl⟩ (HW.recv hK hW) rfl hl.1 rfl (Nat.le_of_ble_eq_true rfl) dX0_widths_98 ⟨Nat.le_of_ble_eq_true rfl, Nat.le_of_ble_eq_true rfl⟩ hS hHA (fun H locs hq hS hz hk1 => ?_)
          have hDW := hDW.aftC hdj hHA hk1
          obtain ⟨u, hv, hcok, hW⟩ := HS.ofR hq hW.1 hHA
          refine lv_iload_n hx hb dX0_widths_101 rfl (lv_at hl 8 rfl) ?_
          refine lv_icmp_eq (tgt := 108) hx hb dX0_widths_102 (by decide) (fun c_512 => ?_) (fun c_512 => ?_)
          · refine lv_iinc (v := ((wdN (f 0) i y k).1) + 1) (lv' := [(6, .int (((wdN (f 0) i y k).1) + 1)), (9, .int (nI k)), (8, .int ((wdN (f 0) i y k).2.2)), (7, .int ((wdN (f 0) i y k).2.1)), (5, .int (f 0 (gp i 3))), (4, .ref (ga i)), (0, .ref (ad 0)), (1, .int (nI i)), (2, .int y), (3, .int z)]) hx hb dX0_widths_108 hl (k := 3) rfl rfl (by decide) rfl (fun ls hl => ?_)
            refine lv_iload hx hb dX0_widths_111 (lv_at hl 3 rfl) ?_
            refine lv_if_ge (tgt := 121) hx hb dX0_widths_113 (by decide) (fun c_513 => ?_) (fun c_513 => ?_)
            · refine lv_iload hx hb dX0_widths_121 (lv_at hl 3 rfl) ?_
              refine lv_istore (lv' := [(7, .int ((wdN (f 0) i y k).2.1)), (6, .int (((wdN (f 0) i y k).1) + 1)), (9, .int (nI k)), (8, .int ((wdN (f 0) i y k).2.2)), (5, .int (f 0 (gp i 3))), (4, .ref (ga i)), (0, .ref (ad 0)), (1, .int (nI i)), (2, .int y), (3, .int z)]) hx hb dX0_widths_123 hl (by decide) rfl (fun ls hl => ?_)
              refine lv_iload hx hb dX0_widths_125 (lv_at hl 2 rfl) ?_
              refine lv_istore (lv' := [(8, .int (nI k)), (7, .int ((wdN (f 0) i y k).2.1)), (6, .int (((wdN (f 0) i y k).1) + 1)), (9, .int (nI k)), (5, .int (f 0 (gp i 3))), (4, .ref (ga i)), (0, .ref (ad 0)), (1, .int (nI i)), (2, .int y), (3, .int z)]) hx hb dX0_widths_127 hl (by decide) rfl (fun ls hl => ?_)
              refine lv_iinc (v := nI (k + 1)) (lv' := [(9, .int (nI (k + 1))), (8, .int (nI k)), (7, .int ((wdN (f 0) i y k).2.1)), (6, .int (((wdN (f 0) i y k).1) + 1)), (5, .int (f 0 (gp i 3))), (4, .ref (ga i)), (0, .ref (ad 0)), (1, .int (nI i)), (2, .int y), (3, .int z)]) hx hb dX0_widths_129 hl (k := 3) rfl (nI_1 _) (by decide) rfl (fun ls hl => ?_)
              refine lv_goto (tgt := 72) hx hb dX0_widths_132 (by decide) ?_
              refine ih (k + 1) _ _ _ _ _ ⟨rfl, rfl, ⟨ls, rfl, ?_⟩, hS, hk, _, u, hv, hO3, hcok, hW, hDW⟩ (by omega)
              rw [wd_b c_512 c_513]
              exact lv_sub hl [0, 1, 2, 3, 4, 5, 6, 7, 8, 9] rfl
            · refine lv_iload hx hb dX0_widths_116 (lv_at hl 1 rfl) ?_
              refine lv_goto (tgt := 123) hx hb dX0_widths_118 (by decide) ?_
              refine lv_istore (lv' := [(7, .int (nI k)), (6, .int (((wdN (f 0) i y k).1) + 1)), (9, .int (nI k)), (8, .int ((wdN (f 0) i y k).2.2)), (5, .int (f 0 (gp i 3))), (4, .ref (ga i)), (0, .ref (ad 0)), (1, .int (nI i)), (2, .int y), (3, .int z)]) hx hb dX0_widths_123 hl (by decide) rfl (fun ls hl => ?_)
              refine lv_iload hx hb dX0_widths_125 (lv_at hl 2 rfl) ?_
              refine lv_istore (lv' := [(8, .int (nI k)), (7, .int (nI k)), (6, .int (((wdN (f 0) i y k).1) + 1)), (9, .int (nI k)), (5, .int (f 0 (gp i 3))), (4, .ref (ga i)), (0, .ref (ad 0)), (1, .int (nI i)), (2, .int y), (3, .int z)]) hx hb dX0_widths_127 hl (by decide) rfl (fun ls hl => ?_)
              refine lv_iinc (v := nI (k + 1)) (lv' := [(9, .int (nI (k + 1))), (8, .int (nI k)), (7, .int (nI k)), (6, .int (((wdN (f 0) i y k).1) + 1)), (5, .int (f 0 (gp i 3))), (4, .ref (ga i)), (0, .ref (ad 0)), (1, .int (nI i)), (2, .int y), (3, .int z)]) hx hb dX0_widths_129 hl (k := 3) rfl (nI_1 _) (by decide) rfl (fun ls hl => ?_)
              refine lv_goto (tgt := 72) hx hb dX0_widths_132 (by decide) ?_
              refine ih (k + 1) _ _ _ _ _ ⟨rfl, rfl, ⟨ls, rfl, ?_⟩, hS, hk, _, u, hv, hO3, hcok, hW, hDW⟩ (by omega)
              rw [wd_c c_512 c_513]
              exact lv_sub hl [0, 1, 2, 3, 4, 5, 6, 7, 8, 9] rfl
          · refine lv_goto (tgt := 129) hx hb dX0_widths_105 (by decide) ?_
            refine lv_iinc (v := nI (k + 1)) (lv' := [(9, .int (nI (k + 1))), (8, .int ((wdN (f 0) i y k).2.2)), (7, .int ((wdN (f 0) i y k).2.1)), (6, .int ((wdN (f 0) i y k).1)), (5, .int (f 0 (gp i 3))), (4, .ref (ga i)), (0, .ref (ad 0)), (1, .int (nI i)), (2, .int y), (3, .int z)]) hx hb dX0_widths_129 hl (k := 0) rfl (nI_1 _) (by decide) rfl (fun ls hl => ?_)
            refine lv_goto (tgt := 72) hx hb dX0_widths_132 (by decide) ?_
            refine ih (k + 1) _ _ _ _ _ ⟨rfl, rfl, ⟨ls, rfl, ?_⟩, hS, hk, _, u, hv, hO3, hcok, hW, hDW⟩ (by omega)
            rw [wd_a c_512]
            exact lv_sub hl [0, 1, 2, 3, 4, 5, 6, 7, 8, 9] rfl
        · have hkE : 100 = k := by omega
          subst hkE
          refine lv_iload hx hb dX0_widths_72 (lv_at hl 0 rfl) ?_
          refine lv_bipush (v := 99) hx hb dX0_widths_74 (by decide) ?_
          refine lv_icmp_gt (tgt := 135) hx hb dX0_widths_76 (by decide) (fun _ => ?_) (fun h => absurd (by decide) h)
          refine lv_aload hx hb dX0_widths_135 (lv_at hl 5 rfl) ?_
          refine lv_iload hx hb dX0_widths_137 (lv_at hl 4 rfl) ?_
          refine h_gput hc hW hS hi (hOv.gap hi).kd.1 2 3 (by decide) (by decide) gfs_2 q320 rfl rfl rfl rfl dX0_widths_139 (fun H locs hW hS hz oq => ?_)
          rw [upd_upd, upd_self] at hW
          have hDW := hDW.aftH hdj hHA (HR.g hi) oq
          refine lv_aload_n hx hb dX0_widths_142 rfl (lv_at hl 6 rfl) ?_
          refine d_get hc hDW 0 (by decide) q161 rfl rfl dX0_widths_143 ?_
          refine cv_W0 (rest := []) hc (D_changes l hF hW.toR hO) (lw_V q273 q274 q275 q68 q276) nd_X1_changes ⟨Nat.le_of_ble_eq_true rfl, Nat.le_of_ble_eq_true rfl⟩ (HW.recv hK hW) rfl hl.1 rfl (Nat.le_of_ble_eq_true rfl) dX0_widths_146 ⟨Nat.le_of_ble_eq_true rfl, Nat.le_of_ble_eq_true rfl⟩ hS hHA (fun H locs hq hS hz hk1 => ?_)
          have hDW := hDW.aftC hdj hHA hk1
          obtain ⟨u, hv, hcok, hW⟩ := HS.ofR (HS.ch hq) hW.1 hHA
          refine lv_iload_n hx hb dX0_widths_149 rfl (lv_at hl 9 rfl) ?_
          refine lv_if_ne (tgt := 158) hx hb dX0_widths_150 (by decide) (fun c_514 => ?_) (fun c_514 => ?_)
          · refine lv_iload_n hx hb dX0_widths_158 rfl (lv_at hl 9 rfl) ?_
            refine lv_iconst (v := 1) hx hb dX0_widths_159 (by decide) ?_
            refine lv_icmp_ne (tgt := 168) hx hb dX0_widths_160 (by decide) (fun c_515 => ?_) (fun c_515 => ?_)
            · refine lv_iload hx hb dX0_widths_168 (lv_at hl 1 rfl) ?_
              by_cases c_516 : ((wdN (f 0) i y 100).2.2) < 0
              · refine cs_T (rest := []) hc (D_orNone_no l hF.1 hDW.2.1 hDW.gle c_516) q859 q860 q67 q861 nd_X0_orNone ⟨Nat.le_of_ble_eq_true rfl, Nat.le_of_ble_eq_true rfl⟩ rfl hl.1 rfl (Nat.le_of_ble_eq_true rfl) dX0_widths_170 ⟨Nat.le_of_ble_eq_true rfl, Nat.le_of_ble_eq_true rfl⟩ hS (fun q h => hAb q (Nat.le_trans hS.1 h)) (fun ex H locs hq hS hz hk1 => ?_)
                obtain ⟨hexn, hex, hsz⟩ := hq
                have hne : ex ≠ ad 3 := by have := hDW.lt (r := 3) (fun z => by cases z); omega
                have hDW := hDW.aftM hk1
                have hW := hW.aftM hk1
                refine ct_find (pre := []) (post := []) (y := ⟨0, 173, 174, 1⟩) hc htab (by decide) (by decide) rfl hex ?_
                refine lv_astore (lv' := [(4, .ref ex), (9, .int (nI 100)), (8, .int ((wdN (f 0) i y 100).2.2)), (7, .int ((wdN (f 0) i y 100).2.1)), (6, .int ((wdN (f 0) i y 100).1)), (5, .int (f 0 (gp i 3))), (0, .ref (ad 0)), (1, .int (nI i)), (2, .int y), (3, .int z)]) hx hb dX0_widths_174 hl (by decide) rfl (fun ls hl => ?_)
                refine lv_aload_n hx hb dX0_widths_176 rfl (lv_at hl 6 rfl) ?_
                refine lv_aload hx hb dX0_widths_177 (lv_at hl 0 rfl) ?_
                refine cv_W1 (rest := []) hc (D_X0finds l hDW hex hne (k := 3) rfl (by decide)) (lw_V q277 q279 qs1 q67 q280) nd_X0_finds ⟨Nat.le_of_ble_eq_true rfl, Nat.le_of_ble_eq_true rfl⟩ (DW.recv hK hDW) rfl hl.1 rfl (Nat.le_of_ble_eq_true rfl) dX0_widths_179 ⟨Nat.le_of_ble_eq_true rfl, Nat.le_of_ble_eq_true rfl⟩ hS (fun _ h => h) (fun H locs hq hS hz hk1 => ?_)
                obtain ⟨hDW, hf3⟩ := hq
                have hW := hW.aftD (hdj 3 (Or.inl (by decide))) (hDW.1 _ (hDW.mem (r := 3) rfl)) hf3
                have hsp_517 : widthsM f (nI i) y z = (-1000000004, cntP f 3) := by unfold widthsM; rw [if_pos c_506, if_pos c_508, if_pos c_510, hcl_i, if_neg c_514, if_pos (Classical.byContradiction fun q => absurd c_516 (Int32.not_lt.mpr (wd_1 q).2))]
                refine w_more (cells' := 100) (slots' := 1000) (Nat.le_of_ble_eq_true rfl) (Nat.le_of_ble_eq_true rfl) ?_
                exact ri_W hx hb hr hlk hS (by rw [hsp_517]; show (-1000000001 - 3 : Int32) = -1000000004; decide) (by rw [hsp_517]; exact DC.mk' rfl hO hDW hcok hW hdj) dX0_widths_182
              · refine cs_R1 (rest := []) hc (D_orNone_ok l c_516) (lw_S q859 q860 q67 q861) nd_X0_orNone ⟨Nat.le_of_ble_eq_true rfl, Nat.le_of_ble_eq_true rfl⟩ rfl hl.1 rfl (Nat.le_of_ble_eq_true rfl) dX0_widths_170 ⟨Nat.le_of_ble_eq_true rfl, Nat.le_of_ble_eq_true rfl⟩ ?_
                have hsp_518 : widthsM f (nI i) y z = ((wdN (f 0) i y 100).2.2, f) := by unfold widthsM; rw [if_pos c_506, if_pos c_508, if_pos c_510, hcl_i, if_neg c_514, if_neg (fun q => c_516 (by rw [(wd_0 q).2]; decide)), if_neg c_515]
                refine w_more (cells' := 100) (slots' := 1000) (Nat.le_of_ble_eq_true rfl) (Nat.le_of_ble_eq_true rfl) ?_
                exact ri_W hx hb hr hlk hS (by rw [hsp_518]) (by rw [hsp_518]; exact DC.mk' rfl hO hDW hcok hW hdj) dX0_widths_173
            · refine lv_iload hx hb dX0_widths_163 (lv_at hl 2 rfl) ?_
              refine lv_goto (tgt := 170) hx hb dX0_widths_165 (by decide) ?_
              by_cases c_519 : ((wdN (f 0) i y 100).2.1) < 0
              · refine cs_T (rest := []) hc (D_orNone_no l hF.1 hDW.2.1 hDW.gle c_519) q859 q860 q67 q861 nd_X0_orNone ⟨Nat.le_of_ble_eq_true rfl, Nat.le_of_ble_eq_true rfl⟩ rfl hl.1 rfl (Nat.le_of_ble_eq_true rfl) dX0_widths_170 ⟨Nat.le_of_ble_eq_true rfl, Nat.le_of_ble_eq_true rfl⟩ hS (fun q h => hAb q (Nat.le_trans hS.1 h)) (fun ex H locs hq hS hz hk1 => ?_)
                obtain ⟨hexn, hex, hsz⟩ := hq
                have hne : ex ≠ ad 3 := by have := hDW.lt (r := 3) (fun z => by cases z); omega
                have hDW := hDW.aftM hk1
                have hW := hW.aftM hk1
                refine ct_find (pre := []) (post := []) (y := ⟨0, 173, 174, 1⟩) hc htab (by decide) (by decide) rfl hex ?_
                refine lv_astore (lv' := [(4, .ref ex), (9, .int (nI 100)), (8, .int ((wdN (f 0) i y 100).2.2)), (7, .int ((wdN (f 0) i y 100).2.1)), (6, .int ((wdN (f 0) i y 100).1)), (5, .int (f 0 (gp i 3))), (0, .ref (ad 0)), (1, .int (nI i)), (2, .int y), (3, .int z)]) hx hb dX0_widths_174 hl (by decide) rfl (fun ls hl => ?_)
                refine lv_aload_n hx hb dX0_widths_176 rfl (lv_at hl 6 rfl) ?_
                refine lv_aload hx hb dX0_widths_177 (lv_at hl 0 rfl) ?_
                refine cv_W1 (rest := []) hc (D_X0finds l hDW hex hne (k := 3) rfl (by decide)) (lw_V q277 q279 qs1 q67 q280) nd_X0_finds ⟨Nat.le_of_ble_eq_true rfl, Nat.le_of_ble_eq_true rfl⟩ (DW.recv hK hDW) rfl hl.1 rfl (Nat.le_of_ble_eq_true rfl) dX0_widths_179 ⟨Nat.le_of_ble_eq_true rfl, Nat.le_of_ble_eq_true rfl⟩ hS (fun _ h => h) (fun H locs hq hS hz hk1 => ?_)
                obtain ⟨hDW, hf3⟩ := hq
                have hW := hW.aftD (hdj 3 (Or.inl (by decide))) (hDW.1 _ (hDW.mem (r := 3) rfl)) hf3
                have hsp_520 : widthsM f (nI i) y z = (-1000000004, cntP f 3) := by unfold widthsM; rw [if_pos c_506, if_pos c_508, if_pos c_510, hcl_i, if_neg c_514, if_pos (Classical.byContradiction fun q => absurd c_519 (Int32.not_lt.mpr (wd_1 q).1))]
                refine w_more (cells' := 100) (slots' := 1000) (Nat.le_of_ble_eq_true rfl) (Nat.le_of_ble_eq_true rfl) ?_
                exact ri_W hx hb hr hlk hS (by rw [hsp_520]; show (-1000000001 - 3 : Int32) = -1000000004; decide) (by rw [hsp_520]; exact DC.mk' rfl hO hDW hcok hW hdj) dX0_widths_182
              · refine cs_R1 (rest := []) hc (D_orNone_ok l c_519) (lw_S q859 q860 q67 q861) nd_X0_orNone ⟨Nat.le_of_ble_eq_true rfl, Nat.le_of_ble_eq_true rfl⟩ rfl hl.1 rfl (Nat.le_of_ble_eq_true rfl) dX0_widths_170 ⟨Nat.le_of_ble_eq_true rfl, Nat.le_of_ble_eq_true rfl⟩ ?_
                have hsp_521 : widthsM f (nI i) y z = ((wdN (f 0) i y 100).2.1, f) := by unfold widthsM; rw [if_pos c_506, if_pos c_508, if_pos c_510, hcl_i, if_neg c_514, if_neg (fun q => c_519 (by rw [(wd_0 q).1]; decide)), if_pos c_515]
                refine w_more (cells' := 100) (slots' := 1000) (Nat.le_of_ble_eq_true rfl) (Nat.le_of_ble_eq_true rfl) ?_
                exact ri_W hx hb hr hlk hS (by rw [hsp_521]) (by rw [hsp_521]; exact DC.mk' rfl hO hDW hcok hW hdj) dX0_widths_173
          · refine lv_iload hx hb dX0_widths_153 (lv_at hl 3 rfl) ?_
            refine lv_goto (tgt := 173) hx hb dX0_widths_155 (by decide) ?_
            have hsp_522 : widthsM f (nI i) y z = ((wdN (f 0) i y 100).1, f) := by unfold widthsM; rw [if_pos c_506, if_pos c_508, if_pos c_510, hcl_i, if_pos c_514]
            refine w_more (cells' := 100) (slots' := 1000) (Nat.le_of_ble_eq_true rfl) (Nat.le_of_ble_eq_true rfl) ?_
            exact ri_W hx hb hr hlk hS (by rw [hsp_522]) (by rw [hsp_522]; exact DC.mk' rfl hO hDW hcok hW hdj) dX0_widths_173
theorem nd_X0_line : yX0_line.cls = "SmokeLeans" ∧ yX0_line.cls ≠ "java/lang/invoke/MethodHandle" ∧ yX0_line.cls ≠ "java/lang/invoke/VarHandle" ∧ (parseMethodDescriptor yX0_line.desc).map (fun d => d.parameters.length) = some 0 := by decide +kernel
set_option maxHeartbeats 4000000 in
theorem O_line (l : Launch) {G : GD} {A : Nat → Prop} {f : Nat → Nat → Int32} {g : Nat → Nat → Int64} {xo hk ht : Nat} {H0 : Heap} (hF : FG G) (hC : DC G A f g xo hk ht H0) (hAb : ∀ q, H0.size ≤ q → A q)  : MetH l G yX0_line cX0_line 5 (some .int) [((10), (68), (87), (1)), ((10), (68), (113), (0)), ((87), (94), (113), (0)), ((113), (115), (113), (0))] 9 100 1000 A [.ref xo] H0 (some (.int (lineM f).1)) (fun H => DC G A (lineM f).2 g xo hk ht H) := by
  refine mw_of (hh := [((10), (68), (87), (1)), ((10), (68), (113), (0)), ((87), (94), (113), (0)), ((113), (115), (113), (0))]) (by decide) (Nat.le_of_ble_eq_true rfl) ?_
  intro p e s m below meth c hx hb hr hc hlk hnm htab hs0 ls hl
  subst hs0
  have hown := hc.2.2.2.1
  have hts := hc.2.2.2.2.1
  have hK := hc.2.2.2.2.2
  obtain ⟨b, ad, ah, ga, N, R, rfl, hO, hDW, ⟨u, hv, hcok, hW⟩, hdj⟩ := hC
  have hl : lv_has ls 5 [(0, .ref (ad 0))] := hl
  have hS : va_S A s.heap s.heap [] := va_S.rf
  have hN20 := hO.2.1
  have hHA : ∀ q, HR N ah ga q → A q := fun q h => HR.mem hW h
  refine lv_aload_n hx hb dX0_line_0 rfl (lv_at hl 0 rfl) ?_
  refine d_get hc hDW 0 (by decide) q161 rfl rfl dX0_line_1 ?_
  refine h_get hc hW 3 (by decide) rfl q130 rfl rfl dX0_line_4 ?_
  refine lv_iconst (v := 1) hx hb dX0_line_7 (by decide) ?_
  refine nt_ld hc hW.nt (ix_eq (k := 1) rfl (by decide) (by decide)) dX0_line_8 ?_
  refine sm_topi (v := (f 0) 3) rfl ?_
  refine lv_istore_n (lv' := [(1, .int ((f 0) 3)), (0, .ref (ad 0))]) hx hb dX0_line_9 rfl hl (by decide) rfl (fun ls hl => ?_)
  refine lv_iconst (v := (-1)) hx hb dX0_line_10 (by decide) ?_
  refine lv_istore_n (lv' := [(2, .int (-1)), (1, .int ((f 0) 3)), (0, .ref (ad 0))]) hx hb dX0_line_11 rfl hl (by decide) rfl (fun ls hl => ?_)
  refine lv_iconst (v := 0) hx hb dX0_line_12 (by decide) ?_
  refine lv_istore_n (lv' := [(3, .int 0), (2, .int (-1)), (1, .int ((f 0) 3)), (0, .ref (ad 0))]) hx hb dX0_line_13 rfl hl (by decide) rfl (fun ls hl => ?_)
  have hW : HW G A N (upd (f 0) 3 (f 0 3)) u hv ah ga s.heap := by rw [upd_self]; exact hW
  have hcok : HCok (upd (f 0) 3 (f 0 3)) u := by rw [upd_self]; exact hcok
  have hOv : OkN (upd (f 0) 3 (f 0 3)) R N := by rw [upd_self]; exact hO
  refine w_loopH (σ := Nat) (fun k H locs cells slots fr => cells = 0 ∧ slots = 0 ∧ (∃ ls, fr = F0 m 14 ls [] ∧ lv_has ls 5 [(3, .int (nI k)), (2, .int (-1)), (1, .int (f 0 3)), (0, .ref (ad 0))]) ∧ va_S A s.heap H locs ∧ (k ≤ 100 ∧ lnN (f 0) 100 = lnN (f 0) (100 - k) ∧ ∃ vv u hv, OkN (upd (f 0) 3 vv) R N ∧ HCok (upd (f 0) 3 vv) u ∧ HW G A N (upd (f 0) 3 vv) u hv ah ga H ∧ DW G A f g (b) (ah 0) hk ht ad H)) (fun k => 100 - k) 0 ⟨rfl, rfl, ⟨ls, rfl, lv_sub hl [0, 1, 2, 3] rfl⟩, hS, ⟨Nat.zero_le _, rfl, _, u, hv, hOv, hcok, hW, hDW⟩⟩ ?_
  intro k H locs cells slots fr hI ih
  obtain ⟨rfl, rfl, ⟨ls, rfl, hl⟩, hS, ⟨hk100, hln, vv, u, hv, hOv, hcok, hW, hDW⟩⟩ := hI
  by_cases hk : k < 100
  · refine lv_iload_n hx hb dX0_line_14 rfl (lv_at hl 0 rfl) ?_
    refine lv_bipush (v := 99) hx hb dX0_line_15 (by decide) ?_
    refine lv_icmp_gt (tgt := 63) hx hb dX0_line_17 (by decide) (fun h => absurd h (Int32.not_lt.mpr (nI_le (b := 99) (by omega) (by decide)))) (fun _ => ?_)
    refine lv_iload_n hx hb dX0_line_20 rfl (lv_at hl 1 rfl) ?_
    refine lv_if_ge (tgt := 63) hx hb dX0_line_21 (by decide) (fun h => absurd h (by decide)) (fun _ => ?_)
    refine lv_aload_n hx hb dX0_line_24 rfl (lv_at hl 3 rfl) ?_
    refine d_get hc hDW 0 (by decide) q161 rfl rfl dX0_line_25 ?_
    refine h_get hc hW 3 (by decide) rfl q130 rfl rfl dX0_line_28 ?_
    refine lv_iconst (v := 1) hx hb dX0_line_31 (by decide) ?_
    refine lv_iload_n hx hb dX0_line_32 rfl (lv_at hl 0 rfl) ?_
    refine h_nst hc hW hS (ix_eq (k := 1) rfl (by decide) (by decide)) dX0_line_33 (fun H locs hW hS hz oq => ?_)
    have hW : HW G A N (upd (upd (f 0) 3 vv) 3 (nI k)) u hv ah ga H := hW
    have hDW := hDW.aftH hdj hHA HR.n oq
    rw [upd_upd] at hW
    have hO3 : OkN (upd (f 0) 3 (nI k)) R N := OkN_wind hO (by omega)
    refine lv_aload_n hx hb dX0_line_34 rfl (lv_at hl 3 rfl) ?_
    refine d_get hc hDW 0 (by decide) q161 rfl rfl dX0_line_35 ?_
    refine cv_W0 (rest := []) hc (D_changes l hF hW.toR hO3) (lw_V q273 q274 q275 q68 q276) nd_X1_changes ⟨Nat.le_of_ble_eq_true rfl, Nat.le_of_ble_eq_true rfl⟩ (HW.recv hK hW) rfl hl.1 rfl (Nat.le_of_ble_eq_true rfl) dX0_line_38 ⟨Nat.le_of_ble_eq_true rfl, Nat.le_of_ble_eq_true rfl⟩ hS hHA (fun H locs hq hS hz hk1 => ?_)
    have hDW := hDW.aftC hdj hHA hk1
    obtain ⟨u, hv, hcok, hW⟩ := HS.ofR (HS.ch hq) hW.1 hHA
    refine lv_aload_n hx hb dX0_line_41 rfl (lv_at hl 3 rfl) ?_
    refine d_get hc hDW 0 (by decide) q161 rfl rfl dX0_line_42 ?_
    refine cv_W1 (rest := []) hc (D_isSmoky l hF (HS.toR ⟨u, hv, hcok, hW⟩) hO3) (lw_V q804 q805 q806 q68 q807) nd_X1_isSmoky ⟨Nat.le_of_ble_eq_true rfl, Nat.le_of_ble_eq_true rfl⟩ (HW.recv hK hW) rfl hl.1 rfl (Nat.le_of_ble_eq_true rfl) dX0_line_45 ⟨Nat.le_of_ble_eq_true rfl, Nat.le_of_ble_eq_true rfl⟩ hS hHA (fun H locs hq hS hz hk1 => ?_)
    have hDW := hDW.aftC hdj hHA hk1
    obtain ⟨u, hv, hcok, hW⟩ := HS.ofR hq hW.1 hHA
    refine bi_eq (tgt := 55) hx hb dX0_line_48 (by decide) (fun c_523 => ?_) (fun c_523 => ?_)
    · refine lv_iconst (v := (-1)) hx hb dX0_line_55 (by decide) ?_
      refine lv_istore_n (lv' := [(2, .int (-1)), (3, .int (nI k)), (1, .int (f 0 3)), (0, .ref (ad 0))]) hx hb dX0_line_56 rfl hl (by decide) rfl (fun ls hl => ?_)
      refine lv_iinc (v := nI (k + 1)) (lv' := [(3, .int (nI (k + 1))), (2, .int (-1)), (1, .int (f 0 3)), (0, .ref (ad 0))]) hx hb dX0_line_57 hl (k := 1) rfl (nI_1 _) (by decide) rfl (fun ls hl => ?_)
      refine lv_goto (tgt := 14) hx hb dX0_line_60 (by decide) ?_
      exact ih (k + 1) _ _ _ _ _ ⟨rfl, rfl, ⟨ls, rfl, lv_sub hl [0, 1, 2, 3] rfl⟩, hS, hk, hln.trans (ln_b hk c_523), _, u, hv, hO3, hcok, hW, hDW⟩ (by omega)
    · refine lv_iload_n hx hb dX0_line_51 rfl (lv_at hl 0 rfl) ?_
      refine lv_goto (tgt := 56) hx hb dX0_line_52 (by decide) ?_
      refine lv_istore_n (lv' := [(2, .int (nI k)), (3, .int (nI k)), (1, .int (f 0 3)), (0, .ref (ad 0))]) hx hb dX0_line_56 rfl hl (by decide) rfl (fun ls hl => ?_)
      refine lv_iinc (v := nI (k + 1)) (lv' := [(3, .int (nI (k + 1))), (2, .int (nI k)), (1, .int (f 0 3)), (0, .ref (ad 0))]) hx hb dX0_line_57 hl (k := 1) rfl (nI_1 _) (by decide) rfl (fun ls hl => ?_)
      refine lv_goto (tgt := 14) hx hb dX0_line_60 (by decide) ?_
      refine lv_iload_n hx hb dX0_line_14 rfl (lv_at hl 0 rfl) ?_
      refine lv_bipush (v := 99) hx hb dX0_line_15 (by decide) ?_
      refine lv_icmp_gt (tgt := 63) hx hb dX0_line_17 (by decide) (fun c_524 => ?_) (fun c_524 => ?_)
      · refine lv_iload_n hx hb dX0_line_63 rfl (lv_at hl 1 rfl) ?_
        refine cs_R1 (rest := []) hc (D_orNone_ok l (Int32.not_lt.mpr (nI_nn (by omega)))) (lw_S q859 q860 q67 q861) nd_X0_orNone ⟨Nat.le_of_ble_eq_true rfl, Nat.le_of_ble_eq_true rfl⟩ rfl hl.1 rfl (Nat.le_of_ble_eq_true rfl) dX0_line_64 ⟨Nat.le_of_ble_eq_true rfl, Nat.le_of_ble_eq_true rfl⟩ ?_
        refine lv_istore_n (lv' := [(3, .int (nI k)), (2, .int (nI k)), (1, .int (f 0 3)), (0, .ref (ad 0))]) hx hb dX0_line_67 rfl hl (by decide) rfl (fun ls hl => ?_)
        refine lv_aload_n hx hb dX0_line_68 rfl (lv_at hl 3 rfl) ?_
        refine d_get hc hDW 0 (by decide) q161 rfl rfl dX0_line_69 ?_
        refine h_get hc hW 3 (by decide) rfl q130 rfl rfl dX0_line_72 ?_
        refine lv_iconst (v := 1) hx hb dX0_line_75 (by decide) ?_
        refine lv_iload_n hx hb dX0_line_76 rfl (lv_at hl 2 rfl) ?_
        refine h_nst hc hW hS (ix_eq (k := 1) rfl (by decide) (by decide)) dX0_line_77 (fun H locs hW hS hz oq => ?_)
        have hW : HW G A N (upd (upd (f 0) 3 (nI k)) 3 (f 0 3)) u hv ah ga H := hW
        have hDW := hDW.aftH hdj hHA HR.n oq
        rw [upd_upd, upd_self] at hW
        refine lv_aload_n hx hb dX0_line_78 rfl (lv_at hl 3 rfl) ?_
        refine d_get hc hDW 0 (by decide) q161 rfl rfl dX0_line_79 ?_
        refine cv_W0 (rest := []) hc (D_changes l hF hW.toR hO) (lw_V q273 q274 q275 q68 q276) nd_X1_changes ⟨Nat.le_of_ble_eq_true rfl, Nat.le_of_ble_eq_true rfl⟩ (HW.recv hK hW) rfl hl.1 rfl (Nat.le_of_ble_eq_true rfl) dX0_line_82 ⟨Nat.le_of_ble_eq_true rfl, Nat.le_of_ble_eq_true rfl⟩ hS hHA (fun H locs hq hS hz hk1 => ?_)
        have hDW := hDW.aftC hdj hHA hk1
        obtain ⟨u, hv, hcok, hW⟩ := HS.ofR (HS.ch hq) hW.1 hHA
        refine lv_iload_n hx hb dX0_line_85 rfl (lv_at hl 0 rfl) ?_
        have hsp_525 : lineM f = (nI k, f) := by unfold lineM; rw [hln, ln_a hk c_523, if_pos (nI_nn (by omega))]
        refine w_more (cells' := 100) (slots' := 1000) (Nat.le_of_ble_eq_true rfl) (Nat.le_of_ble_eq_true rfl) ?_
        exact ri_W hx hb hr hlk hS (by rw [hsp_525]) (by rw [hsp_525]; exact DC.mk' rfl hO hDW hcok hW hdj) dX0_line_86
      · refine lv_iload_n hx hb dX0_line_20 rfl (lv_at hl 1 rfl) ?_
        refine lv_if_ge (tgt := 63) hx hb dX0_line_21 (by decide) (fun _ => ?_) (fun h => absurd (nI_nn (by omega)) h)
        refine lv_iload_n hx hb dX0_line_63 rfl (lv_at hl 1 rfl) ?_
        refine cs_R1 (rest := []) hc (D_orNone_ok l (Int32.not_lt.mpr (nI_nn (by omega)))) (lw_S q859 q860 q67 q861) nd_X0_orNone ⟨Nat.le_of_ble_eq_true rfl, Nat.le_of_ble_eq_true rfl⟩ rfl hl.1 rfl (Nat.le_of_ble_eq_true rfl) dX0_line_64 ⟨Nat.le_of_ble_eq_true rfl, Nat.le_of_ble_eq_true rfl⟩ ?_
        refine lv_istore_n (lv' := [(3, .int (nI k)), (2, .int (nI k)), (1, .int (f 0 3)), (0, .ref (ad 0))]) hx hb dX0_line_67 rfl hl (by decide) rfl (fun ls hl => ?_)
        refine lv_aload_n hx hb dX0_line_68 rfl (lv_at hl 3 rfl) ?_
        refine d_get hc hDW 0 (by decide) q161 rfl rfl dX0_line_69 ?_
        refine h_get hc hW 3 (by decide) rfl q130 rfl rfl dX0_line_72 ?_
        refine lv_iconst (v := 1) hx hb dX0_line_75 (by decide) ?_
        refine lv_iload_n hx hb dX0_line_76 rfl (lv_at hl 2 rfl) ?_
        refine h_nst hc hW hS (ix_eq (k := 1) rfl (by decide) (by decide)) dX0_line_77 (fun H locs hW hS hz oq => ?_)
        have hW : HW G A N (upd (upd (f 0) 3 (nI k)) 3 (f 0 3)) u hv ah ga H := hW
        have hDW := hDW.aftH hdj hHA HR.n oq
        rw [upd_upd, upd_self] at hW
        refine lv_aload_n hx hb dX0_line_78 rfl (lv_at hl 3 rfl) ?_
        refine d_get hc hDW 0 (by decide) q161 rfl rfl dX0_line_79 ?_
        refine cv_W0 (rest := []) hc (D_changes l hF hW.toR hO) (lw_V q273 q274 q275 q68 q276) nd_X1_changes ⟨Nat.le_of_ble_eq_true rfl, Nat.le_of_ble_eq_true rfl⟩ (HW.recv hK hW) rfl hl.1 rfl (Nat.le_of_ble_eq_true rfl) dX0_line_82 ⟨Nat.le_of_ble_eq_true rfl, Nat.le_of_ble_eq_true rfl⟩ hS hHA (fun H locs hq hS hz hk1 => ?_)
        have hDW := hDW.aftC hdj hHA hk1
        obtain ⟨u, hv, hcok, hW⟩ := HS.ofR (HS.ch hq) hW.1 hHA
        refine lv_iload_n hx hb dX0_line_85 rfl (lv_at hl 0 rfl) ?_
        have hsp_526 : lineM f = (nI k, f) := by unfold lineM; rw [hln, ln_a hk c_523, if_pos (nI_nn (by omega))]
        refine w_more (cells' := 100) (slots' := 1000) (Nat.le_of_ble_eq_true rfl) (Nat.le_of_ble_eq_true rfl) ?_
        exact ri_W hx hb hr hlk hS (by rw [hsp_526]) (by rw [hsp_526]; exact DC.mk' rfl hO hDW hcok hW hdj) dX0_line_86
  · have hkE : 100 = k := by omega
    subst hkE
    refine lv_iload_n hx hb dX0_line_14 rfl (lv_at hl 0 rfl) ?_
    refine lv_bipush (v := 99) hx hb dX0_line_15 (by decide) ?_
    refine lv_icmp_gt (tgt := 63) hx hb dX0_line_17 (by decide) (fun _ => ?_) (fun h => absurd (by decide) h)
    refine lv_iload_n hx hb dX0_line_63 rfl (lv_at hl 1 rfl) ?_
    refine cs_T (rest := []) hc (D_orNone_no l hF.1 hDW.2.1 hDW.gle (by decide)) q859 q860 q67 q861 nd_X0_orNone ⟨Nat.le_of_ble_eq_true rfl, Nat.le_of_ble_eq_true rfl⟩ rfl hl.1 rfl (Nat.le_of_ble_eq_true rfl) dX0_line_64 ⟨Nat.le_of_ble_eq_true rfl, Nat.le_of_ble_eq_true rfl⟩ hS (fun q h => hAb q (Nat.le_trans hS.1 h)) (fun ex H locs hq hS hz hk1 => ?_)
    obtain ⟨hexn, hex, hsz⟩ := hq
    have hne : ex ≠ ad 3 := by have := hDW.lt (r := 3) (fun z => by cases z); omega
    have hDW := hDW.aftM hk1
    have hW := hW.aftM hk1
    refine ct_find (pre := []) (post := [⟨10, 68, 113, 0⟩, ⟨87, 94, 113, 0⟩, ⟨113, 115, 113, 0⟩]) (y := ⟨10, 68, 87, 1⟩) hc htab (by decide) (by decide) rfl hex ?_
    refine lv_astore_n (lv' := [(2, .ref ex), (3, .int (nI 100)), (1, .int (f 0 3)), (0, .ref (ad 0))]) hx hb dX0_line_87 rfl hl (by decide) rfl (fun ls hl => ?_)
    refine lv_aload_n hx hb dX0_line_88 rfl (lv_at hl 3 rfl) ?_
    refine lv_aload_n hx hb dX0_line_89 rfl (lv_at hl 0 rfl) ?_
    refine cv_W1 (rest := []) hc (D_X0finds l hDW hex hne (k := 3) rfl (by decide)) (lw_V q277 q279 qs1 q67 q280) nd_X0_finds ⟨Nat.le_of_ble_eq_true rfl, Nat.le_of_ble_eq_true rfl⟩ (DW.recv hK hDW) rfl hl.1 rfl (Nat.le_of_ble_eq_true rfl) dX0_line_90 ⟨Nat.le_of_ble_eq_true rfl, Nat.le_of_ble_eq_true rfl⟩ hS (fun _ h => h) (fun H locs hq hS hz hk1 => ?_)
    obtain ⟨hDW, hf3⟩ := hq
    have hW := hW.aftD (hdj 3 (Or.inl (by decide))) (hDW.1 _ (hDW.mem (r := 3) rfl)) hf3
    refine lv_istore_n (lv' := [(3, .int (-1000000001 - 3)), (2, .ref ex), (1, .int (f 0 3)), (0, .ref (ad 0))]) hx hb dX0_line_93 rfl hl (by decide) rfl (fun ls hl => ?_)
    refine lv_aload_n hx hb dX0_line_94 rfl (lv_at hl 3 rfl) ?_
    refine d_get hc hDW 0 (by decide) q161 rfl rfl dX0_line_95 ?_
    refine h_get hc hW 3 (by decide) rfl q130 rfl rfl dX0_line_98 ?_
    refine lv_iconst (v := 1) hx hb dX0_line_101 (by decide) ?_
    refine lv_iload_n hx hb dX0_line_102 rfl (lv_at hl 2 rfl) ?_
    refine h_nst hc hW hS (ix_eq (k := 1) rfl (by decide) (by decide)) dX0_line_103 (fun H locs hW hS hz oq => ?_)
    have hW : HW G A N (upd (upd (f 0) 3 vv) 3 (f 0 3)) u hv ah ga H := hW
    have hDW := hDW.aftH hdj hHA HR.n oq
    rw [upd_upd, upd_self] at hW
    refine lv_aload_n hx hb dX0_line_104 rfl (lv_at hl 3 rfl) ?_
    refine d_get hc hDW 0 (by decide) q161 rfl rfl dX0_line_105 ?_
    refine cv_W0 (rest := []) hc (D_changes l hF hW.toR hO) (lw_V q273 q274 q275 q68 q276) nd_X1_changes ⟨Nat.le_of_ble_eq_true rfl, Nat.le_of_ble_eq_true rfl⟩ (HW.recv hK hW) rfl hl.1 rfl (Nat.le_of_ble_eq_true rfl) dX0_line_108 ⟨Nat.le_of_ble_eq_true rfl, Nat.le_of_ble_eq_true rfl⟩ hS hHA (fun H locs hq hS hz hk1 => ?_)
    have hDW := hDW.aftC hdj hHA hk1
    obtain ⟨u, hv, hcok, hW⟩ := HS.ofR (HS.ch hq) hW.1 hHA
    refine lv_iload_n hx hb dX0_line_111 rfl (lv_at hl 0 rfl) ?_
    have hsp_527 : lineM f = (-1000000004, cntP f 3) := by unfold lineM; rw [hln]; exact if_neg (show ¬ (0 : Int32) ≤ -1 by decide)
    refine w_more (cells' := 100) (slots' := 1000) (Nat.le_of_ble_eq_true rfl) (Nat.le_of_ble_eq_true rfl) ?_
    exact ri_W hx hb hr hlk hS (by rw [hsp_527]; show (-1000000001 - 3 : Int32) = -1000000004; decide) (by rw [hsp_527]; exact DC.mk' rfl hO hDW hcok hW hdj) dX0_line_112
theorem cnO_a {s : Nat → Int32} {n : Nat} (h : s (gp n 7) = 0) : cnO s (n + 1) = cnO s n + 1 := by simp only [cnO, h]; rfl
theorem cnO_b {s : Nat → Int32} {n : Nat} (h : s (gp n 7) = 1) : cnO s (n + 1) = cnO s n + 0 := by simp only [cnO, h]; rfl
theorem cnC_a {s : Nat → Int32} {n : Nat} (h : s (gp n 7) = 0) : cnC s (n + 1) = cnC s n + s (gp n 6) := by simp only [cnC, h]; rfl
theorem cnC_b {s : Nat → Int32} {n : Nat} (h : s (gp n 7) = 1) : cnC s (n + 1) = cnC s n + 0 := by simp only [cnC, h]; rfl
theorem nd_X0_sum : yX0_sum.cls = "SmokeLeans" ∧ yX0_sum.cls ≠ "java/lang/invoke/MethodHandle" ∧ yX0_sum.cls ≠ "java/lang/invoke/VarHandle" ∧ (parseMethodDescriptor yX0_sum.desc).map (fun d => d.parameters.length) = some 1 := by decide +kernel
set_option maxHeartbeats 4000000 in
theorem D_sum2 (l : Launch) {G : GD} {A : Nat → Prop} {f b : Nat → Nat → Int32} {g : Nat → Nat → Int64} {hk ht N : Nat} {ad ah ga : Nat → Nat} {r : Nat → Int32} {u : Nat → Nat → Int32} {hv : Nat → Value} {H0 : Heap} (hDW : DW G A f g b (ah 0) hk ht ad H0) (hW : HW G A N r u hv ah ga H0) {R : Nat} (hF : FG G) (hO : OkN r R N) : MetR l G yX0_sum cX0_sum 5 (some .int) 2 [.ref (ad 0), .int 2] H0 (some (.int (cnO r N))) := by
  refine mx_of (by decide) (Nat.le_of_ble_eq_true rfl) ?_
  intro p e s m below meth c hx hb hr hc hlk hnm hs0 ls hl
  subst hs0
  have hown := hc.2.2.2.1
  have hts := hc.2.2.2.2.1
  have hK := hc.2.2.2.2.2
  have hl : lv_has ls 5 [(0, .ref (ad 0)), (1, .int 2)] := hl
  have hN20 := hO.2.1
  refine lv_iconst (v := 0) hx hb dX0_sum_0 (by decide) ?_
  refine lv_istore_n (lv' := [(2, .int 0), (0, .ref (ad 0)), (1, .int 2)]) hx hb dX0_sum_1 rfl hl (by decide) rfl (fun ls hl => ?_)
  refine lv_iconst (v := 0) hx hb dX0_sum_2 (by decide) ?_
  refine lv_istore_n (lv' := [(3, .int 0), (2, .int 0), (0, .ref (ad 0)), (1, .int 2)]) hx hb dX0_sum_3 rfl hl (by decide) rfl (fun ls hl => ?_)
  refine w_loop (σ := Nat) (fun i fr => ∃ ls, fr = F0 m 4 ls [] ∧ lv_has ls 5 [(3, .int (nI i)), (2, .int (cnO r i)), (1, .int 2), (0, .ref (ad 0))] ∧ (i ≤ N)) (fun i => N - i) 0 ⟨ls, rfl, lv_sub hl [0, 1, 3, 2] rfl, Nat.zero_le _⟩ ?_
  intro i fr hI ih
  obtain ⟨ls, rfl, hl, hinv⟩ := hI
  by_cases hi : i < N
  · refine lv_iload_n hx hb dX0_sum_4 rfl (lv_at hl 0 rfl) ?_
    refine lv_aload_n hx hb dX0_sum_5 rfl (lv_at hl 3 rfl) ?_
    refine d_get hc hDW 0 (by decide) q161 rfl rfl dX0_sum_6 ?_
    refine h_get hc hW 1 (by decide) rfl q124 rfl rfl dX0_sum_9 ?_
    refine sm_topi (v := nI N) hO.2.2.2.1 ?_
    refine lv_icmp_ge (tgt := 73) hx hb dX0_sum_12 (by decide) (fun h => absurd h (nI_ge hi (by omega))) (fun _ => ?_)
    refine lv_aload_n hx hb dX0_sum_15 rfl (lv_at hl 3 rfl) ?_
    refine d_get hc hDW 0 (by decide) q161 rfl rfl dX0_sum_16 ?_
    refine lv_iload_n hx hb dX0_sum_19 rfl (lv_at hl 0 rfl) ?_
    refine cv_R1 (rest := []) hc (D_hgap l hF hW hO i hi) (lw_V q428 q429 q430 q68 q431) nd_X1_gap ⟨Nat.le_of_ble_eq_true rfl, Nat.le_of_ble_eq_true rfl⟩ (HW.recv hK hW) rfl hl.1 rfl (Nat.le_of_ble_eq_true rfl) dX0_sum_20 ⟨Nat.le_of_ble_eq_true rfl, Nat.le_of_ble_eq_true rfl⟩ ?_
    refine lv_astore (lv' := [(4, .ref (ga i)), (3, .int (nI i)), (2, .int (cnO r i)), (1, .int 2), (0, .ref (ad 0))]) hx hb dX0_sum_23 hl (by decide) rfl (fun ls hl => ?_)
    refine lv_iload_n hx hb dX0_sum_25 rfl (lv_at hl 2 rfl) ?_
    refine lv_iload_n hx hb dX0_sum_26 rfl (lv_at hl 3 rfl) ?_
    refine lv_iconst (v := 5) hx hb dX0_sum_27 (by decide) ?_
    refine lv_icmp_ne (tgt := 39) hx hb dX0_sum_28 (by decide) (fun _ => ?_) (fun h => absurd h (by decide))
    refine lv_aload hx hb dX0_sum_39 (lv_at hl 0 rfl) ?_
    refine gv_get hc (hO.gap hi).kd.1 (hW.gp hi) 6 (by decide) q332 rfl dX0_sum_41 ?_
    refine lv_if_eq (tgt := 51) hx hb dX0_sum_44 (by decide) (fun c_528 => ?_) (fun c_528 => ?_)
    · refine lv_iload_n hx hb dX0_sum_51 rfl (lv_at hl 3 rfl) ?_
      refine lv_iconst (v := 2) hx hb dX0_sum_52 (by decide) ?_
      refine lv_icmp_ne (tgt := 60) hx hb dX0_sum_53 (by decide) (fun h => absurd (by decide) h) (fun _ => ?_)
      refine lv_iconst (v := 1) hx hb dX0_sum_56 (by decide) ?_
      refine lv_goto (tgt := 65) hx hb dX0_sum_57 (by decide) ?_
      refine lv_iadd hx hb dX0_sum_65 ?_
      refine lv_istore_n (lv' := [(2, .int ((cnO r i) + 1)), (4, .ref (ga i)), (3, .int (nI i)), (1, .int 2), (0, .ref (ad 0))]) hx hb dX0_sum_66 rfl hl (by decide) rfl (fun ls hl => ?_)
      refine lv_iinc (v := nI (i + 1)) (lv' := [(3, .int (nI (i + 1))), (2, .int ((cnO r i) + 1)), (4, .ref (ga i)), (1, .int 2), (0, .ref (ad 0))]) hx hb dX0_sum_67 hl (k := 2) rfl (nI_1 _) (by decide) rfl (fun ls hl => ?_)
      refine lv_goto (tgt := 4) hx hb dX0_sum_70 (by decide) ?_
      refine ih (i + 1) _ ⟨ls, rfl, ?_, hi⟩ (by omega)
      rw [cnO_a c_528]
      exact lv_sub hl [0, 1, 3, 4] rfl
    · refine lv_iconst (v := 0) hx hb dX0_sum_47 (by decide) ?_
      refine lv_goto (tgt := 65) hx hb dX0_sum_48 (by decide) ?_
      refine lv_iadd hx hb dX0_sum_65 ?_
      refine lv_istore_n (lv' := [(2, .int ((cnO r i) + 0)), (4, .ref (ga i)), (3, .int (nI i)), (1, .int 2), (0, .ref (ad 0))]) hx hb dX0_sum_66 rfl hl (by decide) rfl (fun ls hl => ?_)
      refine lv_iinc (v := nI (i + 1)) (lv' := [(3, .int (nI (i + 1))), (2, .int ((cnO r i) + 0)), (4, .ref (ga i)), (1, .int 2), (0, .ref (ad 0))]) hx hb dX0_sum_67 hl (k := 2) rfl (nI_1 _) (by decide) rfl (fun ls hl => ?_)
      refine lv_goto (tgt := 4) hx hb dX0_sum_70 (by decide) ?_
      refine ih (i + 1) _ ⟨ls, rfl, ?_, hi⟩ (by omega)
      rw [cnO_b ((hO.gap hi).2.2.2.2.2.2.2.2.resolve_left c_528)]
      exact lv_sub hl [0, 1, 3, 4] rfl
  · have hiE : N = i := by omega
    subst hiE
    refine lv_iload_n hx hb dX0_sum_4 rfl (lv_at hl 0 rfl) ?_
    refine lv_aload_n hx hb dX0_sum_5 rfl (lv_at hl 3 rfl) ?_
    refine d_get hc hDW 0 (by decide) q161 rfl rfl dX0_sum_6 ?_
    refine h_get hc hW 1 (by decide) rfl q124 rfl rfl dX0_sum_9 ?_
    refine sm_topi (v := nI N) hO.2.2.2.1 ?_
    refine lv_icmp_ge (tgt := 73) hx hb dX0_sum_12 (by decide) (fun _ => ?_) (fun h => absurd (nI_le (by omega) (by omega)) h)
    refine lv_iload_n hx hb dX0_sum_73 rfl (lv_at hl 1 rfl) ?_
    exact ri_R hx hb hr hlk (rfl) dX0_sum_74
set_option maxHeartbeats 4000000 in
theorem D_sum5 (l : Launch) {G : GD} {A : Nat → Prop} {f b : Nat → Nat → Int32} {g : Nat → Nat → Int64} {hk ht N : Nat} {ad ah ga : Nat → Nat} {r : Nat → Int32} {u : Nat → Nat → Int32} {hv : Nat → Value} {H0 : Heap} (hDW : DW G A f g b (ah 0) hk ht ad H0) (hW : HW G A N r u hv ah ga H0) {R : Nat} (hF : FG G) (hO : OkN r R N) : MetR l G yX0_sum cX0_sum 5 (some .int) 2 [.ref (ad 0), .int 5] H0 (some (.int (cnW r N))) := by
  refine mx_of (by decide) (Nat.le_of_ble_eq_true rfl) ?_
  intro p e s m below meth c hx hb hr hc hlk hnm hs0 ls hl
  subst hs0
  have hown := hc.2.2.2.1
  have hts := hc.2.2.2.2.1
  have hK := hc.2.2.2.2.2
  have hl : lv_has ls 5 [(0, .ref (ad 0)), (1, .int 5)] := hl
  have hN20 := hO.2.1
  refine lv_iconst (v := 0) hx hb dX0_sum_0 (by decide) ?_
  refine lv_istore_n (lv' := [(2, .int 0), (0, .ref (ad 0)), (1, .int 5)]) hx hb dX0_sum_1 rfl hl (by decide) rfl (fun ls hl => ?_)
  refine lv_iconst (v := 0) hx hb dX0_sum_2 (by decide) ?_
  refine lv_istore_n (lv' := [(3, .int 0), (2, .int 0), (0, .ref (ad 0)), (1, .int 5)]) hx hb dX0_sum_3 rfl hl (by decide) rfl (fun ls hl => ?_)
  refine w_loop (σ := Nat) (fun i fr => ∃ ls, fr = F0 m 4 ls [] ∧ lv_has ls 5 [(3, .int (nI i)), (2, .int (cnW r i)), (1, .int 5), (0, .ref (ad 0))] ∧ (i ≤ N)) (fun i => N - i) 0 ⟨ls, rfl, lv_sub hl [0, 1, 3, 2] rfl, Nat.zero_le _⟩ ?_
  intro i fr hI ih
  obtain ⟨ls, rfl, hl, hinv⟩ := hI
  by_cases hi : i < N
  · refine lv_iload_n hx hb dX0_sum_4 rfl (lv_at hl 0 rfl) ?_
    refine lv_aload_n hx hb dX0_sum_5 rfl (lv_at hl 3 rfl) ?_
    refine d_get hc hDW 0 (by decide) q161 rfl rfl dX0_sum_6 ?_
    refine h_get hc hW 1 (by decide) rfl q124 rfl rfl dX0_sum_9 ?_
    refine sm_topi (v := nI N) hO.2.2.2.1 ?_
    refine lv_icmp_ge (tgt := 73) hx hb dX0_sum_12 (by decide) (fun h => absurd h (nI_ge hi (by omega))) (fun _ => ?_)
    refine lv_aload_n hx hb dX0_sum_15 rfl (lv_at hl 3 rfl) ?_
    refine d_get hc hDW 0 (by decide) q161 rfl rfl dX0_sum_16 ?_
    refine lv_iload_n hx hb dX0_sum_19 rfl (lv_at hl 0 rfl) ?_
    refine cv_R1 (rest := []) hc (D_hgap l hF hW hO i hi) (lw_V q428 q429 q430 q68 q431) nd_X1_gap ⟨Nat.le_of_ble_eq_true rfl, Nat.le_of_ble_eq_true rfl⟩ (HW.recv hK hW) rfl hl.1 rfl (Nat.le_of_ble_eq_true rfl) dX0_sum_20 ⟨Nat.le_of_ble_eq_true rfl, Nat.le_of_ble_eq_true rfl⟩ ?_
    refine lv_astore (lv' := [(4, .ref (ga i)), (3, .int (nI i)), (2, .int (cnW r i)), (1, .int 5), (0, .ref (ad 0))]) hx hb dX0_sum_23 hl (by decide) rfl (fun ls hl => ?_)
    refine lv_iload_n hx hb dX0_sum_25 rfl (lv_at hl 2 rfl) ?_
    refine lv_iload_n hx hb dX0_sum_26 rfl (lv_at hl 3 rfl) ?_
    refine lv_iconst (v := 5) hx hb dX0_sum_27 (by decide) ?_
    refine lv_icmp_ne (tgt := 39) hx hb dX0_sum_28 (by decide) (fun h => absurd (by decide) h) (fun _ => ?_)
    refine lv_aload hx hb dX0_sum_31 (lv_at hl 0 rfl) ?_
    refine gv_get hc (hO.gap hi).kd.1 (hW.gp hi) 2 (by decide) q320 rfl dX0_sum_33 ?_
    refine lv_goto (tgt := 65) hx hb dX0_sum_36 (by decide) ?_
    refine lv_iadd hx hb dX0_sum_65 ?_
    refine lv_istore_n (lv' := [(2, .int ((cnW r i) + (r (gp i 3)))), (4, .ref (ga i)), (3, .int (nI i)), (1, .int 5), (0, .ref (ad 0))]) hx hb dX0_sum_66 rfl hl (by decide) rfl (fun ls hl => ?_)
    refine lv_iinc (v := nI (i + 1)) (lv' := [(3, .int (nI (i + 1))), (2, .int ((cnW r i) + (r (gp i 3)))), (4, .ref (ga i)), (1, .int 5), (0, .ref (ad 0))]) hx hb dX0_sum_67 hl (k := 2) rfl (nI_1 _) (by decide) rfl (fun ls hl => ?_)
    refine lv_goto (tgt := 4) hx hb dX0_sum_70 (by decide) ?_
    refine ih (i + 1) _ ⟨ls, rfl, ?_, hi⟩ (by omega)
    exact lv_sub hl [0, 1, 3, 4] rfl
  · have hiE : N = i := by omega
    subst hiE
    refine lv_iload_n hx hb dX0_sum_4 rfl (lv_at hl 0 rfl) ?_
    refine lv_aload_n hx hb dX0_sum_5 rfl (lv_at hl 3 rfl) ?_
    refine d_get hc hDW 0 (by decide) q161 rfl rfl dX0_sum_6 ?_
    refine h_get hc hW 1 (by decide) rfl q124 rfl rfl dX0_sum_9 ?_
    refine sm_topi (v := nI N) hO.2.2.2.1 ?_
    refine lv_icmp_ge (tgt := 73) hx hb dX0_sum_12 (by decide) (fun _ => ?_) (fun h => absurd (nI_le (by omega) (by omega)) h)
    refine lv_iload_n hx hb dX0_sum_73 rfl (lv_at hl 1 rfl) ?_
    exact ri_R hx hb hr hlk (rfl) dX0_sum_74
set_option maxHeartbeats 4000000 in
theorem D_sum6 (l : Launch) {G : GD} {A : Nat → Prop} {f b : Nat → Nat → Int32} {g : Nat → Nat → Int64} {hk ht N : Nat} {ad ah ga : Nat → Nat} {r : Nat → Int32} {u : Nat → Nat → Int32} {hv : Nat → Value} {H0 : Heap} (hDW : DW G A f g b (ah 0) hk ht ad H0) (hW : HW G A N r u hv ah ga H0) {R : Nat} (hF : FG G) (hO : OkN r R N) : MetR l G yX0_sum cX0_sum 5 (some .int) 2 [.ref (ad 0), .int 6] H0 (some (.int (cnC r N))) := by
  refine mx_of (by decide) (Nat.le_of_ble_eq_true rfl) ?_
  intro p e s m below meth c hx hb hr hc hlk hnm hs0 ls hl
  subst hs0
  have hown := hc.2.2.2.1
  have hts := hc.2.2.2.2.1
  have hK := hc.2.2.2.2.2
  have hl : lv_has ls 5 [(0, .ref (ad 0)), (1, .int 6)] := hl
  have hN20 := hO.2.1
  refine lv_iconst (v := 0) hx hb dX0_sum_0 (by decide) ?_
  refine lv_istore_n (lv' := [(2, .int 0), (0, .ref (ad 0)), (1, .int 6)]) hx hb dX0_sum_1 rfl hl (by decide) rfl (fun ls hl => ?_)
  refine lv_iconst (v := 0) hx hb dX0_sum_2 (by decide) ?_
  refine lv_istore_n (lv' := [(3, .int 0), (2, .int 0), (0, .ref (ad 0)), (1, .int 6)]) hx hb dX0_sum_3 rfl hl (by decide) rfl (fun ls hl => ?_)
  refine w_loop (σ := Nat) (fun i fr => ∃ ls, fr = F0 m 4 ls [] ∧ lv_has ls 5 [(3, .int (nI i)), (2, .int (cnC r i)), (1, .int 6), (0, .ref (ad 0))] ∧ (i ≤ N)) (fun i => N - i) 0 ⟨ls, rfl, lv_sub hl [0, 1, 3, 2] rfl, Nat.zero_le _⟩ ?_
  intro i fr hI ih
  obtain ⟨ls, rfl, hl, hinv⟩ := hI
  by_cases hi : i < N
  · refine lv_iload_n hx hb dX0_sum_4 rfl (lv_at hl 0 rfl) ?_
    refine lv_aload_n hx hb dX0_sum_5 rfl (lv_at hl 3 rfl) ?_
    refine d_get hc hDW 0 (by decide) q161 rfl rfl dX0_sum_6 ?_
    refine h_get hc hW 1 (by decide) rfl q124 rfl rfl dX0_sum_9 ?_
    refine sm_topi (v := nI N) hO.2.2.2.1 ?_
    refine lv_icmp_ge (tgt := 73) hx hb dX0_sum_12 (by decide) (fun h => absurd h (nI_ge hi (by omega))) (fun _ => ?_)
    refine lv_aload_n hx hb dX0_sum_15 rfl (lv_at hl 3 rfl) ?_
    refine d_get hc hDW 0 (by decide) q161 rfl rfl dX0_sum_16 ?_
    refine lv_iload_n hx hb dX0_sum_19 rfl (lv_at hl 0 rfl) ?_
    refine cv_R1 (rest := []) hc (D_hgap l hF hW hO i hi) (lw_V q428 q429 q430 q68 q431) nd_X1_gap ⟨Nat.le_of_ble_eq_true rfl, Nat.le_of_ble_eq_true rfl⟩ (HW.recv hK hW) rfl hl.1 rfl (Nat.le_of_ble_eq_true rfl) dX0_sum_20 ⟨Nat.le_of_ble_eq_true rfl, Nat.le_of_ble_eq_true rfl⟩ ?_
    refine lv_astore (lv' := [(4, .ref (ga i)), (3, .int (nI i)), (2, .int (cnC r i)), (1, .int 6), (0, .ref (ad 0))]) hx hb dX0_sum_23 hl (by decide) rfl (fun ls hl => ?_)
    refine lv_iload_n hx hb dX0_sum_25 rfl (lv_at hl 2 rfl) ?_
    refine lv_iload_n hx hb dX0_sum_26 rfl (lv_at hl 3 rfl) ?_
    refine lv_iconst (v := 5) hx hb dX0_sum_27 (by decide) ?_
    refine lv_icmp_ne (tgt := 39) hx hb dX0_sum_28 (by decide) (fun _ => ?_) (fun h => absurd h (by decide))
    refine lv_aload hx hb dX0_sum_39 (lv_at hl 0 rfl) ?_
    refine gv_get hc (hO.gap hi).kd.1 (hW.gp hi) 6 (by decide) q332 rfl dX0_sum_41 ?_
    refine lv_if_eq (tgt := 51) hx hb dX0_sum_44 (by decide) (fun c_529 => ?_) (fun c_529 => ?_)
    · refine lv_iload_n hx hb dX0_sum_51 rfl (lv_at hl 3 rfl) ?_
      refine lv_iconst (v := 2) hx hb dX0_sum_52 (by decide) ?_
      refine lv_icmp_ne (tgt := 60) hx hb dX0_sum_53 (by decide) (fun _ => ?_) (fun h => absurd h (by decide))
      refine lv_aload hx hb dX0_sum_60 (lv_at hl 0 rfl) ?_
      refine gv_get hc (hO.gap hi).kd.1 (hW.gp hi) 5 (by decide) q328 rfl dX0_sum_62 ?_
      refine lv_iadd hx hb dX0_sum_65 ?_
      refine lv_istore_n (lv' := [(2, .int ((cnC r i) + (r (gp i 6)))), (4, .ref (ga i)), (3, .int (nI i)), (1, .int 6), (0, .ref (ad 0))]) hx hb dX0_sum_66 rfl hl (by decide) rfl (fun ls hl => ?_)
      refine lv_iinc (v := nI (i + 1)) (lv' := [(3, .int (nI (i + 1))), (2, .int ((cnC r i) + (r (gp i 6)))), (4, .ref (ga i)), (1, .int 6), (0, .ref (ad 0))]) hx hb dX0_sum_67 hl (k := 2) rfl (nI_1 _) (by decide) rfl (fun ls hl => ?_)
      refine lv_goto (tgt := 4) hx hb dX0_sum_70 (by decide) ?_
      refine ih (i + 1) _ ⟨ls, rfl, ?_, hi⟩ (by omega)
      rw [cnC_a c_529]
      exact lv_sub hl [0, 1, 3, 4] rfl
    · refine lv_iconst (v := 0) hx hb dX0_sum_47 (by decide) ?_
      refine lv_goto (tgt := 65) hx hb dX0_sum_48 (by decide) ?_
      refine lv_iadd hx hb dX0_sum_65 ?_
      refine lv_istore_n (lv' := [(2, .int ((cnC r i) + 0)), (4, .ref (ga i)), (3, .int (nI i)), (1, .int 6), (0, .ref (ad 0))]) hx hb dX0_sum_66 rfl hl (by decide) rfl (fun ls hl => ?_)
      refine lv_iinc (v := nI (i + 1)) (lv' := [(3, .int (nI (i + 1))), (2, .int ((cnC r i) + 0)), (4, .ref (ga i)), (1, .int 6), (0, .ref (ad 0))]) hx hb dX0_sum_67 hl (k := 2) rfl (nI_1 _) (by decide) rfl (fun ls hl => ?_)
      refine lv_goto (tgt := 4) hx hb dX0_sum_70 (by decide) ?_
      refine ih (i + 1) _ ⟨ls, rfl, ?_, hi⟩ (by omega)
      rw [cnC_b ((hO.gap hi).2.2.2.2.2.2.2.2.resolve_left c_529)]
      exact lv_sub hl [0, 1, 3, 4] rfl
  · have hiE : N = i := by omega
    subst hiE
    refine lv_iload_n hx hb dX0_sum_4 rfl (lv_at hl 0 rfl) ?_
    refine lv_aload_n hx hb dX0_sum_5 rfl (lv_at hl 3 rfl) ?_
    refine d_get hc hDW 0 (by decide) q161 rfl rfl dX0_sum_6 ?_
    refine h_get hc hW 1 (by decide) rfl q124 rfl rfl dX0_sum_9 ?_
    refine sm_topi (v := nI N) hO.2.2.2.1 ?_
    refine lv_icmp_ge (tgt := 73) hx hb dX0_sum_12 (by decide) (fun _ => ?_) (fun h => absurd (nI_le (by omega) (by omega)) h)
    refine lv_iload_n hx hb dX0_sum_73 rfl (lv_at hl 1 rfl) ?_
    exact ri_R hx hb hr hlk (rfl) dX0_sum_74
theorem nd_X0_count : yX0_count.cls = "SmokeLeans" ∧ yX0_count.cls ≠ "java/lang/invoke/MethodHandle" ∧ yX0_count.cls ≠ "java/lang/invoke/VarHandle" ∧ (parseMethodDescriptor yX0_count.desc).map (fun d => d.parameters.length) = some 1 := by decide +kernel
set_option maxHeartbeats 4000000 in
theorem O_count (l : Launch) {G : GD} {A : Nat → Prop} {f : Nat → Nat → Int32} {g : Nat → Nat → Int64} {xo hk ht : Nat} {H0 : Heap} (hF : FG G) (hC : DC G A f g xo hk ht H0) (hAb : ∀ q, H0.size ≤ q → A q) (x : Int32) : MetH l G yX0_count cX0_count 3 (some .int) [((0), (51), (88), (1)), ((52), (59), (88), (1)), ((60), (64), (88), (1)), ((65), (72), (88), (1)), ((73), (78), (88), (1)), ((79), (88), (88), (1))] 5 100 1000 A [.ref xo, .int x] H0 (some (.int (countM f x).1)) (fun H => DC G A (countM f x).2 g xo hk ht H) := by
  refine mw_of (hh := [((0), (51), (88), (1)), ((52), (59), (88), (1)), ((60), (64), (88), (1)), ((65), (72), (88), (1)), ((73), (78), (88), (1)), ((79), (88), (88), (1))]) (by decide) (Nat.le_of_ble_eq_true rfl) ?_
  intro p e s m below meth c hx hb hr hc hlk hnm htab hs0 ls hl
  subst hs0
  have hown := hc.2.2.2.1
  have hts := hc.2.2.2.2.1
  have hK := hc.2.2.2.2.2
  obtain ⟨b, ad, ah, ga, N, R, rfl, hO, hDW, ⟨u, hv, hcok, hW⟩, hdj⟩ := hC
  have hl : lv_has ls 3 [(0, .ref (ad 0)), (1, .int x)] := hl
  have hS : va_S A s.heap s.heap [] := va_S.rf
  have hN20 := hO.2.1
  have hHA : ∀ q, HR N ah ga q → A q := fun q h => HR.mem hW h
  have hW0 := hW
  by_cases k_0 : x = 0
  · subst k_0
    refine lv_iload_n hx hb dX0_count_0 rfl (lv_at hl 1 rfl) ?_
    refine lv_tableIn (off := 43) (tgt := 44) hx hb dX0_count_1 (by decide) (by decide) (by rfl) (by decide) ?_
    refine lv_aload_n hx hb dX0_count_44 rfl (lv_at hl 0 rfl) ?_
    refine d_get hc hDW 0 (by decide) q161 rfl rfl dX0_count_45 ?_
    refine h_get hc hW 0 (by decide) rfl q121 rfl rfl dX0_count_48 ?_
    refine sm_topi (v := nI R) hO.2.2.1 ?_
    have hsp_530 : countM f 0 = (nI R, f) := by exact Prod.ext hO.2.2.1 rfl
    refine w_more (cells' := 100) (slots' := 1000) (Nat.le_of_ble_eq_true rfl) (Nat.le_of_ble_eq_true rfl) ?_
    exact ri_W hx hb hr hlk hS (by rw [hsp_530]) (by rw [hsp_530]; exact DC.mk' rfl hO hDW hcok hW hdj) dX0_count_51
  · by_cases k_1 : x = 1
    · subst k_1
      refine lv_iload_n hx hb dX0_count_0 rfl (lv_at hl 1 rfl) ?_
      refine lv_tableIn (off := 51) (tgt := 52) hx hb dX0_count_1 (by decide) (by decide) (by rfl) (by decide) ?_
      refine lv_aload_n hx hb dX0_count_52 rfl (lv_at hl 0 rfl) ?_
      refine d_get hc hDW 0 (by decide) q161 rfl rfl dX0_count_53 ?_
      refine h_get hc hW 1 (by decide) rfl q124 rfl rfl dX0_count_56 ?_
      refine sm_topi (v := nI N) hO.2.2.2.1 ?_
      have hsp_531 : countM f 1 = (nI N, f) := by exact Prod.ext hO.2.2.2.1 rfl
      refine w_more (cells' := 100) (slots' := 1000) (Nat.le_of_ble_eq_true rfl) (Nat.le_of_ble_eq_true rfl) ?_
      exact ri_W hx hb hr hlk hS (by rw [hsp_531]) (by rw [hsp_531]; exact DC.mk' rfl hO hDW hcok hW hdj) dX0_count_59
    · by_cases k_2 : x = 2
      · subst k_2
        refine lv_iload_n hx hb dX0_count_0 rfl (lv_at hl 1 rfl) ?_
        refine lv_tableIn (off := 72) (tgt := 73) hx hb dX0_count_1 (by decide) (by decide) (by rfl) (by decide) ?_
        refine lv_aload_n hx hb dX0_count_73 rfl (lv_at hl 0 rfl) ?_
        refine lv_iload_n hx hb dX0_count_74 rfl (lv_at hl 1 rfl) ?_
        refine cv_R1 (rest := []) hc (D_sum2 l hDW hW hF hO) (lw_V q984 q986 qs27 q67 q987) nd_X0_sum ⟨Nat.le_of_ble_eq_true rfl, Nat.le_of_ble_eq_true rfl⟩ (DW.recv hK hDW) rfl hl.1 rfl (Nat.le_of_ble_eq_true rfl) dX0_count_75 ⟨Nat.le_of_ble_eq_true rfl, Nat.le_of_ble_eq_true rfl⟩ ?_
        have hsp_532 : countM f 2 = (cnO (f 0) N, f) := by show (cnO (f 0) (f 0 1).toNatClampNeg, f) = _; rw [hO.cl1]
        refine w_more (cells' := 100) (slots' := 1000) (Nat.le_of_ble_eq_true rfl) (Nat.le_of_ble_eq_true rfl) ?_
        exact ri_W hx hb hr hlk hS (by rw [hsp_532]) (by rw [hsp_532]; exact DC.mk' rfl hO hDW hcok hW hdj) dX0_count_78
      · by_cases k_3 : x = 3
        · subst k_3
          refine lv_iload_n hx hb dX0_count_0 rfl (lv_at hl 1 rfl) ?_
          refine lv_tableIn (off := 59) (tgt := 60) hx hb dX0_count_1 (by decide) (by decide) (by rfl) (by decide) ?_
          refine lv_aload_n hx hb dX0_count_60 rfl (lv_at hl 0 rfl) ?_
          refine d_get hc hDW 5 (by decide) q166 rfl rfl dX0_count_61 ?_
          have hsp_533 : countM f 3 = (f 6 0, f) := by rfl
          refine w_more (cells' := 100) (slots' := 1000) (Nat.le_of_ble_eq_true rfl) (Nat.le_of_ble_eq_true rfl) ?_
          exact ri_W hx hb hr hlk hS (by rw [hsp_533]) (by rw [hsp_533]; exact DC.mk' rfl hO hDW hcok hW hdj) dX0_count_64
        · by_cases k_4 : x = 4
          · subst k_4
            refine lv_iload_n hx hb dX0_count_0 rfl (lv_at hl 1 rfl) ?_
            refine lv_tableIn (off := 64) (tgt := 65) hx hb dX0_count_1 (by decide) (by decide) (by rfl) (by decide) ?_
            refine lv_aload_n hx hb dX0_count_65 rfl (lv_at hl 0 rfl) ?_
            refine d_get hc hDW 0 (by decide) q161 rfl rfl dX0_count_66 ?_
            refine h_get hc hW 4 (by decide) rfl q132 rfl rfl dX0_count_69 ?_
            have hsp_534 : countM f 4 = ((f 0) 8, f) := by rfl
            refine w_more (cells' := 100) (slots' := 1000) (Nat.le_of_ble_eq_true rfl) (Nat.le_of_ble_eq_true rfl) ?_
            exact ri_W hx hb hr hlk hS (by rw [hsp_534]) (by rw [hsp_534]; exact DC.mk' rfl hO hDW hcok hW hdj) dX0_count_72
          · by_cases k_5 : x = 5
            · subst k_5
              refine lv_iload_n hx hb dX0_count_0 rfl (lv_at hl 1 rfl) ?_
              refine lv_tableIn (off := 72) (tgt := 73) hx hb dX0_count_1 (by decide) (by decide) (by rfl) (by decide) ?_
              refine lv_aload_n hx hb dX0_count_73 rfl (lv_at hl 0 rfl) ?_
              refine lv_iload_n hx hb dX0_count_74 rfl (lv_at hl 1 rfl) ?_
              refine cv_R1 (rest := []) hc (D_sum5 l hDW hW hF hO) (lw_V q984 q986 qs27 q67 q987) nd_X0_sum ⟨Nat.le_of_ble_eq_true rfl, Nat.le_of_ble_eq_true rfl⟩ (DW.recv hK hDW) rfl hl.1 rfl (Nat.le_of_ble_eq_true rfl) dX0_count_75 ⟨Nat.le_of_ble_eq_true rfl, Nat.le_of_ble_eq_true rfl⟩ ?_
              have hsp_535 : countM f 5 = (cnW (f 0) N, f) := by show (cnW (f 0) (f 0 1).toNatClampNeg, f) = _; rw [hO.cl1]
              refine w_more (cells' := 100) (slots' := 1000) (Nat.le_of_ble_eq_true rfl) (Nat.le_of_ble_eq_true rfl) ?_
              exact ri_W hx hb hr hlk hS (by rw [hsp_535]) (by rw [hsp_535]; exact DC.mk' rfl hO hDW hcok hW hdj) dX0_count_78
            · by_cases k_6 : x = 6
              · subst k_6
                refine lv_iload_n hx hb dX0_count_0 rfl (lv_at hl 1 rfl) ?_
                refine lv_tableIn (off := 72) (tgt := 73) hx hb dX0_count_1 (by decide) (by decide) (by rfl) (by decide) ?_
                refine lv_aload_n hx hb dX0_count_73 rfl (lv_at hl 0 rfl) ?_
                refine lv_iload_n hx hb dX0_count_74 rfl (lv_at hl 1 rfl) ?_
                refine cv_R1 (rest := []) hc (D_sum6 l hDW hW hF hO) (lw_V q984 q986 qs27 q67 q987) nd_X0_sum ⟨Nat.le_of_ble_eq_true rfl, Nat.le_of_ble_eq_true rfl⟩ (DW.recv hK hDW) rfl hl.1 rfl (Nat.le_of_ble_eq_true rfl) dX0_count_75 ⟨Nat.le_of_ble_eq_true rfl, Nat.le_of_ble_eq_true rfl⟩ ?_
                have hsp_536 : countM f 6 = (cnC (f 0) N, f) := by show (cnC (f 0) (f 0 1).toNatClampNeg, f) = _; rw [hO.cl1]
                refine w_more (cells' := 100) (slots' := 1000) (Nat.le_of_ble_eq_true rfl) (Nat.le_of_ble_eq_true rfl) ?_
                exact ri_W hx hb hr hlk hS (by rw [hsp_536]) (by rw [hsp_536]; exact DC.mk' rfl hO hDW hcok hW hdj) dX0_count_78
              · refine lv_iload_n hx hb dX0_count_0 rfl (lv_at hl 1 rfl) ?_
                refine lv_tableOut (tgt := 79) hx hb dX0_count_1 (by have t_0 : x.toInt ≠ 0 := ne_toInt (k := 0) k_0; have t_1 : x.toInt ≠ 1 := ne_toInt (k := 1) k_1; have t_2 : x.toInt ≠ 2 := ne_toInt (k := 2) k_2; have t_3 : x.toInt ≠ 3 := ne_toInt (k := 3) k_3; have t_4 : x.toInt ≠ 4 := ne_toInt (k := 4) k_4; have t_5 : x.toInt ≠ 5 := ne_toInt (k := 5) k_5; have t_6 : x.toInt ≠ 6 := ne_toInt (k := 6) k_6; omega) (by decide) ?_
                refine a_new (ci := 4) hc hS in_X4 tyX4 tyX4_ok q206 q210 q73 rfl efs_0 (Nat.le_of_ble_eq_true rfl) (Nat.le_of_ble_eq_true rfl) dX0_count_79 (fun H hat hS z o1 => ?_)
                refine lv_dup hx hb dX0_count_82 rfl ?_
                refine lv_iconst (v := 0) hx hb dX0_count_83 (by decide) ?_
                have hDW0 := hDW
                have hDW := hDW.aftM (H1 := H) (fun q hq _ => o1 q hq)
                have hW := hW.aftM (H1 := H) (fun q hq _ => o1 q hq)
                refine ci_W (rest := [.ref s.heap.size]) hc (M_X4_init l hF.1 hat hDW0.gle hDW.2.1 0) q247 q248 q73 q249 rfl nd_X4_init ⟨Nat.le_of_ble_eq_true rfl, Nat.le_of_ble_eq_true rfl⟩ rfl hl.1 rfl (Nat.le_of_ble_eq_true rfl) dX0_count_84 ⟨Nat.le_of_ble_eq_true rfl, Nat.le_of_ble_eq_true rfl⟩ hS (fun q h => by rw [h]; exact hAb _ (Nat.le_refl _)) (fun H2 locs hq hS hz hk1 => ?_)
                have hex := hq.1
                have hne : s.heap.size ≠ ad 3 := by have := hDW0.lt (r := 3) (fun z => by cases z); omega
                have hdn : ∀ q, dEnc G f g b (ah 0) hk ht ad q ≠ none → ad q ≠ s.heap.size := fun q hq => by have := hDW0.lt hq; omega
                have hhn : ∀ q, HR N ah ga q → q ≠ s.heap.size := fun q hq => by have := HR.lt hW0 hq; omega
                have hDW : DW G A f g b (ah 0) hk ht ad H2 := hDW.aft (S := fun q => q = s.heap.size) hDW.gle hk1 (fun q h => by rw [h]; exact hDW0.gle) hdn
                have hW : HW G A N (f 0) u hv ah ga H2 := hW.aft (S := fun q => q = s.heap.size) hW.gle hk1 (fun q h => by rw [h]; exact hDW0.gle) (fun q h => hhn _ ⟨q, hE_some h, rfl⟩)
                refine a_throw hx hb dX0_count_87 ?_
                refine ct_find (pre := [⟨0, 51, 88, 1⟩, ⟨52, 59, 88, 1⟩, ⟨60, 64, 88, 1⟩, ⟨65, 72, 88, 1⟩, ⟨73, 78, 88, 1⟩]) (post := []) (y := ⟨79, 88, 88, 1⟩) hc htab (by decide) (by decide) rfl hex ?_
                refine lv_astore_n (lv' := [(2, .ref s.heap.size), (0, .ref (ad 0)), (1, .int x)]) hx hb dX0_count_88 rfl hl (by decide) rfl (fun ls hl => ?_)
                refine lv_aload_n hx hb dX0_count_89 rfl (lv_at hl 1 rfl) ?_
                refine lv_aload_n hx hb dX0_count_90 rfl (lv_at hl 0 rfl) ?_
                refine cv_W1 (rest := []) hc (D_X0finds l hDW hex hne (k := 0) rfl (by decide)) (lw_V q277 q279 qs1 q67 q280) nd_X0_finds ⟨Nat.le_of_ble_eq_true rfl, Nat.le_of_ble_eq_true rfl⟩ (DW.recv hK hDW) rfl hl.1 rfl (Nat.le_of_ble_eq_true rfl) dX0_count_91 ⟨Nat.le_of_ble_eq_true rfl, Nat.le_of_ble_eq_true rfl⟩ hS (fun _ h => h) (fun H locs hq hS hz hk1 => ?_)
                obtain ⟨hDW, hf3⟩ := hq
                have hW := hW.aftD (hdj 3 (Or.inl (by decide))) (hDW.1 _ (hDW.mem (r := 3) rfl)) hf3
                have hsp_537 : countM f x = (-1000000001, cntP f 0) := by unfold countM; rw [if_neg k_0, if_neg k_1, if_neg k_2, if_neg k_3, if_neg k_4, if_neg k_5, if_neg k_6]
                refine w_more (cells' := 100) (slots' := 1000) (Nat.le_of_ble_eq_true rfl) (Nat.le_of_ble_eq_true rfl) ?_
                exact ri_W hx hb hr hlk hS (by rw [hsp_537]; show (-1000000001 - 0 : Int32) = -1000000001; decide) (by rw [hsp_537]; exact DC.mk' rfl hO hDW hcok hW hdj) dX0_count_94
