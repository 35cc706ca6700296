/-! the desk, 5: of, gap -/
set_option maxRecDepth 100000
def moV (r : Nat → Int32) (i : Nat) (w : Int32) : Int32 := if w = 5 then r (gp i 5) else if w = 6 then r (gp i 6) else if w = 7 then r (gp i 7) else if w = 8 then breadthP r i else pushP r i
theorem nd_X0_more : yX0_more.cls = "SmokeLeans" ∧ yX0_more.cls ≠ "java/lang/invoke/MethodHandle" ∧ yX0_more.cls ≠ "java/lang/invoke/VarHandle" ∧ (parseMethodDescriptor yX0_more.desc).map (fun d => d.parameters.length) = some 3 := by decide +kernel
set_option maxHeartbeats 4000000 in
theorem D_more (l : Launch) {G : GD} {A : Nat → Prop} {f b : Nat → Nat → Int32} {g : Nat → Nat → Int64} {hk ht N : Nat} {ad ah ga : Nat → Nat} {r : Nat → Int32} {u : Nat → Nat → Int32} {hv : Nat → Value} {H0 : Heap} (hDW : DW G A f g b (ah 0) hk ht ad H0) (hW : HW G A N r u hv ah ga H0) {R : Nat} (hF : FG G) (hO : OkN r R N) (i : Nat) (hi : i < N) (z : Int32) : MetR l G yX0_more cX0_more 4 (some .int) 4 [.ref (ad 0), .ref (ga i), .int (nI i), .int z] H0 (some (.int (moV r i z))) := by
  refine mx_of (by decide) (Nat.le_of_ble_eq_true rfl) ?_
  intro p e s m below meth c hx hb hr hc hlk hnm hs0 ls hl
  subst hs0
  have hown := hc.2.2.2.1
  have hts := hc.2.2.2.2.1
  have hK := hc.2.2.2.2.2
  have hl : lv_has ls 4 [(0, .ref (ad 0)), (1, .ref (ga i)), (2, .int (nI i)), (3, .int z)] := hl
  have hN20 := hO.2.1
  by_cases k_0 : z = 5
  · subst k_0
    refine lv_iload_n hx hb dX0_more_0 rfl (lv_at hl 3 rfl) ?_
    refine lv_tableIn (off := 31) (tgt := 32) hx hb dX0_more_1 (by decide) (by decide) (by rfl) (by decide) ?_
    refine lv_aload_n hx hb dX0_more_32 rfl (lv_at hl 1 rfl) ?_
    refine gv_get hc (hO.gap hi).kd.1 (hW.gp hi) 4 (by decide) q326 rfl dX0_more_33 ?_
    exact ri_R hx hb hr hlk (rfl) dX0_more_36
  · by_cases k_1 : z = 6
    · subst k_1
      refine lv_iload_n hx hb dX0_more_0 rfl (lv_at hl 3 rfl) ?_
      refine lv_tableIn (off := 36) (tgt := 37) hx hb dX0_more_1 (by decide) (by decide) (by rfl) (by decide) ?_
      refine lv_aload_n hx hb dX0_more_37 rfl (lv_at hl 1 rfl) ?_
      refine gv_get hc (hO.gap hi).kd.1 (hW.gp hi) 5 (by decide) q328 rfl dX0_more_38 ?_
      exact ri_R hx hb hr hlk (rfl) dX0_more_41
    · by_cases k_2 : z = 7
      · subst k_2
        refine lv_iload_n hx hb dX0_more_0 rfl (lv_at hl 3 rfl) ?_
        refine lv_tableIn (off := 41) (tgt := 42) hx hb dX0_more_1 (by decide) (by decide) (by rfl) (by decide) ?_
        refine lv_aload_n hx hb dX0_more_42 rfl (lv_at hl 1 rfl) ?_
        refine gv_get hc (hO.gap hi).kd.1 (hW.gp hi) 6 (by decide) q332 rfl dX0_more_43 ?_
        refine lv_if_eq (tgt := 53) hx hb dX0_more_46 (by decide) (fun c_538 => ?_) (fun c_538 => ?_)
        · refine lv_iconst (v := 0) hx hb dX0_more_53 (by decide) ?_
          exact ri_R hx hb hr hlk (c_538.symm) dX0_more_54
        · refine lv_iconst (v := 1) hx hb dX0_more_49 (by decide) ?_
          refine lv_goto (tgt := 54) hx hb dX0_more_50 (by decide) ?_
          exact ri_R hx hb hr hlk (((hO.gap hi).2.2.2.2.2.2.2.2.resolve_left c_538).symm) dX0_more_54
      · by_cases k_3 : z = 8
        · subst k_3
          refine lv_iload_n hx hb dX0_more_0 rfl (lv_at hl 3 rfl) ?_
          refine lv_tableIn (off := 54) (tgt := 55) hx hb dX0_more_1 (by decide) (by decide) (by rfl) (by decide) ?_
          refine lv_aload_n hx hb dX0_more_55 rfl (lv_at hl 0 rfl) ?_
          refine d_get hc hDW 0 (by decide) q161 rfl rfl dX0_more_56 ?_
          refine lv_iload_n hx hb dX0_more_59 rfl (lv_at hl 2 rfl) ?_
          refine cv_R1 (rest := []) hc (D_hbreadth l hF hW hO i hi) (lw_V q462 q463 q464 q68 q465) nd_X1_breadth ⟨Nat.le_of_ble_eq_true rfl, Nat.le_of_ble_eq_true rfl⟩ (HW.recv hK hW) rfl hl.1 rfl (Nat.le_of_ble_eq_true rfl) dX0_more_60 ⟨Nat.le_of_ble_eq_true rfl, Nat.le_of_ble_eq_true rfl⟩ ?_
          exact ri_R hx hb hr hlk (rfl) dX0_more_63
        · refine lv_iload_n hx hb dX0_more_0 rfl (lv_at hl 3 rfl) ?_
          refine lv_tableOut (tgt := 64) hx hb dX0_more_1 (by have t_0 : z.toInt ≠ 5 := ne_toInt (k := 5) k_0; have t_1 : z.toInt ≠ 6 := ne_toInt (k := 6) k_1; have t_2 : z.toInt ≠ 7 := ne_toInt (k := 7) k_2; have t_3 : z.toInt ≠ 8 := ne_toInt (k := 8) k_3; omega) (by decide) ?_
          refine lv_aload_n hx hb dX0_more_64 rfl (lv_at hl 1 rfl) ?_
          refine gv_get hc (hO.gap hi).kd.1 (hW.gp hi) 1 (by decide) q318 rfl dX0_more_65 ?_
          refine lv_iconst (v := (-1)) hx hb dX0_more_68 (by decide) ?_
          refine lv_icmp_ne (tgt := 86) hx hb dX0_more_69 (by decide) (fun c_539 => ?_) (fun c_539 => ?_)
          · refine lv_iconst (v := 0) hx hb dX0_more_86 (by decide) ?_
            exact ri_R hx hb hr hlk (by rw [moV, if_neg k_0, if_neg k_1, if_neg k_2, if_neg k_3]; rw [pushP, if_neg c_539]) dX0_more_87
          · refine lv_aload_n hx hb dX0_more_72 rfl (lv_at hl 1 rfl) ?_
            refine lv_aload_n hx hb dX0_more_73 rfl (lv_at hl 0 rfl) ?_
            refine d_get hc hDW 0 (by decide) q161 rfl rfl dX0_more_74 ?_
            refine h_get hc hW 3 (by decide) rfl q130 rfl rfl dX0_more_77 ?_
            refine gv_push (rest := []) hc q485 hF.2.1 hW.nt (hO.gap hi).kd.1 (hW.gp hi) ⟨Nat.le_of_ble_eq_true rfl, Nat.le_of_ble_eq_true rfl⟩ hl.1 (Nat.le_of_ble_eq_true rfl) dX0_more_80 ⟨Nat.le_of_ble_eq_true rfl, Nat.le_of_ble_eq_true rfl⟩ (sm_topi (v := pushP r i) (psK_eq hO hi c_539) ?_)
            refine lv_goto (tgt := 87) hx hb dX0_more_83 (by decide) ?_
            exact ri_R hx hb hr hlk (by rw [moV, if_neg k_0, if_neg k_1, if_neg k_2, if_neg k_3]) dX0_more_87
theorem nd_X0_of : yX0_of.cls = "SmokeLeans" ∧ yX0_of.cls ≠ "java/lang/invoke/MethodHandle" ∧ yX0_of.cls ≠ "java/lang/invoke/VarHandle" ∧ (parseMethodDescriptor yX0_of.desc).map (fun d => d.parameters.length) = some 2 := by decide +kernel
set_option maxHeartbeats 4000000 in
theorem O_of (l : Launch) {G : GD} {A : Nat → Prop} {f : Nat → Nat → Int32} {g : Nat → Nat → Int64} {xo hk ht : Nat} {H0 : Heap} (hF : FG G) (hC : DC G A f g xo hk ht H0) (hAb : ∀ q, H0.size ≤ q → A q) (x z : Int32) : MetH l G yX0_of cX0_of 4 (some .int) [((0), (76), (105), (1)), ((77), (81), (105), (1)), ((82), (86), (105), (1)), ((87), (91), (105), (1)), ((92), (96), (105), (1)), ((97), (104), (105), (1))] 6 100 1000 A [.ref xo, .int x, .int z] H0 (some (.int (ofM f x z).1)) (fun H => DC G A (ofM f x z).2 g xo hk ht H) := by
  refine mw_of (hh := [((0), (76), (105), (1)), ((77), (81), (105), (1)), ((82), (86), (105), (1)), ((87), (91), (105), (1)), ((92), (96), (105), (1)), ((97), (104), (105), (1))]) (by decide) (Nat.le_of_ble_eq_true rfl) ?_
  intro p e s m below meth c hx hb hr hc hlk hnm htab hs0 ls hl
  subst hs0
  have hown := hc.2.2.2.1
  have hts := hc.2.2.2.2.1
  have hK := hc.2.2.2.2.2
  obtain ⟨b, ad, ah, ga, N, R, rfl, hO, hDW, ⟨u, hv, hcok, hW⟩, hdj⟩ := hC
  have hl : lv_has ls 4 [(0, .ref (ad 0)), (1, .int x), (2, .int z)] := hl
  have hS : va_S A s.heap s.heap [] := va_S.rf
  have hN20 := hO.2.1
  have hHA : ∀ q, HR N ah ga q → A q := fun q h => HR.mem hW h
  refine lv_aload_n hx hb dX0_of_0 rfl (lv_at hl 0 rfl) ?_
  refine lv_iload_n hx hb dX0_of_1 rfl (lv_at hl 1 rfl) ?_
  refine cv_R1 (rest := []) hc (D_isGap l hDW hW x) (lw_V q423 q425 qs3 q67 q426) nd_X0_isGap ⟨Nat.le_of_ble_eq_true rfl, Nat.le_of_ble_eq_true rfl⟩ (DW.recv hK hDW) rfl hl.1 rfl (Nat.le_of_ble_eq_true rfl) dX0_of_2 ⟨Nat.le_of_ble_eq_true rfl, Nat.le_of_ble_eq_true rfl⟩ ?_
  refine bi_eq (tgt := 24) hx hb dX0_of_5 (by decide) (fun c_540 => ?_) (fun c_540 => ?_)
  · refine lv_iconst (v := 0) hx hb dX0_of_24 (by decide) ?_
    refine lv_iconst (v := 0) hx hb dX0_of_25 (by decide) ?_
    refine cs_T (rest := []) hc (D_need_no l hF.1 hDW.2.1 hDW.gle (x := 0) rfl 0) q207 q208 q67 q209 nd_X0_need ⟨Nat.le_of_ble_eq_true rfl, Nat.le_of_ble_eq_true rfl⟩ rfl hl.1 rfl (Nat.le_of_ble_eq_true rfl) dX0_of_26 ⟨Nat.le_of_ble_eq_true rfl, Nat.le_of_ble_eq_true rfl⟩ hS (fun q h => hAb q (Nat.le_trans hS.1 h)) (fun ex H locs hq hS hz hk1 => ?_)
    obtain ⟨hexn, hex, hsz⟩ := hq
    have hne : ex ≠ ad 3 := by have := hDW.lt (r := 3) (fun z => by cases z); omega
    have hDW := hDW.aftM hk1
    have hW := hW.aftM hk1
    refine ct_find (pre := []) (post := [⟨77, 81, 105, 1⟩, ⟨82, 86, 105, 1⟩, ⟨87, 91, 105, 1⟩, ⟨92, 96, 105, 1⟩, ⟨97, 104, 105, 1⟩]) (y := ⟨0, 76, 105, 1⟩) hc htab (by decide) (by decide) rfl hex ?_
    refine lv_astore_n (lv' := [(3, .ref ex), (0, .ref (ad 0)), (1, .int x), (2, .int z)]) hx hb dX0_of_105 rfl hl (by decide) rfl (fun ls hl => ?_)
    refine lv_aload_n hx hb dX0_of_106 rfl (lv_at hl 1 rfl) ?_
    refine lv_aload_n hx hb dX0_of_107 rfl (lv_at hl 0 rfl) ?_
    refine cv_W1 (rest := []) hc (D_X0finds l hDW hex hne (k := 0) rfl (by decide)) (lw_V q277 q279 qs1 q67 q280) nd_X0_finds ⟨Nat.le_of_ble_eq_true rfl, Nat.le_of_ble_eq_true rfl⟩ (DW.recv hK hDW) rfl hl.1 rfl (Nat.le_of_ble_eq_true rfl) dX0_of_108 ⟨Nat.le_of_ble_eq_true rfl, Nat.le_of_ble_eq_true rfl⟩ hS (fun _ h => h) (fun H locs hq hS hz hk1 => ?_)
    obtain ⟨hDW, hf3⟩ := hq
    have hW := hW.aftD (hdj 3 (Or.inl (by decide))) (hDW.1 _ (hDW.mem (r := 3) rfl)) hf3
    have hsp_541 : ofM f x z = (-1000000001, cntP f 0) := by unfold ofM; rw [if_neg c_540]
    refine w_more (cells' := 100) (slots' := 1000) (Nat.le_of_ble_eq_true rfl) (Nat.le_of_ble_eq_true rfl) ?_
    exact ri_W hx hb hr hlk hS (by rw [hsp_541]; show (-1000000001 - 0 : Int32) = -1000000001; decide) (by rw [hsp_541]; exact DC.mk' rfl hO hDW hcok hW hdj) dX0_of_111
  · refine lv_iload_n hx hb dX0_of_8 rfl (lv_at hl 2 rfl) ?_
    refine lv_i2l hx hb dX0_of_9 rfl ?_
    refine lv_lconst (v := (0 : Int32).toInt64) hx hb dX0_of_10 (by decide) ?_
    refine lv_ldc2 (v := 9) hx hb hown (hts _ q427) dX0_of_11 (sm_topl (v := (9 : Int32).toInt64) (by decide) ?_)
    refine cs_R1 (rest := []) hc (D_in32 l z 0 9) (lw_S q294 q295 q67 q296) nd_X0_in ⟨Nat.le_of_ble_eq_true rfl, Nat.le_of_ble_eq_true rfl⟩ rfl hl.1 rfl (Nat.le_of_ble_eq_true rfl) dX0_of_14 ⟨Nat.le_of_ble_eq_true rfl, Nat.le_of_ble_eq_true rfl⟩ ?_
    refine bi_eq (tgt := 24) hx hb dX0_of_17 (by decide) (fun c_542 => ?_) (fun c_542 => ?_)
    · refine lv_iconst (v := 0) hx hb dX0_of_24 (by decide) ?_
      refine lv_iconst (v := 0) hx hb dX0_of_25 (by decide) ?_
      refine cs_T (rest := []) hc (D_need_no l hF.1 hDW.2.1 hDW.gle (x := 0) rfl 0) q207 q208 q67 q209 nd_X0_need ⟨Nat.le_of_ble_eq_true rfl, Nat.le_of_ble_eq_true rfl⟩ rfl hl.1 rfl (Nat.le_of_ble_eq_true rfl) dX0_of_26 ⟨Nat.le_of_ble_eq_true rfl, Nat.le_of_ble_eq_true rfl⟩ hS (fun q h => hAb q (Nat.le_trans hS.1 h)) (fun ex H locs hq hS hz hk1 => ?_)
      obtain ⟨hexn, hex, hsz⟩ := hq
      have hne : ex ≠ ad 3 := by have := hDW.lt (r := 3) (fun z => by cases z); omega
      have hDW := hDW.aftM hk1
      have hW := hW.aftM hk1
      refine ct_find (pre := []) (post := [⟨77, 81, 105, 1⟩, ⟨82, 86, 105, 1⟩, ⟨87, 91, 105, 1⟩, ⟨92, 96, 105, 1⟩, ⟨97, 104, 105, 1⟩]) (y := ⟨0, 76, 105, 1⟩) hc htab (by decide) (by decide) rfl hex ?_
      refine lv_astore_n (lv' := [(3, .ref ex), (0, .ref (ad 0)), (1, .int x), (2, .int z)]) hx hb dX0_of_105 rfl hl (by decide) rfl (fun ls hl => ?_)
      refine lv_aload_n hx hb dX0_of_106 rfl (lv_at hl 1 rfl) ?_
      refine lv_aload_n hx hb dX0_of_107 rfl (lv_at hl 0 rfl) ?_
      refine cv_W1 (rest := []) hc (D_X0finds l hDW hex hne (k := 0) rfl (by decide)) (lw_V q277 q279 qs1 q67 q280) nd_X0_finds ⟨Nat.le_of_ble_eq_true rfl, Nat.le_of_ble_eq_true rfl⟩ (DW.recv hK hDW) rfl hl.1 rfl (Nat.le_of_ble_eq_true rfl) dX0_of_108 ⟨Nat.le_of_ble_eq_true rfl, Nat.le_of_ble_eq_true rfl⟩ hS (fun _ h => h) (fun H locs hq hS hz hk1 => ?_)
      obtain ⟨hDW, hf3⟩ := hq
      have hW := hW.aftD (hdj 3 (Or.inl (by decide))) (hDW.1 _ (hDW.mem (r := 3) rfl)) hf3
      have hsp_543 : ofM f x z = (-1000000001, cntP f 0) := by unfold ofM; rw [if_pos c_540, if_neg c_542]
      refine w_more (cells' := 100) (slots' := 1000) (Nat.le_of_ble_eq_true rfl) (Nat.le_of_ble_eq_true rfl) ?_
      exact ri_W hx hb hr hlk hS (by rw [hsp_543]; show (-1000000001 - 0 : Int32) = -1000000001; decide) (by rw [hsp_543]; exact DC.mk' rfl hO hDW hcok hW hdj) dX0_of_111
    · refine lv_iconst (v := 1) hx hb dX0_of_20 (by decide) ?_
      refine lv_goto (tgt := 25) hx hb dX0_of_21 (by decide) ?_
      refine lv_iconst (v := 0) hx hb dX0_of_25 (by decide) ?_
      refine cs_R0 (rest := []) hc (D_need_ok l (by decide) 0) (lw_S q207 q208 q67 q209) nd_X0_need ⟨Nat.le_of_ble_eq_true rfl, Nat.le_of_ble_eq_true rfl⟩ rfl hl.1 rfl (Nat.le_of_ble_eq_true rfl) dX0_of_26 ⟨Nat.le_of_ble_eq_true rfl, Nat.le_of_ble_eq_true rfl⟩ ?_
      obtain ⟨i, hi, rfl⟩ := hO.exGap c_540
      have hcl_i : (nI i).toNatClampNeg = i := nI_clamp (by omega)
      refine lv_aload_n hx hb dX0_of_29 rfl (lv_at hl 0 rfl) ?_
      refine d_get hc hDW 0 (by decide) q161 rfl rfl dX0_of_30 ?_
      refine lv_iload_n hx hb dX0_of_33 rfl (lv_at hl 1 rfl) ?_
      refine cv_R1 (rest := []) hc (D_hgap l hF hW hO i hi) (lw_V q428 q429 q430 q68 q431) nd_X1_gap ⟨Nat.le_of_ble_eq_true rfl, Nat.le_of_ble_eq_true rfl⟩ (HW.recv hK hW) rfl hl.1 rfl (Nat.le_of_ble_eq_true rfl) dX0_of_34 ⟨Nat.le_of_ble_eq_true rfl, Nat.le_of_ble_eq_true rfl⟩ ?_
      obtain ⟨j, hj, rfl⟩ := ex_le 9 (hi := 9) rfl (by decide) c_542.1 c_542.2
      rcases (show j = 0 ∨ j = 1 ∨ j = 2 ∨ j = 3 ∨ j = 4 ∨ j = 5 ∨ j = 6 ∨ j = 7 ∨ j = 8 ∨ j = 9 by omega) with rfl | rfl | rfl | rfl | rfl | rfl | rfl | rfl | rfl | rfl
      · have hl : lv_has ls 4 [(0, .ref (ad 0)), (1, .int (nI i)), (2, .int 0)] := hl
        refine lv_astore_n (lv' := [(3, .ref (ga i)), (0, .ref (ad 0)), (1, .int (nI i)), (2, .int 0)]) hx hb dX0_of_37 rfl hl (by decide) rfl (fun ls hl => ?_)
        refine lv_iload_n hx hb dX0_of_38 rfl (lv_at hl 3 rfl) ?_
        refine lv_tableIn (off := 33) (tgt := 72) hx hb dX0_of_39 (by decide) (by decide) (by rfl) (by decide) ?_
        refine lv_aload_n hx hb dX0_of_72 rfl (lv_at hl 0 rfl) ?_
        refine gv_kind (rest := []) hc q433 (hO.gap hi).kd.1 (hW.gp hi) ⟨Nat.le_of_ble_eq_true rfl, Nat.le_of_ble_eq_true rfl⟩ hl.1 (Nat.le_of_ble_eq_true rfl) dX0_of_73 ⟨Nat.le_of_ble_eq_true rfl, Nat.le_of_ble_eq_true rfl⟩ (sm_topi (v := (f 0) (gp i 0)) (kd_nI (hO.gap hi)) ?_)
        have hsp_544 : ofM f (nI i) (nI 0) = ((f 0) (gp i 0), f) := by show ofM f (nI i) 0 = _; unfold ofM; rw [if_pos c_540, if_pos (show (0 : Int32) ≤ 0 ∧ (0 : Int32) ≤ 9 by decide), hcl_i]; rw [if_neg (show ¬ (8 : Int32) ≤ 0 by decide)]; rfl
        refine w_more (cells' := 100) (slots' := 1000) (Nat.le_of_ble_eq_true rfl) (Nat.le_of_ble_eq_true rfl) ?_
        exact ri_W hx hb hr hlk hS (by rw [hsp_544]) (by rw [hsp_544]; exact DC.mk' rfl hO hDW hcok hW hdj) dX0_of_76
      · have hl : lv_has ls 4 [(0, .ref (ad 0)), (1, .int (nI i)), (2, .int 1)] := hl
        refine lv_astore_n (lv' := [(3, .ref (ga i)), (0, .ref (ad 0)), (1, .int (nI i)), (2, .int 1)]) hx hb dX0_of_37 rfl hl (by decide) rfl (fun ls hl => ?_)
        refine lv_iload_n hx hb dX0_of_38 rfl (lv_at hl 3 rfl) ?_
        refine lv_tableIn (off := 38) (tgt := 77) hx hb dX0_of_39 (by decide) (by decide) (by rfl) (by decide) ?_
        refine lv_aload_n hx hb dX0_of_77 rfl (lv_at hl 0 rfl) ?_
        refine gv_get hc (hO.gap hi).kd.1 (hW.gp hi) 0 (by decide) q313 rfl dX0_of_78 ?_
        have hsp_545 : ofM f (nI i) (nI 1) = ((f 0) (gp i 1), f) := by show ofM f (nI i) 1 = _; unfold ofM; rw [if_pos c_540, if_pos (show (0 : Int32) ≤ 1 ∧ (1 : Int32) ≤ 9 by decide), hcl_i]; rw [if_neg (show ¬ (8 : Int32) ≤ 1 by decide)]; rfl
        refine w_more (cells' := 100) (slots' := 1000) (Nat.le_of_ble_eq_true rfl) (Nat.le_of_ble_eq_true rfl) ?_
        exact ri_W hx hb hr hlk hS (by rw [hsp_545]) (by rw [hsp_545]; exact DC.mk' rfl hO hDW hcok hW hdj) dX0_of_81
      · have hl : lv_has ls 4 [(0, .ref (ad 0)), (1, .int (nI i)), (2, .int 2)] := hl
        refine lv_astore_n (lv' := [(3, .ref (ga i)), (0, .ref (ad 0)), (1, .int (nI i)), (2, .int 2)]) hx hb dX0_of_37 rfl hl (by decide) rfl (fun ls hl => ?_)
        refine lv_iload_n hx hb dX0_of_38 rfl (lv_at hl 3 rfl) ?_
        refine lv_tableIn (off := 43) (tgt := 82) hx hb dX0_of_39 (by decide) (by decide) (by rfl) (by decide) ?_
        refine lv_aload_n hx hb dX0_of_82 rfl (lv_at hl 0 rfl) ?_
        refine gv_get hc (hO.gap hi).kd.1 (hW.gp hi) 1 (by decide) q318 rfl dX0_of_83 ?_
        have hsp_546 : ofM f (nI i) (nI 2) = ((f 0) (gp i 2), f) := by show ofM f (nI i) 2 = _; unfold ofM; rw [if_pos c_540, if_pos (show (0 : Int32) ≤ 2 ∧ (2 : Int32) ≤ 9 by decide), hcl_i]; rw [if_neg (show ¬ (8 : Int32) ≤ 2 by decide)]; rfl
        refine w_more (cells' := 100) (slots' := 1000) (Nat.le_of_ble_eq_true rfl) (Nat.le_of_ble_eq_true rfl) ?_
        exact ri_W hx hb hr hlk hS (by rw [hsp_546]) (by rw [hsp_546]; exact DC.mk' rfl hO hDW hcok hW hdj) dX0_of_86
      · have hl : lv_has ls 4 [(0, .ref (ad 0)), (1, .int (nI i)), (2, .int 3)] := hl
        refine lv_astore_n (lv' := [(3, .ref (ga i)), (0, .ref (ad 0)), (1, .int (nI i)), (2, .int 3)]) hx hb dX0_of_37 rfl hl (by decide) rfl (fun ls hl => ?_)
        refine lv_iload_n hx hb dX0_of_38 rfl (lv_at hl 3 rfl) ?_
        refine lv_tableIn (off := 48) (tgt := 87) hx hb dX0_of_39 (by decide) (by decide) (by rfl) (by decide) ?_
        refine lv_aload_n hx hb dX0_of_87 rfl (lv_at hl 0 rfl) ?_
        refine gv_get hc (hO.gap hi).kd.1 (hW.gp hi) 2 (by decide) q320 rfl dX0_of_88 ?_
        have hsp_547 : ofM f (nI i) (nI 3) = ((f 0) (gp i 3), f) := by show ofM f (nI i) 3 = _; unfold ofM; rw [if_pos c_540, if_pos (show (0 : Int32) ≤ 3 ∧ (3 : Int32) ≤ 9 by decide), hcl_i]; rw [if_neg (show ¬ (8 : Int32) ≤ 3 by decide)]; rfl
        refine w_more (cells' := 100) (slots' := 1000) (Nat.le_of_ble_eq_true rfl) (Nat.le_of_ble_eq_true rfl) ?_
        exact ri_W hx hb hr hlk hS (by rw [hsp_547]) (by rw [hsp_547]; exact DC.mk' rfl hO hDW hcok hW hdj) dX0_of_91
      · have hl : lv_has ls 4 [(0, .ref (ad 0)), (1, .int (nI i)), (2, .int 4)] := hl
        refine lv_astore_n (lv' := [(3, .ref (ga i)), (0, .ref (ad 0)), (1, .int (nI i)), (2, .int 4)]) hx hb dX0_of_37 rfl hl (by decide) rfl (fun ls hl => ?_)
        refine lv_iload_n hx hb dX0_of_38 rfl (lv_at hl 3 rfl) ?_
        refine lv_tableIn (off := 53) (tgt := 92) hx hb dX0_of_39 (by decide) (by decide) (by rfl) (by decide) ?_
        refine lv_aload_n hx hb dX0_of_92 rfl (lv_at hl 0 rfl) ?_
        refine gv_get hc (hO.gap hi).kd.1 (hW.gp hi) 3 (by decide) q322 rfl dX0_of_93 ?_
        have hsp_548 : ofM f (nI i) (nI 4) = ((f 0) (gp i 4), f) := by show ofM f (nI i) 4 = _; unfold ofM; rw [if_pos c_540, if_pos (show (0 : Int32) ≤ 4 ∧ (4 : Int32) ≤ 9 by decide), hcl_i]; rw [if_neg (show ¬ (8 : Int32) ≤ 4 by decide)]; rfl
        refine w_more (cells' := 100) (slots' := 1000) (Nat.le_of_ble_eq_true rfl) (Nat.le_of_ble_eq_true rfl) ?_
        exact ri_W hx hb hr hlk hS (by rw [hsp_548]) (by rw [hsp_548]; exact DC.mk' rfl hO hDW hcok hW hdj) dX0_of_96
      · have hl : lv_has ls 4 [(0, .ref (ad 0)), (1, .int (nI i)), (2, .int 5)] := hl
        refine lv_astore_n (lv' := [(3, .ref (ga i)), (0, .ref (ad 0)), (1, .int (nI i)), (2, .int 5)]) hx hb dX0_of_37 rfl hl (by decide) rfl (fun ls hl => ?_)
        refine lv_iload_n hx hb dX0_of_38 rfl (lv_at hl 3 rfl) ?_
        refine lv_tableOut (tgt := 97) hx hb dX0_of_39 (by decide) (by decide) ?_
        refine lv_aload_n hx hb dX0_of_97 rfl (lv_at hl 1 rfl) ?_
        refine lv_aload_n hx hb dX0_of_98 rfl (lv_at hl 0 rfl) ?_
        refine lv_iload_n hx hb dX0_of_99 rfl (lv_at hl 2 rfl) ?_
        refine lv_iload_n hx hb dX0_of_100 rfl (lv_at hl 3 rfl) ?_
        refine cv_R1 (rest := []) hc (D_more l hDW hW hF hO i hi 5) (lw_V q458 q460 qs4 q67 q461) nd_X0_more ⟨Nat.le_of_ble_eq_true rfl, Nat.le_of_ble_eq_true rfl⟩ (DW.recv hK hDW) rfl hl.1 rfl (Nat.le_of_ble_eq_true rfl) dX0_of_101 ⟨Nat.le_of_ble_eq_true rfl, Nat.le_of_ble_eq_true rfl⟩ ?_
        have hsp_549 : ofM f (nI i) (nI 5) = (moV (f 0) i 5, f) := by show ofM f (nI i) 5 = _; unfold ofM; rw [if_pos c_540, if_pos (show (0 : Int32) ≤ 5 ∧ (5 : Int32) ≤ 9 by decide), hcl_i]; rw [if_neg (show ¬ (8 : Int32) ≤ 5 by decide)]; rfl
        refine w_more (cells' := 100) (slots' := 1000) (Nat.le_of_ble_eq_true rfl) (Nat.le_of_ble_eq_true rfl) ?_
        exact ri_W hx hb hr hlk hS (by rw [hsp_549]) (by rw [hsp_549]; exact DC.mk' rfl hO hDW hcok hW hdj) dX0_of_104
      · have hl : lv_has ls 4 [(0, .ref (ad 0)), (1, .int (nI i)), (2, .int 6)] := hl
        refine lv_astore_n (lv' := [(3, .ref (ga i)), (0, .ref (ad 0)), (1, .int (nI i)), (2, .int 6)]) hx hb dX0_of_37 rfl hl (by decide) rfl (fun ls hl => ?_)
        refine lv_iload_n hx hb dX0_of_38 rfl (lv_at hl 3 rfl) ?_
        refine lv_tableOut (tgt := 97) hx hb dX0_of_39 (by decide) (by decide) ?_
        refine lv_aload_n hx hb dX0_of_97 rfl (lv_at hl 1 rfl) ?_
        refine lv_aload_n hx hb dX0_of_98 rfl (lv_at hl 0 rfl) ?_
        refine lv_iload_n hx hb dX0_of_99 rfl (lv_at hl 2 rfl) ?_
        refine lv_iload_n hx hb dX0_of_100 rfl (lv_at hl 3 rfl) ?_
        refine cv_R1 (rest := []) hc (D_more l hDW hW hF hO i hi 6) (lw_V q458 q460 qs4 q67 q461) nd_X0_more ⟨Nat.le_of_ble_eq_true rfl, Nat.le_of_ble_eq_true rfl⟩ (DW.recv hK hDW) rfl hl.1 rfl (Nat.le_of_ble_eq_true rfl) dX0_of_101 ⟨Nat.le_of_ble_eq_true rfl, Nat.le_of_ble_eq_true rfl⟩ ?_
        have hsp_550 : ofM f (nI i) (nI 6) = (moV (f 0) i 6, f) := by show ofM f (nI i) 6 = _; unfold ofM; rw [if_pos c_540, if_pos (show (0 : Int32) ≤ 6 ∧ (6 : Int32) ≤ 9 by decide), hcl_i]; rw [if_neg (show ¬ (8 : Int32) ≤ 6 by decide)]; rfl
        refine w_more (cells' := 100) (slots' := 1000) (Nat.le_of_ble_eq_true rfl) (Nat.le_of_ble_eq_true rfl) ?_
        exact ri_W hx hb hr hlk hS (by rw [hsp_550]) (by rw [hsp_550]; exact DC.mk' rfl hO hDW hcok hW hdj) dX0_of_104
      · have hl : lv_has ls 4 [(0, .ref (ad 0)), (1, .int (nI i)), (2, .int 7)] := hl
        refine lv_astore_n (lv' := [(3, .ref (ga i)), (0, .ref (ad 0)), (1, .int (nI i)), (2, .int 7)]) hx hb dX0_of_37 rfl hl (by decide) rfl (fun ls hl => ?_)
        refine lv_iload_n hx hb dX0_of_38 rfl (lv_at hl 3 rfl) ?_
        refine lv_tableOut (tgt := 97) hx hb dX0_of_39 (by decide) (by decide) ?_
        refine lv_aload_n hx hb dX0_of_97 rfl (lv_at hl 1 rfl) ?_
        refine lv_aload_n hx hb dX0_of_98 rfl (lv_at hl 0 rfl) ?_
        refine lv_iload_n hx hb dX0_of_99 rfl (lv_at hl 2 rfl) ?_
        refine lv_iload_n hx hb dX0_of_100 rfl (lv_at hl 3 rfl) ?_
        refine cv_R1 (rest := []) hc (D_more l hDW hW hF hO i hi 7) (lw_V q458 q460 qs4 q67 q461) nd_X0_more ⟨Nat.le_of_ble_eq_true rfl, Nat.le_of_ble_eq_true rfl⟩ (DW.recv hK hDW) rfl hl.1 rfl (Nat.le_of_ble_eq_true rfl) dX0_of_101 ⟨Nat.le_of_ble_eq_true rfl, Nat.le_of_ble_eq_true rfl⟩ ?_
        have hsp_551 : ofM f (nI i) (nI 7) = (moV (f 0) i 7, f) := by show ofM f (nI i) 7 = _; unfold ofM; rw [if_pos c_540, if_pos (show (0 : Int32) ≤ 7 ∧ (7 : Int32) ≤ 9 by decide), hcl_i]; rw [if_neg (show ¬ (8 : Int32) ≤ 7 by decide)]; rfl
        refine w_more (cells' := 100) (slots' := 1000) (Nat.le_of_ble_eq_true rfl) (Nat.le_of_ble_eq_true rfl) ?_
        exact ri_W hx hb hr hlk hS (by rw [hsp_551]) (by rw [hsp_551]; exact DC.mk' rfl hO hDW hcok hW hdj) dX0_of_104
      · have hl : lv_has ls 4 [(0, .ref (ad 0)), (1, .int (nI i)), (2, .int 8)] := hl
        refine lv_astore_n (lv' := [(3, .ref (ga i)), (0, .ref (ad 0)), (1, .int (nI i)), (2, .int 8)]) hx hb dX0_of_37 rfl hl (by decide) rfl (fun ls hl => ?_)
        refine lv_iload_n hx hb dX0_of_38 rfl (lv_at hl 3 rfl) ?_
        refine lv_tableOut (tgt := 97) hx hb dX0_of_39 (by decide) (by decide) ?_
        refine lv_aload_n hx hb dX0_of_97 rfl (lv_at hl 1 rfl) ?_
        refine lv_aload_n hx hb dX0_of_98 rfl (lv_at hl 0 rfl) ?_
        refine lv_iload_n hx hb dX0_of_99 rfl (lv_at hl 2 rfl) ?_
        refine lv_iload_n hx hb dX0_of_100 rfl (lv_at hl 3 rfl) ?_
        refine cv_R1 (rest := []) hc (D_more l hDW hW hF hO i hi 8) (lw_V q458 q460 qs4 q67 q461) nd_X0_more ⟨Nat.le_of_ble_eq_true rfl, Nat.le_of_ble_eq_true rfl⟩ (DW.recv hK hDW) rfl hl.1 rfl (Nat.le_of_ble_eq_true rfl) dX0_of_101 ⟨Nat.le_of_ble_eq_true rfl, Nat.le_of_ble_eq_true rfl⟩ ?_
        have hsp_552 : ofM f (nI i) (nI 8) = (moV (f 0) i 8, f) := by show ofM f (nI i) 8 = _; unfold ofM; rw [if_pos c_540, if_pos (show (0 : Int32) ≤ 8 ∧ (8 : Int32) ≤ 9 by decide), hcl_i]; rw [if_pos (show (8 : Int32) ≤ 8 by decide), if_pos rfl]; rfl
        refine w_more (cells' := 100) (slots' := 1000) (Nat.le_of_ble_eq_true rfl) (Nat.le_of_ble_eq_true rfl) ?_
        exact ri_W hx hb hr hlk hS (by rw [hsp_552]) (by rw [hsp_552]; exact DC.mk' rfl hO hDW hcok hW hdj) dX0_of_104
      · have hl : lv_has ls 4 [(0, .ref (ad 0)), (1, .int (nI i)), (2, .int 9)] := hl
        refine lv_astore_n (lv' := [(3, .ref (ga i)), (0, .ref (ad 0)), (1, .int (nI i)), (2, .int 9)]) hx hb dX0_of_37 rfl hl (by decide) rfl (fun ls hl => ?_)
        refine lv_iload_n hx hb dX0_of_38 rfl (lv_at hl 3 rfl) ?_
        refine lv_tableOut (tgt := 97) hx hb dX0_of_39 (by decide) (by decide) ?_
        refine lv_aload_n hx hb dX0_of_97 rfl (lv_at hl 1 rfl) ?_
        refine lv_aload_n hx hb dX0_of_98 rfl (lv_at hl 0 rfl) ?_
        refine lv_iload_n hx hb dX0_of_99 rfl (lv_at hl 2 rfl) ?_
        refine lv_iload_n hx hb dX0_of_100 rfl (lv_at hl 3 rfl) ?_
        refine cv_R1 (rest := []) hc (D_more l hDW hW hF hO i hi 9) (lw_V q458 q460 qs4 q67 q461) nd_X0_more ⟨Nat.le_of_ble_eq_true rfl, Nat.le_of_ble_eq_true rfl⟩ (DW.recv hK hDW) rfl hl.1 rfl (Nat.le_of_ble_eq_true rfl) dX0_of_101 ⟨Nat.le_of_ble_eq_true rfl, Nat.le_of_ble_eq_true rfl⟩ ?_
        have hsp_553 : ofM f (nI i) (nI 9) = (moV (f 0) i 9, f) := by show ofM f (nI i) 9 = _; unfold ofM; rw [if_pos c_540, if_pos (show (0 : Int32) ≤ 9 ∧ (9 : Int32) ≤ 9 by decide), hcl_i]; rw [if_pos (show (8 : Int32) ≤ 9 by decide), if_neg (show ¬ (9 : Int32) = 8 by decide)]; rfl
        refine w_more (cells' := 100) (slots' := 1000) (Nat.le_of_ble_eq_true rfl) (Nat.le_of_ble_eq_true rfl) ?_
        exact ri_W hx hb hr hlk hS (by rw [hsp_553]) (by rw [hsp_553]; exact DC.mk' rfl hO hDW hcok hW hdj) dX0_of_104
theorem ngP_0 {f : Nat → Nat → Int32} {n : Nat} {a0 a1 a2 a3 a4 a5 a6 : Int32} : ngP f n a0 a1 a2 a3 a4 a5 a6 0 = ngR (f 0) n a0 a1 a2 a3 a4 a5 a6 := by
  unfold ngP ngR
  rw [up2_row, up2_row, up2_row, up2_row, up2_row, up2_row, up2_row, up2_row, up2_row]
/-- the row with gap n's numbers, not counted yet -/
def ngH (s : Nat → Int32) (n : Nat) (a0 a1 a2 a3 a4 a5 a6 : Int32) : Nat → Int32 := upd (upd (upd (upd (upd (upd (upd (upd s (gp n 0) a0) (gp n 1) a1) (gp n 2) a2) (gp n 3) a3) (gp n 4) a4) (gp n 5) a5) (gp n 6) a6) (gp n 7) 0
theorem ngR_H {s : Nat → Int32} {n : Nat} {a0 a1 a2 a3 a4 a5 a6 : Int32} : ngR s n a0 a1 a2 a3 a4 a5 a6 = upd (ngH s n a0 a1 a2 a3 a4 a5 a6) 1 (nI (n + 1)) := rfl
section NGH
variable {s : Nat → Int32} {n : Nat} {a0 a1 a2 a3 a4 a5 a6 : Int32}
theorem ngH_lo {j : Nat} (h : j < 9 + 8 * n) : ngH s n a0 a1 a2 a3 a4 a5 a6 j = s j := by
  unfold ngH
  have hg : ∀ b, j ≠ gp n b := fun b => by show j ≠ 9 + 8 * n + b; omega
  rw [upd_ne (hg 7), upd_ne (hg 6), upd_ne (hg 5), upd_ne (hg 4), upd_ne (hg 3), upd_ne (hg 2), upd_ne (hg 1), upd_ne (hg 0)]
theorem ngH_g : gkP (ngH s n a0 a1 a2 a3 a4 a5 a6) n = a0.toNatClampNeg ∧ gfs (ngH s n a0 a1 a2 a3 a4 a5 a6) n = gvF a1 a2 a3 a4 a5 a6 0 := by
  have e : ∀ b, b < 8 → ngH s n a0 a1 a2 a3 a4 a5 a6 (gp n b) = ngR s n a0 a1 a2 a3 a4 a5 a6 (gp n b) := fun b hb => by
    rw [ngR_H, upd_ne (show gp n b ≠ 1 by show 9 + 8 * n + b ≠ 1; omega)]
  unfold gkP gfs gvF
  rw [e 0 (by decide), e 1 (by decide), e 2 (by decide), e 3 (by decide), e 4 (by decide), e 5 (by decide), e 6 (by decide), e 7 (by decide), ngR_g0, ngR_g1, ngR_g2, ngR_g3, ngR_g4, ngR_g5, ngR_g6, ngR_g7]
  exact ⟨rfl, rfl⟩
end NGH
theorem o_wide {o : Int32} (h : ¬ o < 0) : (0 ≤ o / 10000 ∧ o / 10000 ≤ 99) ↔ o ≤ 999999 := by
  obtain ⟨j, hj, rfl⟩ := nI_of h
  have e : nI j / 10000 = nI (j / 10000) := pk_div (d := 10000) hj (by decide) (by decide)
  rw [e]
  have h1 : j / 10000 < 2 ^ 31 := Nat.lt_of_le_of_lt (Nat.div_le_self j 10000) hj
  constructor
  · intro q
    have := (nI_leI h1 (show 99 < 2 ^ 31 by decide)).mp q.2
    exact (nI_leI hj (show 999999 < 2 ^ 31 by decide)).mpr (by omega)
  · intro q
    have := (nI_leI hj (show 999999 < 2 ^ 31 by decide)).mp q
    exact ⟨nI_nn h1, (nI_leI h1 (show 99 < 2 ^ 31 by decide)).mpr (by omega)⟩
theorem o_parts {o : Int32} (h : 0 ≤ o ∧ o ≤ 999999) (h2 : remP (o / 100) 10 ≤ 3) : (∃ w, w < 100 ∧ o / 10000 = nI w) ∧ (∃ w, w < 10 ∧ remP (o / 1000) 10 = nI w) ∧ (∃ w, w < 4 ∧ remP (o / 100) 10 = nI w) ∧ (∃ w, w < 100 ∧ remP o 100 = nI w) := by
  obtain ⟨j, hj, rfl⟩ := ex_le 999999 (hi := 999999) rfl (by decide) h.1 h.2
  have e1 : nI j / 10000 = nI (j / 10000) := pk_div (d := 10000) (by omega) (by decide) (by decide)
  have e2 : nI j / 1000 = nI (j / 1000) := pk_div (d := 1000) (by omega) (by decide) (by decide)
  have e3 : nI j / 100 = nI (j / 100) := pk_div (d := 100) (by omega) (by decide) (by decide)
  have e4 : remP (nI (j / 1000)) 10 = nI (j / 1000 % 10) := pk_rem (d := 10) (by omega) (by decide) (by decide)
  have e5 : remP (nI (j / 100)) 10 = nI (j / 100 % 10) := pk_rem (d := 10) (by omega) (by decide) (by decide)
  have e6 : remP (nI j) 100 = nI (j % 100) := pk_rem (d := 100) (by omega) (by decide) (by decide)
  rw [e3, e5] at h2
  have h3 := (nI_leI (b := 3) (show j / 100 % 10 < 2 ^ 31 by omega) (by decide)).mp h2
  rw [e1, e2, e3, e4, e5, e6]
  exact ⟨⟨_, by omega, rfl⟩, ⟨_, by omega, rfl⟩, ⟨_, by omega, rfl⟩, ⟨_, by omega, rfl⟩⟩
theorem HR_hold {N x q : Nat} {ah ga : Nat → Nat} (h : HR (N + 1) ah (updN ga N x) q) : HR N ah ga q ∨ q = x := by
  obtain ⟨k, h1, rfl⟩ := h
  by_cases c : k = 40 + N
  · subst c
    rw [hAd_g]
    exact Or.inr updN_same
  · refine Or.inl ⟨k, by omega, ?_⟩
    unfold hAd
    by_cases c2 : k < 40
    · rw [if_pos c2, if_pos c2]
    · rw [if_neg c2, if_neg c2, updN_ne (by omega)]
/-- the numbers of gap that are told in one -/
def goodO (o : Int32) : Prop := (0 ≤ o ∧ o ≤ 999999) ∧ remP (o / 100) 10 ≤ 3
theorem le3 {x : Int32} : ¬ 4 ≤ x ↔ x ≤ 3 := by
  rw [Int32.le_iff_toInt_le, Int32.le_iff_toInt_le]
  have h4 : (4 : Int32).toInt = 4 := by decide
  have h3 : (3 : Int32).toInt = 3 := by decide
  omega
theorem nd_X0_gap : yX0_gap.cls = "SmokeLeans" ∧ yX0_gap.cls ≠ "java/lang/invoke/MethodHandle" ∧ yX0_gap.cls ≠ "java/lang/invoke/VarHandle" ∧ (parseMethodDescriptor yX0_gap.desc).map (fun d => d.parameters.length) = some 4 := by decide +kernel
set_option maxHeartbeats 4000000 in
theorem O_gap (l : Launch) {G : GD} {A : Nat → Prop} {f : Nat → Nat → Int32} {g : Nat → Nat → Int64} {xo hk ht : Nat} {H0 : Heap} (hF : FG G) (hC : DC G A f g xo hk ht H0) (hAb : ∀ q, H0.size ≤ q → A q) (k q t o : Int32) : MetH l G yX0_gap cX0_gap 9 (some .int) [((0), (192), (193), (1))] 5 100 1000 A [.ref xo, .int k, .int q, .int t, .int o] H0 (some (.int (gapM f k q t o).1)) (fun H => DC G A (gapM f k q t o).2 g xo hk ht H) := by
  refine mw_of (hh := [((0), (192), (193), (1))]) (by decide) (Nat.le_of_ble_eq_true rfl) ?_
  intro p e s m below meth c hx hb hr hc hlk hnm htab hs0 ls hl
  subst hs0
  have hown := hc.2.2.2.1
  have hts := hc.2.2.2.2.1
  have hK := hc.2.2.2.2.2
  obtain ⟨b, ad, ah, ga, N, R, rfl, hO, hDW, ⟨u, hv, hcok, hW⟩, hdj⟩ := hC
  have hl : lv_has ls 9 [(0, .ref (ad 0)), (1, .int k), (2, .int q), (3, .int t), (4, .int o)] := hl
  have hS : va_S A s.heap s.heap [] := va_S.rf
  have hN20 := hO.2.1
  have hHA : ∀ q, HR N ah ga q → A q := fun q h => HR.mem hW h
  refine lv_iload hx hb dX0_gap_0 (lv_at hl 4 rfl) ?_
  refine lv_sipush (v := 10000) hx hb dX0_gap_2 (by decide) ?_
  refine lv_idiv hx hb dX0_gap_5 (by decide) ?_
  refine lv_istore (lv' := [(5, .int (o / 10000)), (0, .ref (ad 0)), (1, .int k), (2, .int q), (3, .int t), (4, .int o)]) hx hb dX0_gap_6 hl (by decide) rfl (fun ls hl => ?_)
  refine lv_iload hx hb dX0_gap_8 (lv_at hl 5 rfl) ?_
  refine lv_sipush (v := 1000) hx hb dX0_gap_10 (by decide) ?_
  refine lv_idiv hx hb dX0_gap_13 (by decide) ?_
  refine lv_bipush (v := 10) hx hb dX0_gap_14 (by decide) ?_
  refine lv_irem hx hb dX0_gap_16 (by decide) (sm_topi (v := remP (o / 1000) 10) rfl ?_)
  refine lv_istore (lv' := [(6, .int (remP (o / 1000) 10)), (5, .int (o / 10000)), (0, .ref (ad 0)), (1, .int k), (2, .int q), (3, .int t), (4, .int o)]) hx hb dX0_gap_17 hl (by decide) rfl (fun ls hl => ?_)
  refine lv_iload hx hb dX0_gap_19 (lv_at hl 6 rfl) ?_
  refine lv_bipush (v := 100) hx hb dX0_gap_21 (by decide) ?_
  refine lv_idiv hx hb dX0_gap_23 (by decide) ?_
  refine lv_bipush (v := 10) hx hb dX0_gap_24 (by decide) ?_
  refine lv_irem hx hb dX0_gap_26 (by decide) (sm_topi (v := remP (o / 100) 10) rfl ?_)
  refine lv_istore (lv' := [(7, .int (remP (o / 100) 10)), (6, .int (remP (o / 1000) 10)), (5, .int (o / 10000)), (0, .ref (ad 0)), (1, .int k), (2, .int q), (3, .int t), (4, .int o)]) hx hb dX0_gap_27 hl (by decide) rfl (fun ls hl => ?_)
  refine lv_iload hx hb dX0_gap_29 (lv_at hl 7 rfl) ?_
  refine w_join (fun y => y = b2i (decide ((0 ≤ o ∧ o ≤ 999999) ∧ remP (o / 100) 10 ≤ 3) = true)) 53 [] (fun y hy => ?_) (fun jn => ?_)
  · subst hy
    refine lv_istore (lv' := [(8, .int (b2i (decide ((0 ≤ o ∧ o ≤ 999999) ∧ remP (o / 100) 10 ≤ 3) = true))), (7, .int (remP (o / 100) 10)), (6, .int (remP (o / 1000) 10)), (5, .int (o / 10000)), (0, .ref (ad 0)), (1, .int k), (2, .int q), (3, .int t), (4, .int o)]) hx hb dX0_gap_53 hl (by decide) rfl (fun ls hl => ?_)
    refine lv_iload_n hx hb dX0_gap_55 rfl (lv_at hl 5 rfl) ?_
    refine lv_i2l hx hb dX0_gap_56 rfl ?_
    refine lv_lconst (v := (0 : Int32).toInt64) hx hb dX0_gap_57 (by decide) ?_
    refine lv_ldc2 (v := 5) hx hb hown (hts _ q297) dX0_gap_58 (sm_topl (v := (5 : Int32).toInt64) (by decide) ?_)
    refine cs_R1 (rest := []) hc (D_in32 l k 0 5) (lw_S q294 q295 q67 q296) nd_X0_in ⟨Nat.le_of_ble_eq_true rfl, Nat.le_of_ble_eq_true rfl⟩ rfl hl.1 rfl (Nat.le_of_ble_eq_true rfl) dX0_gap_61 ⟨Nat.le_of_ble_eq_true rfl, Nat.le_of_ble_eq_true rfl⟩ ?_
    refine bi_eq (tgt := 102) hx hb dX0_gap_64 (by decide) (fun c_554 => ?_) (fun c_554 => ?_)
    · refine lv_iconst (v := 0) hx hb dX0_gap_102 (by decide) ?_
      refine lv_iconst (v := 0) hx hb dX0_gap_103 (by decide) ?_
      refine cs_T (rest := []) hc (D_need_no l hF.1 hDW.2.1 hDW.gle (x := 0) rfl 0) q207 q208 q67 q209 nd_X0_need ⟨Nat.le_of_ble_eq_true rfl, Nat.le_of_ble_eq_true rfl⟩ rfl hl.1 rfl (Nat.le_of_ble_eq_true rfl) dX0_gap_104 ⟨Nat.le_of_ble_eq_true rfl, Nat.le_of_ble_eq_true rfl⟩ hS (fun q h => hAb q (Nat.le_trans hS.1 h)) (fun ex H locs hq hS hz hk1 => ?_)
      obtain ⟨hexn, hex, hsz⟩ := hq
      have hne : ex ≠ ad 3 := by have := hDW.lt (r := 3) (fun z => by cases z); omega
      have hDW := hDW.aftM hk1
      have hW := hW.aftM hk1
      refine ct_find (pre := []) (post := []) (y := ⟨0, 192, 193, 1⟩) hc htab (by decide) (by decide) rfl hex ?_
      refine lv_astore (lv' := [(5, .ref ex), (8, .int (b2i (decide ((0 ≤ o ∧ o ≤ 999999) ∧ remP (o / 100) 10 ≤ 3) = true))), (7, .int (remP (o / 100) 10)), (6, .int (remP (o / 1000) 10)), (0, .ref (ad 0)), (1, .int k), (2, .int q), (3, .int t), (4, .int o)]) hx hb dX0_gap_193 hl (by decide) rfl (fun ls hl => ?_)
      refine lv_aload_n hx hb dX0_gap_195 rfl (lv_at hl 4 rfl) ?_
      refine lv_aload hx hb dX0_gap_196 (lv_at hl 0 rfl) ?_
      refine cv_W1 (rest := []) hc (D_X0finds l hDW hex hne (k := 0) rfl (by decide)) (lw_V q277 q279 qs1 q67 q280) nd_X0_finds ⟨Nat.le_of_ble_eq_true rfl, Nat.le_of_ble_eq_true rfl⟩ (DW.recv hK hDW) rfl hl.1 rfl (Nat.le_of_ble_eq_true rfl) dX0_gap_198 ⟨Nat.le_of_ble_eq_true rfl, Nat.le_of_ble_eq_true rfl⟩ hS (fun _ h => h) (fun H locs hq hS hz hk1 => ?_)
      obtain ⟨hDW, hf3⟩ := hq
      have hW := hW.aftD (hdj 3 (Or.inl (by decide))) (hDW.1 _ (hDW.mem (r := 3) rfl)) hf3
      have hsp_555 : gapM f k q t o = (-1000000001, cntP f 0) := by unfold gapM; rw [if_neg c_554]
      refine w_more (cells' := 100) (slots' := 1000) (Nat.le_of_ble_eq_true rfl) (Nat.le_of_ble_eq_true rfl) ?_
      exact ri_W hx hb hr hlk hS (by rw [hsp_555]; show (-1000000001 - 0 : Int32) = -1000000001; decide) (by rw [hsp_555]; exact DC.mk' rfl hO hDW hcok hW hdj) dX0_gap_201
    · refine lv_aload_n hx hb dX0_gap_67 rfl (lv_at hl 4 rfl) ?_
      refine lv_iload_n hx hb dX0_gap_68 rfl (lv_at hl 6 rfl) ?_
      refine cv_R1 (rest := []) hc (D_isRoom l hDW hW q) (lw_V q298 q300 qs2 q67 q301) nd_X0_isRoom ⟨Nat.le_of_ble_eq_true rfl, Nat.le_of_ble_eq_true rfl⟩ (DW.recv hK hDW) rfl hl.1 rfl (Nat.le_of_ble_eq_true rfl) dX0_gap_69 ⟨Nat.le_of_ble_eq_true rfl, Nat.le_of_ble_eq_true rfl⟩ ?_
      refine bi_eq (tgt := 102) hx hb dX0_gap_72 (by decide) (fun c_556 => ?_) (fun c_556 => ?_)
      · refine lv_iconst (v := 0) hx hb dX0_gap_102 (by decide) ?_
        refine lv_iconst (v := 0) hx hb dX0_gap_103 (by decide) ?_
        refine cs_T (rest := []) hc (D_need_no l hF.1 hDW.2.1 hDW.gle (x := 0) rfl 0) q207 q208 q67 q209 nd_X0_need ⟨Nat.le_of_ble_eq_true rfl, Nat.le_of_ble_eq_true rfl⟩ rfl hl.1 rfl (Nat.le_of_ble_eq_true rfl) dX0_gap_104 ⟨Nat.le_of_ble_eq_true rfl, Nat.le_of_ble_eq_true rfl⟩ hS (fun q h => hAb q (Nat.le_trans hS.1 h)) (fun ex H locs hq hS hz hk1 => ?_)
        obtain ⟨hexn, hex, hsz⟩ := hq
        have hne : ex ≠ ad 3 := by have := hDW.lt (r := 3) (fun z => by cases z); omega
        have hDW := hDW.aftM hk1
        have hW := hW.aftM hk1
        refine ct_find (pre := []) (post := []) (y := ⟨0, 192, 193, 1⟩) hc htab (by decide) (by decide) rfl hex ?_
        refine lv_astore (lv' := [(5, .ref ex), (8, .int (b2i (decide ((0 ≤ o ∧ o ≤ 999999) ∧ remP (o / 100) 10 ≤ 3) = true))), (7, .int (remP (o / 100) 10)), (6, .int (remP (o / 1000) 10)), (0, .ref (ad 0)), (1, .int k), (2, .int q), (3, .int t), (4, .int o)]) hx hb dX0_gap_193 hl (by decide) rfl (fun ls hl => ?_)
        refine lv_aload_n hx hb dX0_gap_195 rfl (lv_at hl 4 rfl) ?_
        refine lv_aload hx hb dX0_gap_196 (lv_at hl 0 rfl) ?_
        refine cv_W1 (rest := []) hc (D_X0finds l hDW hex hne (k := 0) rfl (by decide)) (lw_V q277 q279 qs1 q67 q280) nd_X0_finds ⟨Nat.le_of_ble_eq_true rfl, Nat.le_of_ble_eq_true rfl⟩ (DW.recv hK hDW) rfl hl.1 rfl (Nat.le_of_ble_eq_true rfl) dX0_gap_198 ⟨Nat.le_of_ble_eq_true rfl, Nat.le_of_ble_eq_true rfl⟩ hS (fun _ h => h) (fun H locs hq hS hz hk1 => ?_)
        obtain ⟨hDW, hf3⟩ := hq
        have hW := hW.aftD (hdj 3 (Or.inl (by decide))) (hDW.1 _ (hDW.mem (r := 3) rfl)) hf3
        have hsp_557 : gapM f k q t o = (-1000000001, cntP f 0) := by unfold gapM; rw [if_pos c_554, if_neg c_556]
        refine w_more (cells' := 100) (slots' := 1000) (Nat.le_of_ble_eq_true rfl) (Nat.le_of_ble_eq_true rfl) ?_
        exact ri_W hx hb hr hlk hS (by rw [hsp_557]; show (-1000000001 - 0 : Int32) = -1000000001; decide) (by rw [hsp_557]; exact DC.mk' rfl hO hDW hcok hW hdj) dX0_gap_201
      · refine lv_iload_n hx hb dX0_gap_75 rfl (lv_at hl 7 rfl) ?_
        refine lv_iconst (v := (-1)) hx hb dX0_gap_76 (by decide) ?_
        refine lv_icmp_eq (tgt := 88) hx hb dX0_gap_77 (by decide) (fun c_558 => ?_) (fun c_558 => ?_)
        · refine lv_iload_n hx hb dX0_gap_88 rfl (lv_at hl 7 rfl) ?_
          refine lv_iload_n hx hb dX0_gap_89 rfl (lv_at hl 6 rfl) ?_
          refine lv_icmp_eq (tgt := 102) hx hb dX0_gap_90 (by decide) (fun c_559 => ?_) (fun c_559 => ?_)
          · refine lv_iconst (v := 0) hx hb dX0_gap_102 (by decide) ?_
            refine lv_iconst (v := 0) hx hb dX0_gap_103 (by decide) ?_
            refine cs_T (rest := []) hc (D_need_no l hF.1 hDW.2.1 hDW.gle (x := 0) rfl 0) q207 q208 q67 q209 nd_X0_need ⟨Nat.le_of_ble_eq_true rfl, Nat.le_of_ble_eq_true rfl⟩ rfl hl.1 rfl (Nat.le_of_ble_eq_true rfl) dX0_gap_104 ⟨Nat.le_of_ble_eq_true rfl, Nat.le_of_ble_eq_true rfl⟩ hS (fun q h => hAb q (Nat.le_trans hS.1 h)) (fun ex H locs hq hS hz hk1 => ?_)
            obtain ⟨hexn, hex, hsz⟩ := hq
            have hne : ex ≠ ad 3 := by have := hDW.lt (r := 3) (fun z => by cases z); omega
            have hDW := hDW.aftM hk1
            have hW := hW.aftM hk1
            refine ct_find (pre := []) (post := []) (y := ⟨0, 192, 193, 1⟩) hc htab (by decide) (by decide) rfl hex ?_
            refine lv_astore (lv' := [(5, .ref ex), (8, .int (b2i (decide ((0 ≤ o ∧ o ≤ 999999) ∧ remP (o / 100) 10 ≤ 3) = true))), (7, .int (remP (o / 100) 10)), (6, .int (remP (o / 1000) 10)), (0, .ref (ad 0)), (1, .int k), (2, .int q), (3, .int t), (4, .int o)]) hx hb dX0_gap_193 hl (by decide) rfl (fun ls hl => ?_)
            refine lv_aload_n hx hb dX0_gap_195 rfl (lv_at hl 4 rfl) ?_
            refine lv_aload hx hb dX0_gap_196 (lv_at hl 0 rfl) ?_
            refine cv_W1 (rest := []) hc (D_X0finds l hDW hex hne (k := 0) rfl (by decide)) (lw_V q277 q279 qs1 q67 q280) nd_X0_finds ⟨Nat.le_of_ble_eq_true rfl, Nat.le_of_ble_eq_true rfl⟩ (DW.recv hK hDW) rfl hl.1 rfl (Nat.le_of_ble_eq_true rfl) dX0_gap_198 ⟨Nat.le_of_ble_eq_true rfl, Nat.le_of_ble_eq_true rfl⟩ hS (fun _ h => h) (fun H locs hq hS hz hk1 => ?_)
            obtain ⟨hDW, hf3⟩ := hq
            have hW := hW.aftD (hdj 3 (Or.inl (by decide))) (hDW.1 _ (hDW.mem (r := 3) rfl)) hf3
            have hsp_560 : gapM f k q t o = (-1000000001, cntP f 0) := by unfold gapM; rw [if_pos c_554, if_pos c_556, if_pos (Or.inl c_558), if_pos c_559]
            refine w_more (cells' := 100) (slots' := 1000) (Nat.le_of_ble_eq_true rfl) (Nat.le_of_ble_eq_true rfl) ?_
            exact ri_W hx hb hr hlk hS (by rw [hsp_560]; show (-1000000001 - 0 : Int32) = -1000000001; decide) (by rw [hsp_560]; exact DC.mk' rfl hO hDW hcok hW hdj) dX0_gap_201
          · refine lv_iload hx hb dX0_gap_93 (lv_at hl 0 rfl) ?_
            refine bi_eq (tgt := 102) hx hb dX0_gap_95 (by decide) (fun c_561 => ?_) (fun c_561 => ?_)
            · refine lv_iconst (v := 0) hx hb dX0_gap_102 (by decide) ?_
              refine lv_iconst (v := 0) hx hb dX0_gap_103 (by decide) ?_
              refine cs_T (rest := []) hc (D_need_no l hF.1 hDW.2.1 hDW.gle (x := 0) rfl 0) q207 q208 q67 q209 nd_X0_need ⟨Nat.le_of_ble_eq_true rfl, Nat.le_of_ble_eq_true rfl⟩ rfl hl.1 rfl (Nat.le_of_ble_eq_true rfl) dX0_gap_104 ⟨Nat.le_of_ble_eq_true rfl, Nat.le_of_ble_eq_true rfl⟩ hS (fun q h => hAb q (Nat.le_trans hS.1 h)) (fun ex H locs hq hS hz hk1 => ?_)
              obtain ⟨hexn, hex, hsz⟩ := hq
              have hne : ex ≠ ad 3 := by have := hDW.lt (r := 3) (fun z => by cases z); omega
              have hDW := hDW.aftM hk1
              have hW := hW.aftM hk1
              refine ct_find (pre := []) (post := []) (y := ⟨0, 192, 193, 1⟩) hc htab (by decide) (by decide) rfl hex ?_
              refine lv_astore (lv' := [(5, .ref ex), (8, .int (b2i (decide ((0 ≤ o ∧ o ≤ 999999) ∧ remP (o / 100) 10 ≤ 3) = true))), (7, .int (remP (o / 100) 10)), (6, .int (remP (o / 1000) 10)), (0, .ref (ad 0)), (1, .int k), (2, .int q), (3, .int t), (4, .int o)]) hx hb dX0_gap_193 hl (by decide) rfl (fun ls hl => ?_)
              refine lv_aload_n hx hb dX0_gap_195 rfl (lv_at hl 4 rfl) ?_
              refine lv_aload hx hb dX0_gap_196 (lv_at hl 0 rfl) ?_
              refine cv_W1 (rest := []) hc (D_X0finds l hDW hex hne (k := 0) rfl (by decide)) (lw_V q277 q279 qs1 q67 q280) nd_X0_finds ⟨Nat.le_of_ble_eq_true rfl, Nat.le_of_ble_eq_true rfl⟩ (DW.recv hK hDW) rfl hl.1 rfl (Nat.le_of_ble_eq_true rfl) dX0_gap_198 ⟨Nat.le_of_ble_eq_true rfl, Nat.le_of_ble_eq_true rfl⟩ hS (fun _ h => h) (fun H locs hq hS hz hk1 => ?_)
              obtain ⟨hDW, hf3⟩ := hq
              have hW := hW.aftD (hdj 3 (Or.inl (by decide))) (hDW.1 _ (hDW.mem (r := 3) rfl)) hf3
              have hsp_562 : gapM f k q t o = (-1000000001, cntP f 0) := by unfold gapM; rw [if_pos c_554, if_pos c_556, if_pos (Or.inl c_558), if_neg c_559]; by_cases q1 : 0 ≤ o ∧ o ≤ 999999; (rw [if_pos q1, if_neg (fun q2 => c_561 (decide_eq_true ⟨q1, q2⟩))]); (rw [if_neg q1])
              refine w_more (cells' := 100) (slots' := 1000) (Nat.le_of_ble_eq_true rfl) (Nat.le_of_ble_eq_true rfl) ?_
              exact ri_W hx hb hr hlk hS (by rw [hsp_562]; show (-1000000001 - 0 : Int32) = -1000000001; decide) (by rw [hsp_562]; exact DC.mk' rfl hO hDW hcok hW hdj) dX0_gap_201
            · refine lv_iconst (v := 1) hx hb dX0_gap_98 (by decide) ?_
              refine lv_goto (tgt := 103) hx hb dX0_gap_99 (by decide) ?_
              refine lv_iconst (v := 0) hx hb dX0_gap_103 (by decide) ?_
              refine cs_R0 (rest := []) hc (D_need_ok l (by decide) 0) (lw_S q207 q208 q67 q209) nd_X0_need ⟨Nat.le_of_ble_eq_true rfl, Nat.le_of_ble_eq_true rfl⟩ rfl hl.1 rfl (Nat.le_of_ble_eq_true rfl) dX0_gap_104 ⟨Nat.le_of_ble_eq_true rfl, Nat.le_of_ble_eq_true rfl⟩ ?_
              by_cases h20 : f 0 1 = 20
              · have hN : N = 20 := by have e := congrArg Int32.toNatClampNeg (hO.2.2.2.1.symm.trans h20); rw [nI_clamp (by omega)] at e; exact e
                subst hN
                refine lv_aload_n hx hb dX0_gap_107 rfl (lv_at hl 4 rfl) ?_
                refine d_get hc hDW 0 (by decide) q161 rfl rfl dX0_gap_108 ?_
                refine h_get hc hW 1 (by decide) rfl q124 rfl rfl dX0_gap_111 ?_
                refine sm_topi (v := nI 20) hO.2.2.2.1 ?_
                refine lv_bipush (v := 20) hx hb dX0_gap_114 (by decide) ?_
                refine lv_icmp_ge (tgt := 123) hx hb dX0_gap_116 (by decide) (fun _ => ?_) (fun h => absurd (by decide) h)
                refine lv_iconst (v := 0) hx hb dX0_gap_123 (by decide) ?_
                refine lv_iconst (v := 1) hx hb dX0_gap_124 (by decide) ?_
                refine cs_T (rest := []) hc (D_need_no l hF.1 hDW.2.1 hDW.gle (x := 0) rfl 1) q207 q208 q67 q209 nd_X0_need ⟨Nat.le_of_ble_eq_true rfl, Nat.le_of_ble_eq_true rfl⟩ rfl hl.1 rfl (Nat.le_of_ble_eq_true rfl) dX0_gap_125 ⟨Nat.le_of_ble_eq_true rfl, Nat.le_of_ble_eq_true rfl⟩ hS (fun q h => hAb q (Nat.le_trans hS.1 h)) (fun ex H locs hq hS hz hk1 => ?_)
                obtain ⟨hexn, hex, hsz⟩ := hq
                have hne : ex ≠ ad 3 := by have := hDW.lt (r := 3) (fun z => by cases z); omega
                have hDW := hDW.aftM hk1
                have hW := hW.aftM hk1
                refine ct_find (pre := []) (post := []) (y := ⟨0, 192, 193, 1⟩) hc htab (by decide) (by decide) rfl hex ?_
                refine lv_astore (lv' := [(5, .ref ex), (8, .int (b2i (decide ((0 ≤ o ∧ o ≤ 999999) ∧ remP (o / 100) 10 ≤ 3) = true))), (7, .int (remP (o / 100) 10)), (6, .int (remP (o / 1000) 10)), (0, .ref (ad 0)), (1, .int k), (2, .int q), (3, .int t), (4, .int o)]) hx hb dX0_gap_193 hl (by decide) rfl (fun ls hl => ?_)
                refine lv_aload_n hx hb dX0_gap_195 rfl (lv_at hl 4 rfl) ?_
                refine lv_aload hx hb dX0_gap_196 (lv_at hl 0 rfl) ?_
                refine cv_W1 (rest := []) hc (D_X0finds l hDW hex hne (k := 1) rfl (by decide)) (lw_V q277 q279 qs1 q67 q280) nd_X0_finds ⟨Nat.le_of_ble_eq_true rfl, Nat.le_of_ble_eq_true rfl⟩ (DW.recv hK hDW) rfl hl.1 rfl (Nat.le_of_ble_eq_true rfl) dX0_gap_198 ⟨Nat.le_of_ble_eq_true rfl, Nat.le_of_ble_eq_true rfl⟩ hS (fun _ h => h) (fun H locs hq hS hz hk1 => ?_)
                obtain ⟨hDW, hf3⟩ := hq
                have hW := hW.aftD (hdj 3 (Or.inl (by decide))) (hDW.1 _ (hDW.mem (r := 3) rfl)) hf3
                have hsp_563 : gapM f k q t o = (-1000000002, cntP f 1) := by unfold gapM; rw [if_pos c_554, if_pos c_556, if_pos (Or.inl c_558), if_neg c_559, if_pos (of_decide_eq_true c_561).1, if_pos (of_decide_eq_true c_561).2, if_pos h20]
                refine w_more (cells' := 100) (slots' := 1000) (Nat.le_of_ble_eq_true rfl) (Nat.le_of_ble_eq_true rfl) ?_
                exact ri_W hx hb hr hlk hS (by rw [hsp_563]; show (-1000000001 - 1 : Int32) = -1000000002; decide) (by rw [hsp_563]; exact DC.mk' rfl hO hDW hcok hW hdj) dX0_gap_201
              · have hN := hO.nFull h20
                have hpp := o_parts (of_decide_eq_true c_561).1 (of_decide_eq_true c_561).2
                have hO1 := hO.ng hN (a0 := k) (a1 := q) (a2 := t) (a3 := o / 10000) (a4 := remP (o / 1000) 10) (a5 := remP (o / 100) 10) (a6 := remP o 100) (by obtain ⟨j, hj, e⟩ := ex_le 5 (hi := 5) rfl (by decide) c_554.1 c_554.2; exact ⟨j, by omega, e⟩) (hO.exRoom c_556) (Or.inl c_558) c_559 hpp.1 hpp.2.1 hpp.2.2.1 hpp.2.2.2
                refine lv_aload_n hx hb dX0_gap_107 rfl (lv_at hl 4 rfl) ?_
                refine d_get hc hDW 0 (by decide) q161 rfl rfl dX0_gap_108 ?_
                refine h_get hc hW 1 (by decide) rfl q124 rfl rfl dX0_gap_111 ?_
                refine sm_topi (v := nI N) hO.2.2.2.1 ?_
                refine lv_bipush (v := 20) hx hb dX0_gap_114 (by decide) ?_
                refine lv_icmp_ge (tgt := 123) hx hb dX0_gap_116 (by decide) (fun h => absurd h (nI_ge (b := 20) hN (by decide))) (fun _ => ?_)
                refine lv_iconst (v := 1) hx hb dX0_gap_119 (by decide) ?_
                refine lv_goto (tgt := 124) hx hb dX0_gap_120 (by decide) ?_
                refine lv_iconst (v := 1) hx hb dX0_gap_124 (by decide) ?_
                refine cs_R0 (rest := []) hc (D_need_ok l (by decide) 1) (lw_S q207 q208 q67 q209) nd_X0_need ⟨Nat.le_of_ble_eq_true rfl, Nat.le_of_ble_eq_true rfl⟩ rfl hl.1 rfl (Nat.le_of_ble_eq_true rfl) dX0_gap_125 ⟨Nat.le_of_ble_eq_true rfl, Nat.le_of_ble_eq_true rfl⟩ ?_
                refine lv_aload_n hx hb dX0_gap_128 rfl (lv_at hl 4 rfl) ?_
                refine d_get hc hDW 0 (by decide) q161 rfl rfl dX0_gap_129 ?_
                refine h_get hc hW 2 (by decide) rfl q127 rfl rfl dX0_gap_132 ?_
                refine lv_aload_n hx hb dX0_gap_135 rfl (lv_at hl 4 rfl) ?_
                refine d_get hc hDW 0 (by decide) q161 rfl rfl dX0_gap_136 ?_
                refine h_get hc hW 1 (by decide) rfl q124 rfl rfl dX0_gap_139 ?_
                refine sm_topi (v := nI N) hO.2.2.2.1 ?_
                refine h_sld hc hW (ix_nI (by omega) (by decide)) dX0_gap_142 ?_
                refine lv_iload_n hx hb dX0_gap_143 rfl (lv_at hl 5 rfl) ?_
                refine lv_iload_n hx hb dX0_gap_144 rfl (lv_at hl 6 rfl) ?_
                refine lv_iload_n hx hb dX0_gap_145 rfl (lv_at hl 7 rfl) ?_
                refine lv_iload hx hb dX0_gap_146 (lv_at hl 3 rfl) ?_
                refine lv_iload hx hb dX0_gap_148 (lv_at hl 2 rfl) ?_
                refine lv_iload hx hb dX0_gap_150 (lv_at hl 1 rfl) ?_
                refine lv_iload hx hb dX0_gap_152 (lv_at hl 8 rfl) ?_
                refine lv_bipush (v := 100) hx hb dX0_gap_154 (by decide) ?_
                refine lv_irem hx hb dX0_gap_156 (by decide) (sm_topi (v := remP o 100) rfl ?_)
                obtain ⟨kk, hkk, hke⟩ := ex_le 5 (hi := 5) rfl (by decide) c_554.1 c_554.2
                have hkc : k.toNatClampNeg = kk := by rw [hke]; exact nI_clamp (by omega)
                have hgo := D_gapOf l (G := G) (H0 := s.heap) (show kk < 6 by omega) q t (o / 10000) (remP (o / 1000) 10) (remP (o / 100) 10) (remP o 100)
                rw [← hke] at hgo
                refine cs_W1 (rest := [.ref (ah (10 + N))]) hc hgo (lw_S q302 q303 q67 q304) nd_X0_gapOf ⟨Nat.le_of_ble_eq_true rfl, Nat.le_of_ble_eq_true rfl⟩ rfl hl.1 rfl (Nat.le_of_ble_eq_true rfl) dX0_gap_157 ⟨Nat.le_of_ble_eq_true rfl, Nat.le_of_ble_eq_true rfl⟩ hS (fun q h => hAb q h) (fun H locs hq hS hz hk1 => ?_)
                have hlt : ∀ z, HR N ah ga z → z < s.heap.size := fun z hz => HR.lt hW hz
                have hdl := hdlt hDW
                have hDW := hDW.aftM hk1
                have hW := hW.aftM hk1
                refine h_hold (r' := ngH (f 0) N k q t (o / 10000) (remP (o / 1000) 10) (remP (o / 100) 10) (remP o 100)) (rest := []) hc hW hS hN (by rw [ngH_g.1, ngH_g.2, hkc]; exact hq.1) (hAb _ (Nat.le_refl _)) (fun z hz e => by have := hlt (hAd ah ga z) ⟨z, hE_some hz, rfl⟩; omega) (ngH_lo (by omega)) (ngH_lo (by omega)) (ngH_lo (by omega)) (fun j hj => ngH_lo (by omega)) rfl q115 dX0_gap_160 (fun H locs hW hS hz oq => ?_)
                have hDW := hDW.aftH hdj hHA (HR.s hN) oq
                have hdj : ∀ z, dS (f 19) z → ¬ HR (N + 1) ah (updN ga N s.heap.size) (ad z) := fun z hz h => by rcases HR_hold h with h1 | h1; exact hdj z hz h1; have := hdl z hz; omega
                have hHA : ∀ z, HR (N + 1) ah (updN ga N s.heap.size) z → A z := fun z h => by rcases HR_hold h with h1 | h1; exact hHA z h1; rw [h1]; exact hAb _ (Nat.le_refl _)
                refine lv_aload_n hx hb dX0_gap_163 rfl (lv_at hl 4 rfl) ?_
                refine d_get hc hDW 0 (by decide) q161 rfl rfl dX0_gap_164 ?_
                refine lv_dup hx hb dX0_gap_167 rfl ?_
                refine h_get hc hW 1 (by decide) rfl q124 rfl rfl dX0_gap_168 ?_
                refine sm_topi (v := nI N) ((ngH_lo (by omega)).trans hO.2.2.2.1) ?_
                refine lv_iconst (v := 1) hx hb dX0_gap_171 (by decide) ?_
                refine lv_iadd hx hb dX0_gap_172 (sm_topi (v := nI (N + 1)) (nI_add _ _) ?_)
                refine h_put (r' := upd (ngH (f 0) N k q t (o / 10000) (remP (o / 1000) 10) (remP (o / 100) 10) (remP o 100)) 1 (nI (N + 1))) (u' := u) hc hW hS 1 (by decide) rfl q124 rfl rfl rfl rfl rfl rfl (fun j hj => if_neg (by omega)) rfl rfl dX0_gap_173 (fun H locs hW hS hz oq => ?_)
                have hDW := hDW.aftH hdj hHA HR.o oq
                have hW : HW G A (N + 1) (ngR (f 0) N k q t (o / 10000) (remP (o / 1000) 10) (remP (o / 100) 10) (remP o 100)) u hv ah (updN ga N s.heap.size) H := hW
                refine lv_aload_n hx hb dX0_gap_176 rfl (lv_at hl 4 rfl) ?_
                refine d_get hc hDW 0 (by decide) q161 rfl rfl dX0_gap_177 ?_
                refine cv_W0 (rest := []) hc (D_changes l hF hW.toR hO1) (lw_V q273 q274 q275 q68 q276) nd_X1_changes ⟨Nat.le_of_ble_eq_true rfl, Nat.le_of_ble_eq_true rfl⟩ (HW.recv hK hW) rfl hl.1 rfl (Nat.le_of_ble_eq_true rfl) dX0_gap_180 ⟨Nat.le_of_ble_eq_true rfl, Nat.le_of_ble_eq_true rfl⟩ hS hHA (fun H locs hq hS hz hk1 => ?_)
                have hDW := hDW.aftC hdj hHA hk1
                obtain ⟨u, hv, hcok, hW⟩ := HS.ofR (HS.ch hq) hW.1 hHA
                refine lv_aload_n hx hb dX0_gap_183 rfl (lv_at hl 4 rfl) ?_
                refine d_get hc hDW 0 (by decide) q161 rfl rfl dX0_gap_184 ?_
                refine h_get hc hW 1 (by decide) rfl q124 rfl rfl dX0_gap_187 ?_
                refine sm_topi (v := nI (N + 1)) hO1.2.2.2.1 ?_
                refine lv_iconst (v := 1) hx hb dX0_gap_190 (by decide) ?_
                refine lv_isub hx hb dX0_gap_191 ?_
                have hsp : gapM f k q t o = (f 0 1, ngP f N k q t (o / 10000) (remP (o / 1000) 10) (remP (o / 100) 10) (remP o 100)) := by unfold gapM; rw [if_pos c_554, if_pos c_556, if_pos (Or.inl c_558), if_neg c_559, if_pos (of_decide_eq_true c_561).1, if_pos (of_decide_eq_true c_561).2, if_neg h20]; rw [hO.cl1]
                refine w_more (cells' := 100) (slots' := 1000) (Nat.le_of_ble_eq_true rfl) (Nat.le_of_ble_eq_true rfl) ?_
                exact ri_W hx hb hr hlk hS (by rw [hsp]; show nI (N + 1) - 1 = f 0 1; rw [hO.2.2.2.1]; exact nI_pred _) (by rw [hsp]; exact DC.mk' ngP_0 hO1 (hDW.fr rfl rfl rfl rfl rfl rfl) hcok hW hdj) dX0_gap_192
        · refine lv_aload_n hx hb dX0_gap_80 rfl (lv_at hl 4 rfl) ?_
          refine lv_iload_n hx hb dX0_gap_81 rfl (lv_at hl 7 rfl) ?_
          refine cv_R1 (rest := []) hc (D_isRoom l hDW hW t) (lw_V q298 q300 qs2 q67 q301) nd_X0_isRoom ⟨Nat.le_of_ble_eq_true rfl, Nat.le_of_ble_eq_true rfl⟩ (DW.recv hK hDW) rfl hl.1 rfl (Nat.le_of_ble_eq_true rfl) dX0_gap_82 ⟨Nat.le_of_ble_eq_true rfl, Nat.le_of_ble_eq_true rfl⟩ ?_
          refine bi_eq (tgt := 102) hx hb dX0_gap_85 (by decide) (fun c_564 => ?_) (fun c_564 => ?_)
          · refine lv_iconst (v := 0) hx hb dX0_gap_102 (by decide) ?_
            refine lv_iconst (v := 0) hx hb dX0_gap_103 (by decide) ?_
            refine cs_T (rest := []) hc (D_need_no l hF.1 hDW.2.1 hDW.gle (x := 0) rfl 0) q207 q208 q67 q209 nd_X0_need ⟨Nat.le_of_ble_eq_true rfl, Nat.le_of_ble_eq_true rfl⟩ rfl hl.1 rfl (Nat.le_of_ble_eq_true rfl) dX0_gap_104 ⟨Nat.le_of_ble_eq_true rfl, Nat.le_of_ble_eq_true rfl⟩ hS (fun q h => hAb q (Nat.le_trans hS.1 h)) (fun ex H locs hq hS hz hk1 => ?_)
            obtain ⟨hexn, hex, hsz⟩ := hq
            have hne : ex ≠ ad 3 := by have := hDW.lt (r := 3) (fun z => by cases z); omega
            have hDW := hDW.aftM hk1
            have hW := hW.aftM hk1
            refine ct_find (pre := []) (post := []) (y := ⟨0, 192, 193, 1⟩) hc htab (by decide) (by decide) rfl hex ?_
            refine lv_astore (lv' := [(5, .ref ex), (8, .int (b2i (decide ((0 ≤ o ∧ o ≤ 999999) ∧ remP (o / 100) 10 ≤ 3) = true))), (7, .int (remP (o / 100) 10)), (6, .int (remP (o / 1000) 10)), (0, .ref (ad 0)), (1, .int k), (2, .int q), (3, .int t), (4, .int o)]) hx hb dX0_gap_193 hl (by decide) rfl (fun ls hl => ?_)
            refine lv_aload_n hx hb dX0_gap_195 rfl (lv_at hl 4 rfl) ?_
            refine lv_aload hx hb dX0_gap_196 (lv_at hl 0 rfl) ?_
            refine cv_W1 (rest := []) hc (D_X0finds l hDW hex hne (k := 0) rfl (by decide)) (lw_V q277 q279 qs1 q67 q280) nd_X0_finds ⟨Nat.le_of_ble_eq_true rfl, Nat.le_of_ble_eq_true rfl⟩ (DW.recv hK hDW) rfl hl.1 rfl (Nat.le_of_ble_eq_true rfl) dX0_gap_198 ⟨Nat.le_of_ble_eq_true rfl, Nat.le_of_ble_eq_true rfl⟩ hS (fun _ h => h) (fun H locs hq hS hz hk1 => ?_)
            obtain ⟨hDW, hf3⟩ := hq
            have hW := hW.aftD (hdj 3 (Or.inl (by decide))) (hDW.1 _ (hDW.mem (r := 3) rfl)) hf3
            have hsp_565 : gapM f k q t o = (-1000000001, cntP f 0) := by unfold gapM; rw [if_pos c_554, if_pos c_556, if_neg (not_or.mpr ⟨c_558, c_564⟩)]
            refine w_more (cells' := 100) (slots' := 1000) (Nat.le_of_ble_eq_true rfl) (Nat.le_of_ble_eq_true rfl) ?_
            exact ri_W hx hb hr hlk hS (by rw [hsp_565]; show (-1000000001 - 0 : Int32) = -1000000001; decide) (by rw [hsp_565]; exact DC.mk' rfl hO hDW hcok hW hdj) dX0_gap_201
          · refine lv_iload_n hx hb dX0_gap_88 rfl (lv_at hl 7 rfl) ?_
            refine lv_iload_n hx hb dX0_gap_89 rfl (lv_at hl 6 rfl) ?_
            refine lv_icmp_eq (tgt := 102) hx hb dX0_gap_90 (by decide) (fun c_566 => ?_) (fun c_566 => ?_)
            · refine lv_iconst (v := 0) hx hb dX0_gap_102 (by decide) ?_
              refine lv_iconst (v := 0) hx hb dX0_gap_103 (by decide) ?_
              refine cs_T (rest := []) hc (D_need_no l hF.1 hDW.2.1 hDW.gle (x := 0) rfl 0) q207 q208 q67 q209 nd_X0_need ⟨Nat.le_of_ble_eq_true rfl, Nat.le_of_ble_eq_true rfl⟩ rfl hl.1 rfl (Nat.le_of_ble_eq_true rfl) dX0_gap_104 ⟨Nat.le_of_ble_eq_true rfl, Nat.le_of_ble_eq_true rfl⟩ hS (fun q h => hAb q (Nat.le_trans hS.1 h)) (fun ex H locs hq hS hz hk1 => ?_)
              obtain ⟨hexn, hex, hsz⟩ := hq
              have hne : ex ≠ ad 3 := by have := hDW.lt (r := 3) (fun z => by cases z); omega
              have hDW := hDW.aftM hk1
              have hW := hW.aftM hk1
              refine ct_find (pre := []) (post := []) (y := ⟨0, 192, 193, 1⟩) hc htab (by decide) (by decide) rfl hex ?_
              refine lv_astore (lv' := [(5, .ref ex), (8, .int (b2i (decide ((0 ≤ o ∧ o ≤ 999999) ∧ remP (o / 100) 10 ≤ 3) = true))), (7, .int (remP (o / 100) 10)), (6, .int (remP (o / 1000) 10)), (0, .ref (ad 0)), (1, .int k), (2, .int q), (3, .int t), (4, .int o)]) hx hb dX0_gap_193 hl (by decide) rfl (fun ls hl => ?_)
              refine lv_aload_n hx hb dX0_gap_195 rfl (lv_at hl 4 rfl) ?_
              refine lv_aload hx hb dX0_gap_196 (lv_at hl 0 rfl) ?_
              refine cv_W1 (rest := []) hc (D_X0finds l hDW hex hne (k := 0) rfl (by decide)) (lw_V q277 q279 qs1 q67 q280) nd_X0_finds ⟨Nat.le_of_ble_eq_true rfl, Nat.le_of_ble_eq_true rfl⟩ (DW.recv hK hDW) rfl hl.1 rfl (Nat.le_of_ble_eq_true rfl) dX0_gap_198 ⟨Nat.le_of_ble_eq_true rfl, Nat.le_of_ble_eq_true rfl⟩ hS (fun _ h => h) (fun H locs hq hS hz hk1 => ?_)
              obtain ⟨hDW, hf3⟩ := hq
              have hW := hW.aftD (hdj 3 (Or.inl (by decide))) (hDW.1 _ (hDW.mem (r := 3) rfl)) hf3
              have hsp_567 : gapM f k q t o = (-1000000001, cntP f 0) := by unfold gapM; rw [if_pos c_554, if_pos c_556, if_pos (Or.inr c_564), if_pos c_566]
              refine w_more (cells' := 100) (slots' := 1000) (Nat.le_of_ble_eq_true rfl) (Nat.le_of_ble_eq_true rfl) ?_
              exact ri_W hx hb hr hlk hS (by rw [hsp_567]; show (-1000000001 - 0 : Int32) = -1000000001; decide) (by rw [hsp_567]; exact DC.mk' rfl hO hDW hcok hW hdj) dX0_gap_201
            · refine lv_iload hx hb dX0_gap_93 (lv_at hl 0 rfl) ?_
              refine bi_eq (tgt := 102) hx hb dX0_gap_95 (by decide) (fun c_568 => ?_) (fun c_568 => ?_)
              · refine lv_iconst (v := 0) hx hb dX0_gap_102 (by decide) ?_
                refine lv_iconst (v := 0) hx hb dX0_gap_103 (by decide) ?_
                refine cs_T (rest := []) hc (D_need_no l hF.1 hDW.2.1 hDW.gle (x := 0) rfl 0) q207 q208 q67 q209 nd_X0_need ⟨Nat.le_of_ble_eq_true rfl, Nat.le_of_ble_eq_true rfl⟩ rfl hl.1 rfl (Nat.le_of_ble_eq_true rfl) dX0_gap_104 ⟨Nat.le_of_ble_eq_true rfl, Nat.le_of_ble_eq_true rfl⟩ hS (fun q h => hAb q (Nat.le_trans hS.1 h)) (fun ex H locs hq hS hz hk1 => ?_)
                obtain ⟨hexn, hex, hsz⟩ := hq
                have hne : ex ≠ ad 3 := by have := hDW.lt (r := 3) (fun z => by cases z); omega
                have hDW := hDW.aftM hk1
                have hW := hW.aftM hk1
                refine ct_find (pre := []) (post := []) (y := ⟨0, 192, 193, 1⟩) hc htab (by decide) (by decide) rfl hex ?_
                refine lv_astore (lv' := [(5, .ref ex), (8, .int (b2i (decide ((0 ≤ o ∧ o ≤ 999999) ∧ remP (o / 100) 10 ≤ 3) = true))), (7, .int (remP (o / 100) 10)), (6, .int (remP (o / 1000) 10)), (0, .ref (ad 0)), (1, .int k), (2, .int q), (3, .int t), (4, .int o)]) hx hb dX0_gap_193 hl (by decide) rfl (fun ls hl => ?_)
                refine lv_aload_n hx hb dX0_gap_195 rfl (lv_at hl 4 rfl) ?_
                refine lv_aload hx hb dX0_gap_196 (lv_at hl 0 rfl) ?_
                refine cv_W1 (rest := []) hc (D_X0finds l hDW hex hne (k := 0) rfl (by decide)) (lw_V q277 q279 qs1 q67 q280) nd_X0_finds ⟨Nat.le_of_ble_eq_true rfl, Nat.le_of_ble_eq_true rfl⟩ (DW.recv hK hDW) rfl hl.1 rfl (Nat.le_of_ble_eq_true rfl) dX0_gap_198 ⟨Nat.le_of_ble_eq_true rfl, Nat.le_of_ble_eq_true rfl⟩ hS (fun _ h => h) (fun H locs hq hS hz hk1 => ?_)
                obtain ⟨hDW, hf3⟩ := hq
                have hW := hW.aftD (hdj 3 (Or.inl (by decide))) (hDW.1 _ (hDW.mem (r := 3) rfl)) hf3
                have hsp_569 : gapM f k q t o = (-1000000001, cntP f 0) := by unfold gapM; rw [if_pos c_554, if_pos c_556, if_pos (Or.inr c_564), if_neg c_566]; by_cases q1 : 0 ≤ o ∧ o ≤ 999999; (rw [if_pos q1, if_neg (fun q2 => c_568 (decide_eq_true ⟨q1, q2⟩))]); (rw [if_neg q1])
                refine w_more (cells' := 100) (slots' := 1000) (Nat.le_of_ble_eq_true rfl) (Nat.le_of_ble_eq_true rfl) ?_
                exact ri_W hx hb hr hlk hS (by rw [hsp_569]; show (-1000000001 - 0 : Int32) = -1000000001; decide) (by rw [hsp_569]; exact DC.mk' rfl hO hDW hcok hW hdj) dX0_gap_201
              · refine lv_iconst (v := 1) hx hb dX0_gap_98 (by decide) ?_
                refine lv_goto (tgt := 103) hx hb dX0_gap_99 (by decide) ?_
                refine lv_iconst (v := 0) hx hb dX0_gap_103 (by decide) ?_
                refine cs_R0 (rest := []) hc (D_need_ok l (by decide) 0) (lw_S q207 q208 q67 q209) nd_X0_need ⟨Nat.le_of_ble_eq_true rfl, Nat.le_of_ble_eq_true rfl⟩ rfl hl.1 rfl (Nat.le_of_ble_eq_true rfl) dX0_gap_104 ⟨Nat.le_of_ble_eq_true rfl, Nat.le_of_ble_eq_true rfl⟩ ?_
                by_cases h20 : f 0 1 = 20
                · have hN : N = 20 := by have e := congrArg Int32.toNatClampNeg (hO.2.2.2.1.symm.trans h20); rw [nI_clamp (by omega)] at e; exact e
                  subst hN
                  refine lv_aload_n hx hb dX0_gap_107 rfl (lv_at hl 4 rfl) ?_
                  refine d_get hc hDW 0 (by decide) q161 rfl rfl dX0_gap_108 ?_
                  refine h_get hc hW 1 (by decide) rfl q124 rfl rfl dX0_gap_111 ?_
                  refine sm_topi (v := nI 20) hO.2.2.2.1 ?_
                  refine lv_bipush (v := 20) hx hb dX0_gap_114 (by decide) ?_
                  refine lv_icmp_ge (tgt := 123) hx hb dX0_gap_116 (by decide) (fun _ => ?_) (fun h => absurd (by decide) h)
                  refine lv_iconst (v := 0) hx hb dX0_gap_123 (by decide) ?_
                  refine lv_iconst (v := 1) hx hb dX0_gap_124 (by decide) ?_
                  refine cs_T (rest := []) hc (D_need_no l hF.1 hDW.2.1 hDW.gle (x := 0) rfl 1) q207 q208 q67 q209 nd_X0_need ⟨Nat.le_of_ble_eq_true rfl, Nat.le_of_ble_eq_true rfl⟩ rfl hl.1 rfl (Nat.le_of_ble_eq_true rfl) dX0_gap_125 ⟨Nat.le_of_ble_eq_true rfl, Nat.le_of_ble_eq_true rfl⟩ hS (fun q h => hAb q (Nat.le_trans hS.1 h)) (fun ex H locs hq hS hz hk1 => ?_)
                  obtain ⟨hexn, hex, hsz⟩ := hq
                  have hne : ex ≠ ad 3 := by have := hDW.lt (r := 3) (fun z => by cases z); omega
                  have hDW := hDW.aftM hk1
                  have hW := hW.aftM hk1
                  refine ct_find (pre := []) (post := []) (y := ⟨0, 192, 193, 1⟩) hc htab (by decide) (by decide) rfl hex ?_
                  refine lv_astore (lv' := [(5, .ref ex), (8, .int (b2i (decide ((0 ≤ o ∧ o ≤ 999999) ∧ remP (o / 100) 10 ≤ 3) = true))), (7, .int (remP (o / 100) 10)), (6, .int (remP (o / 1000) 10)), (0, .ref (ad 0)), (1, .int k), (2, .int q), (3, .int t), (4, .int o)]) hx hb dX0_gap_193 hl (by decide) rfl (fun ls hl => ?_)
                  refine lv_aload_n hx hb dX0_gap_195 rfl (lv_at hl 4 rfl) ?_
                  refine lv_aload hx hb dX0_gap_196 (lv_at hl 0 rfl) ?_
                  refine cv_W1 (rest := []) hc (D_X0finds l hDW hex hne (k := 1) rfl (by decide)) (lw_V q277 q279 qs1 q67 q280) nd_X0_finds ⟨Nat.le_of_ble_eq_true rfl, Nat.le_of_ble_eq_true rfl⟩ (DW.recv hK hDW) rfl hl.1 rfl (Nat.le_of_ble_eq_true rfl) dX0_gap_198 ⟨Nat.le_of_ble_eq_true rfl, Nat.le_of_ble_eq_true rfl⟩ hS (fun _ h => h) (fun H locs hq hS hz hk1 => ?_)
                  obtain ⟨hDW, hf3⟩ := hq
                  have hW := hW.aftD (hdj 3 (Or.inl (by decide))) (hDW.1 _ (hDW.mem (r := 3) rfl)) hf3
                  have hsp_570 : gapM f k q t o = (-1000000002, cntP f 1) := by unfold gapM; rw [if_pos c_554, if_pos c_556, if_pos (Or.inr c_564), if_neg c_566, if_pos (of_decide_eq_true c_568).1, if_pos (of_decide_eq_true c_568).2, if_pos h20]
                  refine w_more (cells' := 100) (slots' := 1000) (Nat.le_of_ble_eq_true rfl) (Nat.le_of_ble_eq_true rfl) ?_
                  exact ri_W hx hb hr hlk hS (by rw [hsp_570]; show (-1000000001 - 1 : Int32) = -1000000002; decide) (by rw [hsp_570]; exact DC.mk' rfl hO hDW hcok hW hdj) dX0_gap_201
                · have hN := hO.nFull h20
                  have hpp := o_parts (of_decide_eq_true c_568).1 (of_decide_eq_true c_568).2
                  have hO1 := hO.ng hN (a0 := k) (a1 := q) (a2 := t) (a3 := o / 10000) (a4 := remP (o / 1000) 10) (a5 := remP (o / 100) 10) (a6 := remP o 100) (by obtain ⟨j, hj, e⟩ := ex_le 5 (hi := 5) rfl (by decide) c_554.1 c_554.2; exact ⟨j, by omega, e⟩) (hO.exRoom c_556) (Or.inr (hO.exRoom c_564)) c_566 hpp.1 hpp.2.1 hpp.2.2.1 hpp.2.2.2
                  refine lv_aload_n hx hb dX0_gap_107 rfl (lv_at hl 4 rfl) ?_
                  refine d_get hc hDW 0 (by decide) q161 rfl rfl dX0_gap_108 ?_
                  refine h_get hc hW 1 (by decide) rfl q124 rfl rfl dX0_gap_111 ?_
                  refine sm_topi (v := nI N) hO.2.2.2.1 ?_
                  refine lv_bipush (v := 20) hx hb dX0_gap_114 (by decide) ?_
                  refine lv_icmp_ge (tgt := 123) hx hb dX0_gap_116 (by decide) (fun h => absurd h (nI_ge (b := 20) hN (by decide))) (fun _ => ?_)
                  refine lv_iconst (v := 1) hx hb dX0_gap_119 (by decide) ?_
                  refine lv_goto (tgt := 124) hx hb dX0_gap_120 (by decide) ?_
                  refine lv_iconst (v := 1) hx hb dX0_gap_124 (by decide) ?_
                  refine cs_R0 (rest := []) hc (D_need_ok l (by decide) 1) (lw_S q207 q208 q67 q209) nd_X0_need ⟨Nat.le_of_ble_eq_true rfl, Nat.le_of_ble_eq_true rfl⟩ rfl hl.1 rfl (Nat.le_of_ble_eq_true rfl) dX0_gap_125 ⟨Nat.le_of_ble_eq_true rfl, Nat.le_of_ble_eq_true rfl⟩ ?_
                  refine lv_aload_n hx hb dX0_gap_128 rfl (lv_at hl 4 rfl) ?_
                  refine d_get hc hDW 0 (by decide) q161 rfl rfl dX0_gap_129 ?_
                  refine h_get hc hW 2 (by decide) rfl q127 rfl rfl dX0_gap_132 ?_
                  refine lv_aload_n hx hb dX0_gap_135 rfl (lv_at hl 4 rfl) ?_
                  refine d_get hc hDW 0 (by decide) q161 rfl rfl dX0_gap_136 ?_
                  refine h_get hc hW 1 (by decide) rfl q124 rfl rfl dX0_gap_139 ?_
                  refine sm_topi (v := nI N) hO.2.2.2.1 ?_
                  refine h_sld hc hW (ix_nI (by omega) (by decide)) dX0_gap_142 ?_
                  refine lv_iload_n hx hb dX0_gap_143 rfl (lv_at hl 5 rfl) ?_
                  refine lv_iload_n hx hb dX0_gap_144 rfl (lv_at hl 6 rfl) ?_
                  refine lv_iload_n hx hb dX0_gap_145 rfl (lv_at hl 7 rfl) ?_
                  refine lv_iload hx hb dX0_gap_146 (lv_at hl 3 rfl) ?_
                  refine lv_iload hx hb dX0_gap_148 (lv_at hl 2 rfl) ?_
                  refine lv_iload hx hb dX0_gap_150 (lv_at hl 1 rfl) ?_
                  refine lv_iload hx hb dX0_gap_152 (lv_at hl 8 rfl) ?_
                  refine lv_bipush (v := 100) hx hb dX0_gap_154 (by decide) ?_
                  refine lv_irem hx hb dX0_gap_156 (by decide) (sm_topi (v := remP o 100) rfl ?_)
                  obtain ⟨kk, hkk, hke⟩ := ex_le 5 (hi := 5) rfl (by decide) c_554.1 c_554.2
                  have hkc : k.toNatClampNeg = kk := by rw [hke]; exact nI_clamp (by omega)
                  have hgo := D_gapOf l (G := G) (H0 := s.heap) (show kk < 6 by omega) q t (o / 10000) (remP (o / 1000) 10) (remP (o / 100) 10) (remP o 100)
                  rw [← hke] at hgo
                  refine cs_W1 (rest := [.ref (ah (10 + N))]) hc hgo (lw_S q302 q303 q67 q304) nd_X0_gapOf ⟨Nat.le_of_ble_eq_true rfl, Nat.le_of_ble_eq_true rfl⟩ rfl hl.1 rfl (Nat.le_of_ble_eq_true rfl) dX0_gap_157 ⟨Nat.le_of_ble_eq_true rfl, Nat.le_of_ble_eq_true rfl⟩ hS (fun q h => hAb q h) (fun H locs hq hS hz hk1 => ?_)
                  have hlt : ∀ z, HR N ah ga z → z < s.heap.size := fun z hz => HR.lt hW hz
                  have hdl := hdlt hDW
                  have hDW := hDW.aftM hk1
                  have hW := hW.aftM hk1
                  refine h_hold (r' := ngH (f 0) N k q t (o / 10000) (remP (o / 1000) 10) (remP (o / 100) 10) (remP o 100)) (rest := []) hc hW hS hN (by rw [ngH_g.1, ngH_g.2, hkc]; exact hq.1) (hAb _ (Nat.le_refl _)) (fun z hz e => by have := hlt (hAd ah ga z) ⟨z, hE_some hz, rfl⟩; omega) (ngH_lo (by omega)) (ngH_lo (by omega)) (ngH_lo (by omega)) (fun j hj => ngH_lo (by omega)) rfl q115 dX0_gap_160 (fun H locs hW hS hz oq => ?_)
                  have hDW := hDW.aftH hdj hHA (HR.s hN) oq
                  have hdj : ∀ z, dS (f 19) z → ¬ HR (N + 1) ah (updN ga N s.heap.size) (ad z) := fun z hz h => by rcases HR_hold h with h1 | h1; exact hdj z hz h1; have := hdl z hz; omega
                  have hHA : ∀ z, HR (N + 1) ah (updN ga N s.heap.size) z → A z := fun z h => by rcases HR_hold h with h1 | h1; exact hHA z h1; rw [h1]; exact hAb _ (Nat.le_refl _)
                  refine lv_aload_n hx hb dX0_gap_163 rfl (lv_at hl 4 rfl) ?_
                  refine d_get hc hDW 0 (by decide) q161 rfl rfl dX0_gap_164 ?_
                  refine lv_dup hx hb dX0_gap_167 rfl ?_
                  refine h_get hc hW 1 (by decide) rfl q124 rfl rfl dX0_gap_168 ?_
                  refine sm_topi (v := nI N) ((ngH_lo (by omega)).trans hO.2.2.2.1) ?_
                  refine lv_iconst (v := 1) hx hb dX0_gap_171 (by decide) ?_
                  refine lv_iadd hx hb dX0_gap_172 (sm_topi (v := nI (N + 1)) (nI_add _ _) ?_)
                  refine h_put (r' := upd (ngH (f 0) N k q t (o / 10000) (remP (o / 1000) 10) (remP (o / 100) 10) (remP o 100)) 1 (nI (N + 1))) (u' := u) hc hW hS 1 (by decide) rfl q124 rfl rfl rfl rfl rfl rfl (fun j hj => if_neg (by omega)) rfl rfl dX0_gap_173 (fun H locs hW hS hz oq => ?_)
                  have hDW := hDW.aftH hdj hHA HR.o oq
                  have hW : HW G A (N + 1) (ngR (f 0) N k q t (o / 10000) (remP (o / 1000) 10) (remP (o / 100) 10) (remP o 100)) u hv ah (updN ga N s.heap.size) H := hW
                  refine lv_aload_n hx hb dX0_gap_176 rfl (lv_at hl 4 rfl) ?_
                  refine d_get hc hDW 0 (by decide) q161 rfl rfl dX0_gap_177 ?_
                  refine cv_W0 (rest := []) hc (D_changes l hF hW.toR hO1) (lw_V q273 q274 q275 q68 q276) nd_X1_changes ⟨Nat.le_of_ble_eq_true rfl, Nat.le_of_ble_eq_true rfl⟩ (HW.recv hK hW) rfl hl.1 rfl (Nat.le_of_ble_eq_true rfl) dX0_gap_180 ⟨Nat.le_of_ble_eq_true rfl, Nat.le_of_ble_eq_true rfl⟩ hS hHA (fun H locs hq hS hz hk1 => ?_)
                  have hDW := hDW.aftC hdj hHA hk1
                  obtain ⟨u, hv, hcok, hW⟩ := HS.ofR (HS.ch hq) hW.1 hHA
                  refine lv_aload_n hx hb dX0_gap_183 rfl (lv_at hl 4 rfl) ?_
                  refine d_get hc hDW 0 (by decide) q161 rfl rfl dX0_gap_184 ?_
                  refine h_get hc hW 1 (by decide) rfl q124 rfl rfl dX0_gap_187 ?_
                  refine sm_topi (v := nI (N + 1)) hO1.2.2.2.1 ?_
                  refine lv_iconst (v := 1) hx hb dX0_gap_190 (by decide) ?_
                  refine lv_isub hx hb dX0_gap_191 ?_
                  have hsp : gapM f k q t o = (f 0 1, ngP f N k q t (o / 10000) (remP (o / 1000) 10) (remP (o / 100) 10) (remP o 100)) := by unfold gapM; rw [if_pos c_554, if_pos c_556, if_pos (Or.inr c_564), if_neg c_566, if_pos (of_decide_eq_true c_568).1, if_pos (of_decide_eq_true c_568).2, if_neg h20]; rw [hO.cl1]
                  refine w_more (cells' := 100) (slots' := 1000) (Nat.le_of_ble_eq_true rfl) (Nat.le_of_ble_eq_true rfl) ?_
                  exact ri_W hx hb hr hlk hS (by rw [hsp]; show nI (N + 1) - 1 = f 0 1; rw [hO.2.2.2.1]; exact nI_pred _) (by rw [hsp]; exact DC.mk' ngP_0 hO1 (hDW.fr rfl rfl rfl rfl rfl rfl) hcok hW hdj) dX0_gap_192
  · refine lv_if_lt (tgt := 52) hx hb dX0_gap_31 (by decide) (fun c_571 => ?_) (fun c_571 => ?_)
    · refine lv_iconst (v := 0) hx hb dX0_gap_52 (by decide) ?_
      exact jn _ ((b2i_f (fun h => absurd c_571 (Int32.not_lt.mpr (of_decide_eq_true h).1.1))).symm)
    · refine lv_iload hx hb dX0_gap_34 (lv_at hl 2 rfl) ?_
      refine cs_R1 (rest := []) hc (D_isWide l (o / 10000)) (lw_S q290 q291 q67 q292) nd_X0_isWide ⟨Nat.le_of_ble_eq_true rfl, Nat.le_of_ble_eq_true rfl⟩ rfl hl.1 rfl (Nat.le_of_ble_eq_true rfl) dX0_gap_36 ⟨Nat.le_of_ble_eq_true rfl, Nat.le_of_ble_eq_true rfl⟩ ?_
      refine bi_eq (tgt := 52) hx hb dX0_gap_39 (by decide) (fun c_572 => ?_) (fun c_572 => ?_)
      · refine lv_iconst (v := 0) hx hb dX0_gap_52 (by decide) ?_
        exact jn _ ((b2i_f (fun h => c_572 ((o_wide c_571).mpr (of_decide_eq_true h).1.2))).symm)
      · refine lv_iload hx hb dX0_gap_42 (lv_at hl 0 rfl) ?_
        refine lv_iconst (v := 4) hx hb dX0_gap_44 (by decide) ?_
        refine lv_icmp_ge (tgt := 52) hx hb dX0_gap_45 (by decide) (fun c_573 => ?_) (fun c_573 => ?_)
        · refine lv_iconst (v := 0) hx hb dX0_gap_52 (by decide) ?_
          exact jn _ ((b2i_f (fun h => absurd c_573 (le3.mpr (of_decide_eq_true h).2))).symm)
        · refine lv_iconst (v := 1) hx hb dX0_gap_48 (by decide) ?_
          refine lv_goto (tgt := 53) hx hb dX0_gap_49 (by decide) ?_
          exact jn _ ((b2i_t (decide_eq_true ⟨⟨Int32.not_lt.mp c_571, (o_wide c_571).mp c_572⟩, le3.mp c_573⟩)).symm)
