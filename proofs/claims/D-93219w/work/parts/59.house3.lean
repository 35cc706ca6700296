/-! a house's methods, 3: what is asked of it -/
set_option maxRecDepth 100000
theorem psh_there {r q : Nat → Int32} {R i : Nat} (h : GapOk r R i) (hR : R ≤ 6) (hq : ∀ j, j < 6 → q j = prP r j) : pshV r q i (r (gp i 1)) = thereP r (prP r) i := by
  unfold pshV thereP
  rw [if_pos rfl]
  by_cases c : r (gp i 2) = -1
  · rw [if_pos c, if_pos c]
  · rw [if_neg c, if_neg c]
    exact hq _ (h.toIx hR c).lt
theorem abs_size {v : Int32} : (if 0 ≤ v then v else 0 - v) = sizeP v := by
  unfold sizeP
  by_cases h : v < 0
  · rw [if_pos h, if_neg (Int32.not_le.mpr h)]
  · rw [if_neg h, if_pos (Int32.not_lt.mp h)]
theorem min_9 {y : Int32} : (if y < 9 then y else 9) = (if 9 < y then 9 else y) := by
  by_cases h : y < 9
  · rw [if_pos h, if_neg (fun h2 => absurd (Int32.lt_trans h h2) Int32.lt_irrefl)]
  · rw [if_neg h]
    by_cases h2 : (9 : Int32) < y
    · rw [if_pos h2]
    · rw [if_neg h2]
      exact Int32.le_antisymm (Int32.not_lt.mp h) (Int32.not_lt.mp h2)
theorem HCok_8 {r : Nat → Int32} {u : Nat → Nat → Int32} {z : Int32} (h : HCok r u) : HCok (upd r 8 z) u := by
  unfold HCok at h ⊢
  rw [prP_8 eq8_upd, rdP_8 eq8_upd]
  exact h
theorem HS.ch {G : GD} {A : Nat → Prop} {N : Nat} {r : Nat → Int32} {u : Nat → Nat → Int32} {hv : Nat → Value} {ah ga : Nat → Nat} {H : Heap} (h : HW G A N r (up2 u 0 0 0) hv ah ga H) : HS G A N r ah ga H := ⟨_, _, HCok.of0 up2_at, h⟩
theorem HS.recv {G : GD} {A : Nat → Prop} {N : Nat} {r : Nat → Int32} {ah ga : Nat → Nat} {H : Heap} {s : State} (hK : KV G s) (h : HS G A N r ah ga H) : ∃ cell : Cell, H[ah 0]? = some cell ∧ cell.vm.isStatics = false ∧ s.vm.findClass RX1 = some cell.cls := by
  obtain ⟨u, hv, -, hW⟩ := h
  exact HW.recv hK hW
theorem nd_X1_pressure : yX1_pressure.cls = "SmokeLeans$House" ∧ yX1_pressure.cls ≠ "java/lang/invoke/MethodHandle" ∧ yX1_pressure.cls ≠ "java/lang/invoke/VarHandle" ∧ (parseMethodDescriptor yX1_pressure.desc).map (fun d => d.parameters.length) = some 1 := by decide +kernel
set_option maxHeartbeats 4000000 in
theorem D_pressure (l : Launch) {G : GD} {A : Nat → Prop} {N R : Nat} {r : Nat → Int32} {ah ga : Nat → Nat} {H0 : Heap} (hF : FG G) (hH : HS G A N r ah ga H0) (hO : OkN r R N) (i : Nat) (hi : i < R) : MetW l G yX1_pressure cX1_pressure 2 (some .int) 7 0 0 A [.ref (ah 0), .int (nI i)] H0 (some (.int (prP r i))) (fun H => HS G A N r ah ga H) := by
  refine mx_of (by decide) (Nat.le_of_ble_eq_true rfl) ?_
  intro p e s m below meth c hx hb hr hc hlk hnm hs0 ls hl
  subst hs0
  have hown := hc.2.2.2.1
  have hts := hc.2.2.2.2.1
  have hK := hc.2.2.2.2.2
  have hl : lv_has ls 2 [(0, .ref (ah 0)), (1, .int (nI i))] := hl
  have hS : va_S A s.heap s.heap [] := va_S.rf
  have hN20 := hO.2.1
  obtain ⟨u, hv, hcok, hW⟩ := hH
  have hi6 : i < 6 := by have := hO.1; omega
  refine lv_aload_n hx hb dX1_pressure_0 rfl (lv_at hl 0 rfl) ?_
  refine cv_W0 (rest := []) hc (D_finds l hF hW hO hcok) (lw_V q736 q738 qs15 q68 q739) nd_X1_finds ⟨Nat.le_of_ble_eq_true rfl, Nat.le_of_ble_eq_true rfl⟩ (HW.recv hK hW) rfl hl.1 rfl (Nat.le_of_ble_eq_true rfl) dX1_pressure_1 ⟨Nat.le_of_ble_eq_true rfl, Nat.le_of_ble_eq_true rfl⟩ hS (fun _ h => h) (fun H locs hq hS hz hk => ?_)
  obtain ⟨u1, hu1, hcok, hW⟩ := hq
  refine lv_aload_n hx hb dX1_pressure_4 rfl (lv_at hl 0 rfl) ?_
  refine h_get hc hW 6 (by decide) rfl q134 rfl rfl dX1_pressure_5 ?_
  refine lv_iload_n hx hb dX1_pressure_8 rfl (lv_at hl 1 rfl) ?_
  refine h_ild hc hW.pr (ix_nI (by omega) (by decide)) dX1_pressure_9 ?_
  exact ri_W hx hb hr hlk hS ((hcok.2 hu1).1 i hi6) (⟨_, _, hcok, hW⟩) dX1_pressure_10
theorem nd_X1_rounds : yX1_rounds.cls = "SmokeLeans$House" ∧ yX1_rounds.cls ≠ "java/lang/invoke/MethodHandle" ∧ yX1_rounds.cls ≠ "java/lang/invoke/VarHandle" ∧ (parseMethodDescriptor yX1_rounds.desc).map (fun d => d.parameters.length) = some 0 := by decide +kernel
set_option maxHeartbeats 4000000 in
theorem D_rounds (l : Launch) {G : GD} {A : Nat → Prop} {N R : Nat} {r : Nat → Int32} {ah ga : Nat → Nat} {H0 : Heap} (hF : FG G) (hH : HS G A N r ah ga H0) (hO : OkN r R N)  : MetW l G yX1_rounds cX1_rounds 1 (some .int) 7 0 0 A [.ref (ah 0)] H0 (some (.int (nI (rdP r)))) (fun H => HS G A N r ah ga H) := by
  refine mx_of (by decide) (Nat.le_of_ble_eq_true rfl) ?_
  intro p e s m below meth c hx hb hr hc hlk hnm hs0 ls hl
  subst hs0
  have hown := hc.2.2.2.1
  have hts := hc.2.2.2.2.1
  have hK := hc.2.2.2.2.2
  have hl : lv_has ls 1 [(0, .ref (ah 0))] := hl
  have hS : va_S A s.heap s.heap [] := va_S.rf
  have hN20 := hO.2.1
  obtain ⟨u, hv, hcok, hW⟩ := hH
  refine lv_aload_n hx hb dX1_rounds_0 rfl (lv_at hl 0 rfl) ?_
  refine cv_W0 (rest := []) hc (D_finds l hF hW hO hcok) (lw_V q736 q738 qs15 q68 q739) nd_X1_finds ⟨Nat.le_of_ble_eq_true rfl, Nat.le_of_ble_eq_true rfl⟩ (HW.recv hK hW) rfl hl.1 rfl (Nat.le_of_ble_eq_true rfl) dX1_rounds_1 ⟨Nat.le_of_ble_eq_true rfl, Nat.le_of_ble_eq_true rfl⟩ hS (fun _ h => h) (fun H locs hq hS hz hk => ?_)
  obtain ⟨u1, hu1, hcok, hW⟩ := hq
  refine lv_aload_n hx hb dX1_rounds_4 rfl (lv_at hl 0 rfl) ?_
  refine h_get hc hW 8 (by decide) rfl q136 rfl rfl dX1_rounds_5 ?_
  exact ri_W hx hb hr hlk hS ((hcok.2 hu1).2.1) (⟨_, _, hcok, hW⟩) dX1_rounds_8
theorem nd_X1_isRestless : yX1_isRestless.cls = "SmokeLeans$House" ∧ yX1_isRestless.cls ≠ "java/lang/invoke/MethodHandle" ∧ yX1_isRestless.cls ≠ "java/lang/invoke/VarHandle" ∧ (parseMethodDescriptor yX1_isRestless.desc).map (fun d => d.parameters.length) = some 0 := by decide +kernel
set_option maxHeartbeats 4000000 in
theorem D_isRestless (l : Launch) {G : GD} {A : Nat → Prop} {N R : Nat} {r : Nat → Int32} {ah ga : Nat → Nat} {H0 : Heap} (hF : FG G) (hH : HS G A N r ah ga H0) (hO : OkN r R N)  : MetW l G yX1_isRestless cX1_isRestless 1 (some .boolean) 7 0 0 A [.ref (ah 0)] H0 (some (.int (b2i (rdP r = 60)))) (fun H => HS G A N r ah ga H) := by
  refine mx_of (by decide) (Nat.le_of_ble_eq_true rfl) ?_
  intro p e s m below meth c hx hb hr hc hlk hnm hs0 ls hl
  subst hs0
  have hown := hc.2.2.2.1
  have hts := hc.2.2.2.2.1
  have hK := hc.2.2.2.2.2
  have hl : lv_has ls 1 [(0, .ref (ah 0))] := hl
  have hS : va_S A s.heap s.heap [] := va_S.rf
  have hN20 := hO.2.1
  obtain ⟨u, hv, hcok, hW⟩ := hH
  refine lv_aload_n hx hb dX1_isRestless_0 rfl (lv_at hl 0 rfl) ?_
  refine cv_W0 (rest := []) hc (D_finds l hF hW hO hcok) (lw_V q736 q738 qs15 q68 q739) nd_X1_finds ⟨Nat.le_of_ble_eq_true rfl, Nat.le_of_ble_eq_true rfl⟩ (HW.recv hK hW) rfl hl.1 rfl (Nat.le_of_ble_eq_true rfl) dX1_isRestless_1 ⟨Nat.le_of_ble_eq_true rfl, Nat.le_of_ble_eq_true rfl⟩ hS (fun _ h => h) (fun H locs hq hS hz hk => ?_)
  obtain ⟨u1, hu1, hcok, hW⟩ := hq
  refine lv_aload_n hx hb dX1_isRestless_4 rfl (lv_at hl 0 rfl) ?_
  refine h_get hc hW 9 (by decide) rfl q137 rfl rfl dX1_isRestless_5 ?_
  exact rz_W hx hb hr hlk hS ((hcok.2 hu1).2.2) (⟨_, _, hcok, hW⟩) dX1_isRestless_8
theorem nd_X1_flow : yX1_flow.cls = "SmokeLeans$House" ∧ yX1_flow.cls ≠ "java/lang/invoke/MethodHandle" ∧ yX1_flow.cls ≠ "java/lang/invoke/VarHandle" ∧ (parseMethodDescriptor yX1_flow.desc).map (fun d => d.parameters.length) = some 1 := by decide +kernel
set_option maxHeartbeats 4000000 in
theorem D_flow (l : Launch) {G : GD} {A : Nat → Prop} {N R : Nat} {r : Nat → Int32} {ah ga : Nat → Nat} {H0 : Heap} (hF : FG G) (hH : HS G A N r ah ga H0) (hO : OkN r R N) (i : Nat) (hi : i < N) : MetW l G yX1_flow cX1_flow 3 (some .int) 7 0 0 A [.ref (ah 0), .int (nI i)] H0 (some (.int (flowP r i))) (fun H => HS G A N r ah ga H) := by
  refine mx_of (by decide) (Nat.le_of_ble_eq_true rfl) ?_
  intro p e s m below meth c hx hb hr hc hlk hnm hs0 ls hl
  subst hs0
  have hown := hc.2.2.2.1
  have hts := hc.2.2.2.2.1
  have hK := hc.2.2.2.2.2
  have hl : lv_has ls 3 [(0, .ref (ah 0)), (1, .int (nI i))] := hl
  have hS : va_S A s.heap s.heap [] := va_S.rf
  have hN20 := hO.2.1
  obtain ⟨u, hv, hcok, hW⟩ := hH
  refine lv_aload_n hx hb dX1_flow_0 rfl (lv_at hl 0 rfl) ?_
  refine cv_W0 (rest := []) hc (D_finds l hF hW hO hcok) (lw_V q736 q738 qs15 q68 q739) nd_X1_finds ⟨Nat.le_of_ble_eq_true rfl, Nat.le_of_ble_eq_true rfl⟩ (HW.recv hK hW) rfl hl.1 rfl (Nat.le_of_ble_eq_true rfl) dX1_flow_1 ⟨Nat.le_of_ble_eq_true rfl, Nat.le_of_ble_eq_true rfl⟩ hS (fun _ h => h) (fun H locs hq hS hz hk => ?_)
  obtain ⟨u1, hu1, hcok, hW⟩ := hq
  refine lv_aload_n hx hb dX1_flow_4 rfl (lv_at hl 0 rfl) ?_
  refine lv_iload_n hx hb dX1_flow_5 rfl (lv_at hl 1 rfl) ?_
  refine cv_R1 (rest := []) hc (D_hgap l hF hW hO i hi) (lw_V q466 q429 q430 q68 q431) nd_X1_gap ⟨Nat.le_of_ble_eq_true rfl, Nat.le_of_ble_eq_true rfl⟩ (HW.recv hK hW) rfl hl.1 rfl (Nat.le_of_ble_eq_true rfl) dX1_flow_6 ⟨Nat.le_of_ble_eq_true rfl, Nat.le_of_ble_eq_true rfl⟩ ?_
  refine lv_astore_n (lv' := [(2, .ref (ga i)), (0, .ref (ah 0)), (1, .int (nI i))]) hx hb dX1_flow_9 rfl hl (by decide) rfl (fun ls hl => ?_)
  refine lv_aload_n hx hb dX1_flow_10 rfl (lv_at hl 0 rfl) ?_
  refine lv_aload_n hx hb dX1_flow_11 rfl (lv_at hl 1 rfl) ?_
  refine h_get hc hW 3 (by decide) rfl q128 rfl rfl dX1_flow_12 ?_
  refine gv_breadth (rest := []) hc q467 hW.nt (hO.gap hi).kd.1 (hW.gp hi) ⟨Nat.le_of_ble_eq_true rfl, Nat.le_of_ble_eq_true rfl⟩ hl.1 (Nat.le_of_ble_eq_true rfl) dX1_flow_15 ⟨Nat.le_of_ble_eq_true rfl, Nat.le_of_ble_eq_true rfl⟩ (sm_topi (v := breadthP r i) (brK_eq (hO.gap hi)) ?_)
  refine lv_aload_n hx hb dX1_flow_18 rfl (lv_at hl 1 rfl) ?_
  refine lv_aload_n hx hb dX1_flow_19 rfl (lv_at hl 0 rfl) ?_
  refine lv_aload_n hx hb dX1_flow_20 rfl (lv_at hl 0 rfl) ?_
  refine gv_get hc (hO.gap hi).kd.1 (hW.gp hi) 0 (by decide) q312 rfl dX1_flow_21 ?_
  refine lv_aload_n hx hb dX1_flow_24 rfl (lv_at hl 1 rfl) ?_
  refine h_get hc hW 6 (by decide) rfl q134 rfl rfl dX1_flow_25 ?_
  refine cv_R1 (rest := [.int (breadthP r i)]) hc (D_pushes l hF hW hO i hi (r (gp i 1)) hW.pr) (lw_V q748 q750 qs18 q68 q751) nd_X1_pushes ⟨Nat.le_of_ble_eq_true rfl, Nat.le_of_ble_eq_true rfl⟩ (HW.recv hK hW) rfl hl.1 rfl (Nat.le_of_ble_eq_true rfl) dX1_flow_28 ⟨Nat.le_of_ble_eq_true rfl, Nat.le_of_ble_eq_true rfl⟩ ?_
  refine sm_topi (v := thereP r (prP r) i) (psh_there (hO.gap hi) hO.1 (hcok.2 hu1).1) ?_
  refine lv_aload_n hx hb dX1_flow_31 rfl (lv_at hl 1 rfl) ?_
  refine h_get hc hW 6 (by decide) rfl q134 rfl rfl dX1_flow_32 ?_
  refine lv_aload_n hx hb dX1_flow_35 rfl (lv_at hl 0 rfl) ?_
  refine gv_get hc (hO.gap hi).kd.1 (hW.gp hi) 0 (by decide) q312 rfl dX1_flow_36 ?_
  refine h_ild hc hW.pr ((hO.gap hi).rmIx hO.1) dX1_flow_39 ?_
  refine sm_topi (v := prP r (r (gp i 1)).toNatClampNeg) ((hcok.2 hu1).1 _ ((hO.gap hi).rmIx hO.1).lt) ?_
  refine lv_isub hx hb dX1_flow_40 ?_
  refine lv_imul hx hb dX1_flow_41 ?_
  refine lv_bipush (v := 80) hx hb dX1_flow_42 (by decide) ?_
  refine lv_idiv hx hb dX1_flow_44 (by decide) ?_
  exact ri_W hx hb hr hlk hS (rfl) (⟨_, _, hcok, hW⟩) dX1_flow_45
theorem lean_a {v : Int32} (h : sizeP v < 5) : leanV v = 0 := by unfold leanV; rw [if_pos h]
theorem lean_b {v : Int32} (h : ¬ sizeP v < 5) (h2 : v < 0) : leanV v = -(if sizeP v / 20 + 1 < 9 then sizeP v / 20 + 1 else 9) := by
  unfold leanV
  rw [if_neg h, if_pos h2, min_9]
  simp
theorem lean_c {v : Int32} (h : ¬ sizeP v < 5) (h2 : ¬ v < 0) : leanV v = (if sizeP v / 20 + 1 < 9 then sizeP v / 20 + 1 else 9) := by
  unfold leanV
  rw [if_neg h, if_neg h2, min_9]
theorem nd_X1_lean : yX1_lean.cls = "SmokeLeans$House" ∧ yX1_lean.cls ≠ "java/lang/invoke/MethodHandle" ∧ yX1_lean.cls ≠ "java/lang/invoke/VarHandle" ∧ (parseMethodDescriptor yX1_lean.desc).map (fun d => d.parameters.length) = some 1 := by decide +kernel
set_option maxHeartbeats 4000000 in
theorem D_lean (l : Launch) {G : GD} {A : Nat → Prop} {N R : Nat} {r : Nat → Int32} {ah ga : Nat → Nat} {H0 : Heap} (hF : FG G) (hH : HS G A N r ah ga H0) (hO : OkN r R N) (i : Nat) (hi : i < N) : MetW l G yX1_lean cX1_lean 4 (some .int) 8 0 0 A [.ref (ah 0), .int (nI i)] H0 (some (.int (leanP r i))) (fun H => HS G A N r ah ga H) := by
  refine mx_of (by decide) (Nat.le_of_ble_eq_true rfl) ?_
  intro p e s m below meth c hx hb hr hc hlk hnm hs0 ls hl
  subst hs0
  have hown := hc.2.2.2.1
  have hts := hc.2.2.2.2.1
  have hK := hc.2.2.2.2.2
  have hl : lv_has ls 4 [(0, .ref (ah 0)), (1, .int (nI i))] := hl
  have hS : va_S A s.heap s.heap [] := va_S.rf
  have hN20 := hO.2.1
  refine lv_aload_n hx hb dX1_lean_0 rfl (lv_at hl 0 rfl) ?_
  refine lv_iload_n hx hb dX1_lean_1 rfl (lv_at hl 1 rfl) ?_
  refine cv_W1 (rest := []) hc (D_flow l hF hH hO i hi) (lw_V q769 q758 q759 q68 q760) nd_X1_flow ⟨Nat.le_of_ble_eq_true rfl, Nat.le_of_ble_eq_true rfl⟩ (HS.recv hK hH) rfl hl.1 rfl (Nat.le_of_ble_eq_true rfl) dX1_lean_2 ⟨Nat.le_of_ble_eq_true rfl, Nat.le_of_ble_eq_true rfl⟩ hS (fun _ h => h) (fun H locs hH hS hz hk => ?_)
  refine lv_istore_n (lv' := [(2, .int (flowP r i)), (0, .ref (ah 0)), (1, .int (nI i))]) hx hb dX1_lean_5 rfl hl (by decide) rfl (fun ls hl => ?_)
  refine lv_iload_n hx hb dX1_lean_6 rfl (lv_at hl 0 rfl) ?_
  refine va_mabs (rest := []) hx hb (hc.2.2.1.trans hl.1.symm) hown (hts _ q770) (hts _ q771) (hts _ q87) (hts _ q772) (Nat.le_of_ble_eq_true rfl) (Nat.le_of_ble_eq_true rfl) (Nat.le_of_ble_eq_true rfl) (Nat.le_of_ble_eq_true rfl) dX1_lean_7 (sm_topi (v := sizeP (flowP r i)) (abs_size) ?_)
  refine lv_iconst (v := 5) hx hb dX1_lean_10 (by decide) ?_
  refine lv_icmp_ge (tgt := 18) hx hb dX1_lean_11 (by decide) (fun c_417 => ?_) (fun c_417 => ?_)
  · refine lv_bipush (v := 9) hx hb dX1_lean_18 (by decide) ?_
    refine lv_iload_n hx hb dX1_lean_20 rfl (lv_at hl 0 rfl) ?_
    refine va_mabs (rest := [.int 9]) hx hb (hc.2.2.1.trans hl.1.symm) hown (hts _ q770) (hts _ q771) (hts _ q87) (hts _ q772) (Nat.le_of_ble_eq_true rfl) (Nat.le_of_ble_eq_true rfl) (Nat.le_of_ble_eq_true rfl) (Nat.le_of_ble_eq_true rfl) dX1_lean_21 (sm_topi (v := sizeP (flowP r i)) (abs_size) ?_)
    refine lv_bipush (v := 20) hx hb dX1_lean_24 (by decide) ?_
    refine lv_idiv hx hb dX1_lean_26 (by decide) ?_
    refine lv_iconst (v := 1) hx hb dX1_lean_27 (by decide) ?_
    refine lv_iadd hx hb dX1_lean_28 ?_
    refine va_mmin (rest := []) hx hb (hc.2.2.1.trans hl.1.symm) hown (hts _ q773) (hts _ q774) (hts _ q87) (hts _ q775) (Nat.le_of_ble_eq_true rfl) (Nat.le_of_ble_eq_true rfl) (Nat.le_of_ble_eq_true rfl) (Nat.le_of_ble_eq_true rfl) dX1_lean_29 (sm_topi (v := if (((sizeP (flowP r i)) / 20) + 1) < 9 then (((sizeP (flowP r i)) / 20) + 1) else 9) (rfl) ?_)
    refine lv_istore_n (lv' := [(3, .int (if (((sizeP (flowP r i)) / 20) + 1) < 9 then (((sizeP (flowP r i)) / 20) + 1) else 9)), (2, .int (flowP r i)), (0, .ref (ah 0)), (1, .int (nI i))]) hx hb dX1_lean_32 rfl hl (by decide) rfl (fun ls hl => ?_)
    refine lv_iload_n hx hb dX1_lean_33 rfl (lv_at hl 1 rfl) ?_
    refine lv_if_ge (tgt := 42) hx hb dX1_lean_34 (by decide) (fun c_418 => ?_) (fun c_418 => ?_)
    · refine lv_iload_n hx hb dX1_lean_42 rfl (lv_at hl 0 rfl) ?_
      exact ri_W hx hb hr hlk hS ((by rw [leanP, lean_c (Int32.not_lt.mpr c_417) (Int32.not_lt.mpr c_418)])) (hH) dX1_lean_43
    · refine lv_iload_n hx hb dX1_lean_37 rfl (lv_at hl 0 rfl) ?_
      refine lv_ineg hx hb dX1_lean_38 ?_
      refine lv_goto (tgt := 43) hx hb dX1_lean_39 (by decide) ?_
      exact ri_W hx hb hr hlk hS ((by rw [leanP, lean_b (Int32.not_lt.mpr c_417) (Int32.not_le.mp c_418)])) (hH) dX1_lean_43
  · refine lv_iconst (v := 0) hx hb dX1_lean_14 (by decide) ?_
    refine lv_goto (tgt := 32) hx hb dX1_lean_15 (by decide) ?_
    refine lv_istore_n (lv' := [(3, .int 0), (2, .int (flowP r i)), (0, .ref (ah 0)), (1, .int (nI i))]) hx hb dX1_lean_32 rfl hl (by decide) rfl (fun ls hl => ?_)
    refine lv_iload_n hx hb dX1_lean_33 rfl (lv_at hl 1 rfl) ?_
    refine lv_if_ge (tgt := 42) hx hb dX1_lean_34 (by decide) (fun c_419 => ?_) (fun c_419 => ?_)
    · refine lv_iload_n hx hb dX1_lean_42 rfl (lv_at hl 0 rfl) ?_
      exact ri_W hx hb hr hlk hS ((by rw [leanP, lean_a (Int32.not_le.mp c_417)])) (hH) dX1_lean_43
    · refine lv_iload_n hx hb dX1_lean_37 rfl (lv_at hl 0 rfl) ?_
      refine lv_ineg hx hb dX1_lean_38 ?_
      refine lv_goto (tgt := 43) hx hb dX1_lean_39 (by decide) ?_
      exact ri_W hx hb hr hlk hS ((by rw [leanP, lean_a (Int32.not_le.mp c_417)]; decide)) (hH) dX1_lean_43
theorem fresh_a {s p : Nat → Int32} {n : Nat} (h : s (gp n 2) = -1) : freshN s p (n + 1) = freshN s p n + (if 0 < flowQ s p n then flowQ s p n else 0) := by simp only [freshN, if_pos h]
theorem fresh_b {s p : Nat → Int32} {n : Nat} (h : ¬ s (gp n 2) = -1) : freshN s p (n + 1) = freshN s p n := by
  simp only [freshN, if_neg h]
  simp
theorem nd_X1_fresh : yX1_fresh.cls = "SmokeLeans$House" ∧ yX1_fresh.cls ≠ "java/lang/invoke/MethodHandle" ∧ yX1_fresh.cls ≠ "java/lang/invoke/VarHandle" ∧ (parseMethodDescriptor yX1_fresh.desc).map (fun d => d.parameters.length) = some 0 := by decide +kernel
set_option maxHeartbeats 4000000 in
theorem D_fresh (l : Launch) {G : GD} {A : Nat → Prop} {N R : Nat} {r : Nat → Int32} {ah ga : Nat → Nat} {H0 : Heap} (hF : FG G) (hH : HS G A N r ah ga H0) (hO : OkN r R N)  : MetW l G yX1_fresh cX1_fresh 3 (some .int) 8 0 0 A [.ref (ah 0)] H0 (some (.int (freshP r))) (fun H => HS G A N r ah ga H) := by
  refine mx_of (by decide) (Nat.le_of_ble_eq_true rfl) ?_
  intro p e s m below meth c hx hb hr hc hlk hnm hs0 ls hl
  subst hs0
  have hown := hc.2.2.2.1
  have hts := hc.2.2.2.2.1
  have hK := hc.2.2.2.2.2
  have hl : lv_has ls 3 [(0, .ref (ah 0))] := hl
  have hS : va_S A s.heap s.heap [] := va_S.rf
  have hN20 := hO.2.1
  refine lv_iconst (v := 0) hx hb dX1_fresh_0 (by decide) ?_
  refine lv_istore_n (lv' := [(1, .int 0), (0, .ref (ah 0))]) hx hb dX1_fresh_1 rfl hl (by decide) rfl (fun ls hl => ?_)
  refine lv_iconst (v := 0) hx hb dX1_fresh_2 (by decide) ?_
  refine lv_istore_n (lv' := [(2, .int 0), (1, .int 0), (0, .ref (ah 0))]) hx hb dX1_fresh_3 rfl hl (by decide) rfl (fun ls hl => ?_)
  refine w_loopH (σ := Nat) (fun i H locs cells slots fr => cells = 0 ∧ slots = 0 ∧ (∃ ls, fr = F0 m 4 ls [] ∧ lv_has ls 3 [(2, .int (nI i)), (1, .int (freshN r (prP r) i)), (0, .ref (ah 0))]) ∧ va_S A s.heap H locs ∧ (i ≤ N ∧ HS G A N r ah ga H)) (fun i => N - i) 0 ⟨rfl, rfl, ⟨ls, rfl, lv_sub hl [0, 1, 2] rfl⟩, hS, ⟨Nat.zero_le _, hH⟩⟩ ?_
  intro i H locs cells slots fr hI ih
  obtain ⟨rfl, rfl, ⟨ls, rfl, hl⟩, hS, ⟨hiN, hH⟩⟩ := hI
  by_cases hi : i < N
  · refine lv_iload_n hx hb dX1_fresh_4 rfl (lv_at hl 0 rfl) ?_
    refine lv_aload_n hx hb dX1_fresh_5 rfl (lv_at hl 2 rfl) ?_
    obtain ⟨u, hv, hcok, hW⟩ := hH
    refine h_get hc hW 1 (by decide) rfl q122 rfl rfl dX1_fresh_6 ?_
    refine sm_topi (v := nI N) hO.2.2.2.1 ?_
    have hH : HS G A N r ah ga _ := ⟨u, hv, hcok, hW⟩
    refine lv_icmp_ge (tgt := 42) hx hb dX1_fresh_9 (by decide) (fun h => absurd h (nI_ge hi (by omega))) (fun _ => ?_)
    refine lv_aload_n hx hb dX1_fresh_12 rfl (lv_at hl 2 rfl) ?_
    refine lv_iload_n hx hb dX1_fresh_13 rfl (lv_at hl 0 rfl) ?_
    obtain ⟨u, hv, hcok, hW⟩ := hH
    refine cv_R1 (rest := []) hc (D_hgap l hF hW hO i hi) (lw_V q466 q429 q430 q68 q431) nd_X1_gap ⟨Nat.le_of_ble_eq_true rfl, Nat.le_of_ble_eq_true rfl⟩ (HW.recv hK hW) rfl hl.1 rfl (Nat.le_of_ble_eq_true rfl) dX1_fresh_14 ⟨Nat.le_of_ble_eq_true rfl, Nat.le_of_ble_eq_true rfl⟩ ?_
    have hH : HS G A N r ah ga _ := ⟨u, hv, hcok, hW⟩
    refine gv_get hc (hO.gap hi).kd.1 (hW.gp hi) 1 (by decide) q317 rfl dX1_fresh_17 ?_
    refine lv_iconst (v := (-1)) hx hb dX1_fresh_20 (by decide) ?_
    refine lv_icmp_ne (tgt := 36) hx hb dX1_fresh_21 (by decide) (fun c_420 => ?_) (fun c_420 => ?_)
    · refine lv_iinc (v := nI (i + 1)) (lv' := [(2, .int (nI (i + 1))), (1, .int (freshN r (prP r) i)), (0, .ref (ah 0))]) hx hb dX1_fresh_36 hl (k := 0) rfl (nI_1 _) (by decide) rfl (fun ls hl => ?_)
      refine lv_goto (tgt := 4) hx hb dX1_fresh_39 (by decide) ?_
      refine ih (i + 1) _ _ _ _ _ ⟨rfl, rfl, ⟨ls, rfl, ?_⟩, hS, hi, hH⟩ (by omega)
      rw [fresh_b c_420]
      exact lv_sub hl [0, 1, 2] rfl
    · refine lv_iload_n hx hb dX1_fresh_24 rfl (lv_at hl 1 rfl) ?_
      refine lv_iconst (v := 0) hx hb dX1_fresh_25 (by decide) ?_
      refine lv_aload_n hx hb dX1_fresh_26 rfl (lv_at hl 2 rfl) ?_
      refine lv_iload_n hx hb dX1_fresh_27 rfl (lv_at hl 0 rfl) ?_
      refine cv_W1 (rest := [.int 0, .int (freshN r (prP r) i)]) hc (D_flow l hF hH hO i hi) (lw_V q769 q758 q759 q68 q760) nd_X1_flow ⟨Nat.le_of_ble_eq_true rfl, Nat.le_of_ble_eq_true rfl⟩ (HS.recv hK hH) rfl hl.1 rfl (Nat.le_of_ble_eq_true rfl) dX1_fresh_28 ⟨Nat.le_of_ble_eq_true rfl, Nat.le_of_ble_eq_true rfl⟩ hS (fun _ h => h) (fun H locs hH hS hz hk => ?_)
      refine va_mmax (rest := [.int (freshN r (prP r) i)]) hx hb (hc.2.2.1.trans hl.1.symm) hown (hts _ q796) (hts _ q797) (hts _ q87) (hts _ q798) (Nat.le_of_ble_eq_true rfl) (Nat.le_of_ble_eq_true rfl) (Nat.le_of_ble_eq_true rfl) (Nat.le_of_ble_eq_true rfl) dX1_fresh_31 (sm_topi (v := if 0 < (flowP r i) then (flowP r i) else 0) (rfl) ?_)
      refine lv_iadd hx hb dX1_fresh_34 ?_
      refine lv_istore_n (lv' := [(1, .int ((freshN r (prP r) i) + (if 0 < (flowP r i) then (flowP r i) else 0))), (2, .int (nI i)), (0, .ref (ah 0))]) hx hb dX1_fresh_35 rfl hl (by decide) rfl (fun ls hl => ?_)
      refine lv_iinc (v := nI (i + 1)) (lv' := [(2, .int (nI (i + 1))), (1, .int ((freshN r (prP r) i) + (if 0 < (flowP r i) then (flowP r i) else 0))), (0, .ref (ah 0))]) hx hb dX1_fresh_36 hl (k := 1) rfl (nI_1 _) (by decide) rfl (fun ls hl => ?_)
      refine lv_goto (tgt := 4) hx hb dX1_fresh_39 (by decide) ?_
      refine ih (i + 1) _ _ _ _ _ ⟨rfl, rfl, ⟨ls, rfl, ?_⟩, hS, hi, hH⟩ (by omega)
      rw [fresh_a c_420]
      exact lv_sub hl [0, 1, 2] rfl
  · have hiE : i = N := by omega
    subst hiE
    refine lv_iload_n hx hb dX1_fresh_4 rfl (lv_at hl 0 rfl) ?_
    refine lv_aload_n hx hb dX1_fresh_5 rfl (lv_at hl 2 rfl) ?_
    obtain ⟨u, hv, hcok, hW⟩ := hH
    refine h_get hc hW 1 (by decide) rfl q122 rfl rfl dX1_fresh_6 ?_
    refine sm_topi (v := nI i) hO.2.2.2.1 ?_
    have hH : HS G A i r ah ga _ := ⟨u, hv, hcok, hW⟩
    refine lv_icmp_ge (tgt := 42) hx hb dX1_fresh_9 (by decide) (fun _ => ?_) (fun h => absurd (nI_le (by omega) (by omega)) h)
    refine lv_iload_n hx hb dX1_fresh_42 rfl (lv_at hl 1 rfl) ?_
    exact ri_W hx hb hr hlk hS (by rw [freshP, hO.cl1]) (hH) dX1_fresh_43
theorem nd_X1_lost : yX1_lost.cls = "SmokeLeans$House" ∧ yX1_lost.cls ≠ "java/lang/invoke/MethodHandle" ∧ yX1_lost.cls ≠ "java/lang/invoke/VarHandle" ∧ (parseMethodDescriptor yX1_lost.desc).map (fun d => d.parameters.length) = some 0 := by decide +kernel
set_option maxHeartbeats 4000000 in
theorem D_lost (l : Launch) {G : GD} {A : Nat → Prop} {N R : Nat} {r : Nat → Int32} {ah ga : Nat → Nat} {H0 : Heap} (hF : FG G) (hH : HS G A N r ah ga H0) (hO : OkN r R N)  : MetW l G yX1_lost cX1_lost 1 (some .int) 9 0 0 A [.ref (ah 0)] H0 (some (.int (lostP r))) (fun H => HS G A N r ah ga H) := by
  refine mx_of (by decide) (Nat.le_of_ble_eq_true rfl) ?_
  intro p e s m below meth c hx hb hr hc hlk hnm hs0 ls hl
  subst hs0
  have hown := hc.2.2.2.1
  have hts := hc.2.2.2.2.1
  have hK := hc.2.2.2.2.2
  have hl : lv_has ls 1 [(0, .ref (ah 0))] := hl
  have hS : va_S A s.heap s.heap [] := va_S.rf
  have hN20 := hO.2.1
  refine lv_aload_n hx hb dX1_lost_0 rfl (lv_at hl 0 rfl) ?_
  refine cv_W1 (rest := []) hc (D_fresh l hF hH hO) (lw_V q803 q793 q794 q68 q795) nd_X1_fresh ⟨Nat.le_of_ble_eq_true rfl, Nat.le_of_ble_eq_true rfl⟩ (HS.recv hK hH) rfl hl.1 rfl (Nat.le_of_ble_eq_true rfl) dX1_lost_1 ⟨Nat.le_of_ble_eq_true rfl, Nat.le_of_ble_eq_true rfl⟩ hS (fun _ h => h) (fun H locs hH hS hz hk => ?_)
  refine lv_aload_n hx hb dX1_lost_4 rfl (lv_at hl 0 rfl) ?_
  obtain ⟨u, hv, hcok, hW⟩ := hH
  refine h_get hc hW 3 (by decide) rfl q128 rfl rfl dX1_lost_5 ?_
  have hH : HS G A N r ah ga _ := ⟨u, hv, hcok, hW⟩
  refine lv_iconst (v := 0) hx hb dX1_lost_8 (by decide) ?_
  refine nt_ld hc hW.nt (ix_eq (k := 0) rfl (by decide) (by decide)) dX1_lost_9 ?_
  refine sm_topi (v := r 2) rfl ?_
  refine lv_imul hx hb dX1_lost_10 ?_
  exact ri_W hx hb hr hlk hS (rfl) (hH) dX1_lost_11
theorem smk_t {s p : Nat → Int32} : ∀ {n i : Nat}, i < n → smkG s p i → smkN s p n = true
  | 0, i, h, _ => absurd h (Nat.not_lt_zero i)
  | n + 1, i, h, hg => by
    unfold smkN
    by_cases q : i = n
    · subst q
      rw [decide_eq_true hg, Bool.or_true]
    · rw [smk_t (show i < n by omega) hg, Bool.true_or]
theorem smk_f {s p : Nat → Int32} {n : Nat} (h : smkN s p n = false) (hg : ¬ smkG s p n) : smkN s p (n + 1) = false := by
  unfold smkN
  rw [h, decide_eq_false hg]
  rfl
theorem nd_X1_isSmoky : yX1_isSmoky.cls = "SmokeLeans$House" ∧ yX1_isSmoky.cls ≠ "java/lang/invoke/MethodHandle" ∧ yX1_isSmoky.cls ≠ "java/lang/invoke/VarHandle" ∧ (parseMethodDescriptor yX1_isSmoky.desc).map (fun d => d.parameters.length) = some 0 := by decide +kernel
set_option maxHeartbeats 4000000 in
theorem D_isSmoky (l : Launch) {G : GD} {A : Nat → Prop} {N R : Nat} {r : Nat → Int32} {ah ga : Nat → Nat} {H0 : Heap} (hF : FG G) (hH : HS G A N r ah ga H0) (hO : OkN r R N)  : MetW l G yX1_isSmoky cX1_isSmoky 2 (some .boolean) 8 0 0 A [.ref (ah 0)] H0 (some (.int (b2i (smokesP r = true)))) (fun H => HS G A N r ah ga H) := by
  refine mx_of (by decide) (Nat.le_of_ble_eq_true rfl) ?_
  intro p e s m below meth c hx hb hr hc hlk hnm hs0 ls hl
  subst hs0
  have hown := hc.2.2.2.1
  have hts := hc.2.2.2.2.1
  have hK := hc.2.2.2.2.2
  have hl : lv_has ls 2 [(0, .ref (ah 0))] := hl
  have hS : va_S A s.heap s.heap [] := va_S.rf
  have hN20 := hO.2.1
  refine lv_iconst (v := 0) hx hb dX1_isSmoky_0 (by decide) ?_
  refine lv_istore_n (lv' := [(1, .int 0), (0, .ref (ah 0))]) hx hb dX1_isSmoky_1 rfl hl (by decide) rfl (fun ls hl => ?_)
  refine w_loopH (σ := Nat) (fun i H locs cells slots fr => cells = 0 ∧ slots = 0 ∧ (∃ ls, fr = F0 m 2 ls [] ∧ lv_has ls 2 [(1, .int (nI i)), (0, .ref (ah 0))]) ∧ va_S A s.heap H locs ∧ (i ≤ N ∧ smkN r (prP r) i = false ∧ HS G A N r ah ga H)) (fun i => N - i) 0 ⟨rfl, rfl, ⟨ls, rfl, lv_sub hl [0, 1] rfl⟩, hS, ⟨Nat.zero_le _, rfl, hH⟩⟩ ?_
  intro i H locs cells slots fr hI ih
  obtain ⟨rfl, rfl, ⟨ls, rfl, hl⟩, hS, ⟨hiN, hsm, hH⟩⟩ := hI
  by_cases hi : i < N
  · refine lv_iload_n hx hb dX1_isSmoky_2 rfl (lv_at hl 0 rfl) ?_
    refine lv_aload_n hx hb dX1_isSmoky_3 rfl (lv_at hl 1 rfl) ?_
    obtain ⟨u, hv, hcok, hW⟩ := hH
    refine h_get hc hW 1 (by decide) rfl q122 rfl rfl dX1_isSmoky_4 ?_
    refine sm_topi (v := nI N) hO.2.2.2.1 ?_
    have hH : HS G A N r ah ga _ := ⟨u, hv, hcok, hW⟩
    refine lv_icmp_ge (tgt := 61) hx hb dX1_isSmoky_7 (by decide) (fun h => absurd h (nI_ge hi (by omega))) (fun _ => ?_)
    refine lv_aload_n hx hb dX1_isSmoky_10 rfl (lv_at hl 1 rfl) ?_
    refine lv_iload_n hx hb dX1_isSmoky_11 rfl (lv_at hl 0 rfl) ?_
    obtain ⟨u, hv, hcok, hW⟩ := hH
    refine cv_R1 (rest := []) hc (D_hgap l hF hW hO i hi) (lw_V q466 q429 q430 q68 q431) nd_X1_gap ⟨Nat.le_of_ble_eq_true rfl, Nat.le_of_ble_eq_true rfl⟩ (HW.recv hK hW) rfl hl.1 rfl (Nat.le_of_ble_eq_true rfl) dX1_isSmoky_12 ⟨Nat.le_of_ble_eq_true rfl, Nat.le_of_ble_eq_true rfl⟩ ?_
    have hH : HS G A N r ah ga _ := ⟨u, hv, hcok, hW⟩
    refine lv_iconst (v := 2) hx hb dX1_isSmoky_15 (by decide) ?_
    refine gv_is (rest := []) hc q808 (hO.gap hi).kd.1 (hW.gp hi) ⟨Nat.le_of_ble_eq_true rfl, Nat.le_of_ble_eq_true rfl⟩ hl.1 (Nat.le_of_ble_eq_true rfl) dX1_isSmoky_16 ⟨Nat.le_of_ble_eq_true rfl, Nat.le_of_ble_eq_true rfl⟩ (sm_topi (v := b2i (needP r i)) (b2i_congr (isB_2 (hO.gap hi))) ?_)
    refine bi_eq (tgt := 55) hx hb dX1_isSmoky_19 (by decide) (fun c_421 => ?_) (fun c_421 => ?_)
    · refine lv_iinc (v := nI (i + 1)) (lv' := [(1, .int (nI (i + 1))), (0, .ref (ah 0))]) hx hb dX1_isSmoky_55 hl (k := 0) rfl (nI_1 _) (by decide) rfl (fun ls hl => ?_)
      refine lv_goto (tgt := 2) hx hb dX1_isSmoky_58 (by decide) ?_
      exact ih (i + 1) _ _ _ _ _ ⟨rfl, rfl, ⟨ls, rfl, lv_sub hl [0, 1] rfl⟩, hS, hi, smk_f hsm (fun h => c_421 h.1), hH⟩ (by omega)
    · refine lv_aload_n hx hb dX1_isSmoky_22 rfl (lv_at hl 1 rfl) ?_
      refine lv_iload_n hx hb dX1_isSmoky_23 rfl (lv_at hl 0 rfl) ?_
      obtain ⟨u, hv, hcok, hW⟩ := hH
      refine cv_R1 (rest := []) hc (D_hgap l hF hW hO i hi) (lw_V q466 q429 q430 q68 q431) nd_X1_gap ⟨Nat.le_of_ble_eq_true rfl, Nat.le_of_ble_eq_true rfl⟩ (HW.recv hK hW) rfl hl.1 rfl (Nat.le_of_ble_eq_true rfl) dX1_isSmoky_24 ⟨Nat.le_of_ble_eq_true rfl, Nat.le_of_ble_eq_true rfl⟩ ?_
      have hH : HS G A N r ah ga _ := ⟨u, hv, hcok, hW⟩
      refine gv_get hc (hO.gap hi).kd.1 (hW.gp hi) 1 (by decide) q317 rfl dX1_isSmoky_27 ?_
      refine lv_iconst (v := (-1)) hx hb dX1_isSmoky_30 (by decide) ?_
      refine lv_icmp_ne (tgt := 55) hx hb dX1_isSmoky_31 (by decide) (fun c_422 => ?_) (fun c_422 => ?_)
      · refine lv_iinc (v := nI (i + 1)) (lv' := [(1, .int (nI (i + 1))), (0, .ref (ah 0))]) hx hb dX1_isSmoky_55 hl (k := 0) rfl (nI_1 _) (by decide) rfl (fun ls hl => ?_)
        refine lv_goto (tgt := 2) hx hb dX1_isSmoky_58 (by decide) ?_
        exact ih (i + 1) _ _ _ _ _ ⟨rfl, rfl, ⟨ls, rfl, lv_sub hl [0, 1] rfl⟩, hS, hi, smk_f hsm (fun h => c_422 h.2.1), hH⟩ (by omega)
      · refine lv_aload_n hx hb dX1_isSmoky_34 rfl (lv_at hl 1 rfl) ?_
        refine lv_iload_n hx hb dX1_isSmoky_35 rfl (lv_at hl 0 rfl) ?_
        obtain ⟨u, hv, hcok, hW⟩ := hH
        refine cv_R1 (rest := []) hc (D_hgap l hF hW hO i hi) (lw_V q466 q429 q430 q68 q431) nd_X1_gap ⟨Nat.le_of_ble_eq_true rfl, Nat.le_of_ble_eq_true rfl⟩ (HW.recv hK hW) rfl hl.1 rfl (Nat.le_of_ble_eq_true rfl) dX1_isSmoky_36 ⟨Nat.le_of_ble_eq_true rfl, Nat.le_of_ble_eq_true rfl⟩ ?_
        have hH : HS G A N r ah ga _ := ⟨u, hv, hcok, hW⟩
        refine gv_get hc (hO.gap hi).kd.1 (hW.gp hi) 6 (by decide) q333 rfl dX1_isSmoky_39 ?_
        refine lv_if_ne (tgt := 55) hx hb dX1_isSmoky_42 (by decide) (fun c_423 => ?_) (fun c_423 => ?_)
        · refine lv_iinc (v := nI (i + 1)) (lv' := [(1, .int (nI (i + 1))), (0, .ref (ah 0))]) hx hb dX1_isSmoky_55 hl (k := 0) rfl (nI_1 _) (by decide) rfl (fun ls hl => ?_)
          refine lv_goto (tgt := 2) hx hb dX1_isSmoky_58 (by decide) ?_
          exact ih (i + 1) _ _ _ _ _ ⟨rfl, rfl, ⟨ls, rfl, lv_sub hl [0, 1] rfl⟩, hS, hi, smk_f hsm (fun h => c_423 h.2.2.1), hH⟩ (by omega)
        · refine lv_aload_n hx hb dX1_isSmoky_45 rfl (lv_at hl 1 rfl) ?_
          refine lv_iload_n hx hb dX1_isSmoky_46 rfl (lv_at hl 0 rfl) ?_
          refine cv_W1 (rest := []) hc (D_flow l hF hH hO i hi) (lw_V q769 q758 q759 q68 q760) nd_X1_flow ⟨Nat.le_of_ble_eq_true rfl, Nat.le_of_ble_eq_true rfl⟩ (HS.recv hK hH) rfl hl.1 rfl (Nat.le_of_ble_eq_true rfl) dX1_isSmoky_47 ⟨Nat.le_of_ble_eq_true rfl, Nat.le_of_ble_eq_true rfl⟩ hS (fun _ h => h) (fun H locs hH hS hz hk => ?_)
          refine lv_if_lt (tgt := 55) hx hb dX1_isSmoky_50 (by decide) (fun c_424 => ?_) (fun c_424 => ?_)
          · refine lv_iinc (v := nI (i + 1)) (lv' := [(1, .int (nI (i + 1))), (0, .ref (ah 0))]) hx hb dX1_isSmoky_55 hl (k := 0) rfl (nI_1 _) (by decide) rfl (fun ls hl => ?_)
            refine lv_goto (tgt := 2) hx hb dX1_isSmoky_58 (by decide) ?_
            exact ih (i + 1) _ _ _ _ _ ⟨rfl, rfl, ⟨ls, rfl, lv_sub hl [0, 1] rfl⟩, hS, hi, smk_f hsm (fun h => absurd h.2.2.2 (Int32.not_le.mpr c_424)), hH⟩ (by omega)
          · refine lv_iconst (v := 1) hx hb dX1_isSmoky_53 (by decide) ?_
            exact rz_W hx hb hr hlk hS ((b2i_t (by rw [smokesP, hO.cl1]; exact smk_t hi ⟨c_421, c_422, c_423, Int32.not_lt.mp c_424⟩)).symm) (hH) dX1_isSmoky_54
  · have hiE : i = N := by omega
    subst hiE
    refine lv_iload_n hx hb dX1_isSmoky_2 rfl (lv_at hl 0 rfl) ?_
    refine lv_aload_n hx hb dX1_isSmoky_3 rfl (lv_at hl 1 rfl) ?_
    obtain ⟨u, hv, hcok, hW⟩ := hH
    refine h_get hc hW 1 (by decide) rfl q122 rfl rfl dX1_isSmoky_4 ?_
    refine sm_topi (v := nI i) hO.2.2.2.1 ?_
    have hH : HS G A i r ah ga _ := ⟨u, hv, hcok, hW⟩
    refine lv_icmp_ge (tgt := 61) hx hb dX1_isSmoky_7 (by decide) (fun _ => ?_) (fun h => absurd (nI_le (by omega) (by omega)) h)
    refine lv_iconst (v := 0) hx hb dX1_isSmoky_61 (by decide) ?_
    exact rz_W hx hb hr hlk hS ((b2i_f (by rw [smokesP, hO.cl1, hsm]; decide)).symm) (hH) dX1_isSmoky_62
theorem nd_X1_draw : yX1_draw.cls = "SmokeLeans$House" ∧ yX1_draw.cls ≠ "java/lang/invoke/MethodHandle" ∧ yX1_draw.cls ≠ "java/lang/invoke/VarHandle" ∧ (parseMethodDescriptor yX1_draw.desc).map (fun d => d.parameters.length) = some 0 := by decide +kernel
set_option maxHeartbeats 4000000 in
theorem D_draw (l : Launch) {G : GD} {A : Nat → Prop} {N R : Nat} {r : Nat → Int32} {ah ga : Nat → Nat} {H0 : Heap} (hF : FG G) (hH : HS G A N r ah ga H0) (hO : OkN r R N)  : MetW l G yX1_draw cX1_draw 1 (some .int) 0 0 0 A [.ref (ah 0)] H0 (some (.int (((drawP (r 8)).toUInt32 >>> ((8 : Int32).toUInt32 &&& Int32.toUInt32 31)).toInt32))) (fun H => HS G A N (upd r 8 (drawP (r 8))) ah ga H) := by
  refine mx_of (by decide) (Nat.le_of_ble_eq_true rfl) ?_
  intro p e s m below meth c hx hb hr hc hlk hnm hs0 ls hl
  subst hs0
  have hown := hc.2.2.2.1
  have hts := hc.2.2.2.2.1
  have hK := hc.2.2.2.2.2
  have hl : lv_has ls 1 [(0, .ref (ah 0))] := hl
  have hS : va_S A s.heap s.heap [] := va_S.rf
  have hN20 := hO.2.1
  obtain ⟨u, hv, hcok, hW⟩ := hH
  refine lv_aload_n hx hb dX1_draw_0 rfl (lv_at hl 0 rfl) ?_
  refine lv_aload_n hx hb dX1_draw_1 rfl (lv_at hl 0 rfl) ?_
  refine h_get hc hW 4 (by decide) rfl q131 rfl rfl dX1_draw_2 ?_
  refine lv_ldc (v := 1103515245) hx hb hown (hts _ q829) dX1_draw_5 ?_
  refine lv_imul hx hb dX1_draw_7 ?_
  refine lv_sipush (v := 12345) hx hb dX1_draw_8 (by decide) ?_
  refine lv_iadd hx hb dX1_draw_11 ?_
  refine h_put (r' := upd r 8 (((r 8) * 1103515245) + 12345)) (u' := u) hc hW hS 4 (by decide) rfl q131 rfl rfl rfl rfl rfl rfl (fun j hj => if_neg (by omega)) rfl rfl dX1_draw_12 (fun H locs hW hS hz oq => ?_)
  refine lv_aload_n hx hb dX1_draw_15 rfl (lv_at hl 0 rfl) ?_
  refine h_get hc hW 4 (by decide) rfl q131 rfl rfl dX1_draw_16 ?_
  refine lv_bipush (v := 8) hx hb dX1_draw_19 (by decide) ?_
  refine lv_iushr hx hb dX1_draw_21 rfl ?_
  exact ri_W hx hb hr hlk hS (rfl) (⟨_, _, HCok_8 hcok, hW⟩) dX1_draw_22
theorem leanP_8 {r : Nat → Int32} {z : Int32} {i : Nat} : leanP (upd r 8 z) i = leanV (flowQ r (prP r) i) := by
  unfold leanP flowP
  rw [prP_8 eq8_upd, flowQ_8 eq8_upd]
theorem nd_X1_seen : yX1_seen.cls = "SmokeLeans$House" ∧ yX1_seen.cls ≠ "java/lang/invoke/MethodHandle" ∧ yX1_seen.cls ≠ "java/lang/invoke/VarHandle" ∧ (parseMethodDescriptor yX1_seen.desc).map (fun d => d.parameters.length) = some 1 := by decide +kernel
set_option maxHeartbeats 4000000 in
theorem D_seen (l : Launch) {G : GD} {A : Nat → Prop} {N R : Nat} {r : Nat → Int32} {ah ga : Nat → Nat} {H0 : Heap} (hF : FG G) (hH : HS G A N r ah ga H0) (hO : OkN r R N) (i : Nat) (hi : i < N) : MetW l G yX1_seen cX1_seen 3 (some .int) 9 0 0 A [.ref (ah 0), .int (nI i)] H0 (some (.int (seenV r (prP r) i))) (fun H => HS G A N (upd r 8 (drawP (r 8))) ah ga H) := by
  refine mx_of (by decide) (Nat.le_of_ble_eq_true rfl) ?_
  intro p e s m below meth c hx hb hr hc hlk hnm hs0 ls hl
  subst hs0
  have hown := hc.2.2.2.1
  have hts := hc.2.2.2.2.1
  have hK := hc.2.2.2.2.2
  have hl : lv_has ls 3 [(0, .ref (ah 0)), (1, .int (nI i))] := hl
  have hS : va_S A s.heap s.heap [] := va_S.rf
  have hN20 := hO.2.1
  refine lv_aload_n hx hb dX1_seen_0 rfl (lv_at hl 0 rfl) ?_
  refine cv_W1 (rest := []) hc (D_draw l hF hH hO) (lw_V q825 q826 q827 q68 q828) nd_X1_draw ⟨Nat.le_of_ble_eq_true rfl, Nat.le_of_ble_eq_true rfl⟩ (HS.recv hK hH) rfl hl.1 rfl (Nat.le_of_ble_eq_true rfl) dX1_seen_1 ⟨Nat.le_of_ble_eq_true rfl, Nat.le_of_ble_eq_true rfl⟩ hS (fun _ h => h) (fun H locs hH hS hz hk => ?_)
  have hO8 := OkN_8 eq8_upd hO (s' := upd r 8 (drawP (r 8)))
  refine lv_bipush (v := 100) hx hb dX1_seen_4 (by decide) ?_
  refine lv_irem hx hb dX1_seen_6 (by decide) (sm_topi (v := remP (((drawP (r 8)).toUInt32 >>> ((8 : Int32).toUInt32 &&& Int32.toUInt32 31)).toInt32) 100) rfl ?_)
  refine lv_aload_n hx hb dX1_seen_7 rfl (lv_at hl 0 rfl) ?_
  obtain ⟨u, hv, hcok, hW⟩ := hH
  refine h_get hc hW 3 (by decide) rfl q128 rfl rfl dX1_seen_8 ?_
  have hH : HS G A N (upd r 8 (drawP (r 8))) ah ga _ := ⟨u, hv, hcok, hW⟩
  refine lv_iconst (v := 5) hx hb dX1_seen_11 (by decide) ?_
  refine nt_ld hc hW.nt (ix_eq (k := 5) rfl (by decide) (by decide)) dX1_seen_12 ?_
  refine sm_topi (v := (upd r 8 (drawP (r 8))) 7) rfl ?_
  refine sm_topi (v := r 7) (rfl) ?_
  refine lv_icmp_ge (tgt := 20) hx hb dX1_seen_13 (by decide) (fun c_425 => ?_) (fun c_425 => ?_)
  · refine lv_iconst (v := 0) hx hb dX1_seen_20 (by decide) ?_
    refine lv_istore_n (lv' := [(2, .int 0), (0, .ref (ah 0)), (1, .int (nI i))]) hx hb dX1_seen_21 rfl hl (by decide) rfl (fun ls hl => ?_)
    refine lv_iload_n hx hb dX1_seen_22 rfl (lv_at hl 0 rfl) ?_
    refine lv_if_ne (tgt := 38) hx hb dX1_seen_23 (by decide) (fun h => absurd (by decide) h) (fun _ => ?_)
    refine lv_aload_n hx hb dX1_seen_26 rfl (lv_at hl 1 rfl) ?_
    refine lv_iload_n hx hb dX1_seen_27 rfl (lv_at hl 2 rfl) ?_
    obtain ⟨u, hv, hcok, hW⟩ := hH
    refine cv_R1 (rest := []) hc (D_hgap l hF hW hO8 i hi) (lw_V q466 q429 q430 q68 q431) nd_X1_gap ⟨Nat.le_of_ble_eq_true rfl, Nat.le_of_ble_eq_true rfl⟩ (HW.recv hK hW) rfl hl.1 rfl (Nat.le_of_ble_eq_true rfl) dX1_seen_28 ⟨Nat.le_of_ble_eq_true rfl, Nat.le_of_ble_eq_true rfl⟩ ?_
    have hH : HS G A N (upd r 8 (drawP (r 8))) ah ga _ := ⟨u, hv, hcok, hW⟩
    refine gv_kind (rest := []) hc q830 (hO8.gap hi).kd.1 (hW.gp hi) ⟨Nat.le_of_ble_eq_true rfl, Nat.le_of_ble_eq_true rfl⟩ hl.1 (Nat.le_of_ble_eq_true rfl) dX1_seen_31 ⟨Nat.le_of_ble_eq_true rfl, Nat.le_of_ble_eq_true rfl⟩ (sm_topi (v := (upd r 8 (drawP (r 8))) (gp i 0)) (kd_nI (hO8.gap hi)) ?_)
    refine lv_iconst (v := 1) hx hb dX1_seen_34 (by decide) ?_
    refine lv_icmp_ne (tgt := 42) hx hb dX1_seen_35 (by decide) (fun c_426 => ?_) (fun c_426 => ?_)
    · refine lv_aload_n hx hb dX1_seen_42 rfl (lv_at hl 1 rfl) ?_
      refine lv_iload_n hx hb dX1_seen_43 rfl (lv_at hl 2 rfl) ?_
      refine cv_W1 (rest := []) hc (D_lean l hF hH hO8 i hi) (lw_V q831 q766 q767 q68 q768) nd_X1_lean ⟨Nat.le_of_ble_eq_true rfl, Nat.le_of_ble_eq_true rfl⟩ (HS.recv hK hH) rfl hl.1 rfl (Nat.le_of_ble_eq_true rfl) dX1_seen_44 ⟨Nat.le_of_ble_eq_true rfl, Nat.le_of_ble_eq_true rfl⟩ hS (fun _ h => h) (fun H locs hH hS hz hk => ?_)
      exact ri_W hx hb hr hlk hS (by simp only [seenV, if_pos c_425]; rw [if_neg (fun h => c_426 ((eq8_upd.pl i 0).trans h)), leanP_8]) (hH) dX1_seen_47
    · refine lv_iconst (v := 0) hx hb dX1_seen_38 (by decide) ?_
      refine lv_goto (tgt := 47) hx hb dX1_seen_39 (by decide) ?_
      exact ri_W hx hb hr hlk hS (by simp only [seenV, if_pos c_425]; rw [if_pos ((eq8_upd.pl i 0).symm.trans c_426)]) (hH) dX1_seen_47
  · refine lv_iconst (v := 1) hx hb dX1_seen_16 (by decide) ?_
    refine lv_goto (tgt := 21) hx hb dX1_seen_17 (by decide) ?_
    refine lv_istore_n (lv' := [(2, .int 1), (0, .ref (ah 0)), (1, .int (nI i))]) hx hb dX1_seen_21 rfl hl (by decide) rfl (fun ls hl => ?_)
    refine lv_iload_n hx hb dX1_seen_22 rfl (lv_at hl 0 rfl) ?_
    refine lv_if_ne (tgt := 38) hx hb dX1_seen_23 (by decide) (fun _ => ?_) (fun h => absurd h (by decide))
    refine lv_iconst (v := 0) hx hb dX1_seen_38 (by decide) ?_
    refine lv_goto (tgt := 47) hx hb dX1_seen_39 (by decide) ?_
    exact ri_W hx hb hr hlk hS (by simp only [seenV, if_neg c_425]) (hH) dX1_seen_47
theorem bz_eq {x : Int32} (h : x = 0 ∨ x = 1) : x = b2i (x = 1) := by
  rcases h with h | h
  · rw [h]; decide
  · rw [h]; decide
theorem b01_nar {x : Int32} (h : x = 0 ∨ x = 1) : narrow .boolean (.int x) = .int x := by rcases h with h | h <;> rw [h] <;> rfl
theorem b01_fit {x : Int32} (h : x = 0 ∨ x = 1) : fits .boolean (.int x) = true := by rcases h with h | h <;> rw [h] <;> rfl
theorem nd_X1_shuts : yX1_shuts.cls = "SmokeLeans$House" ∧ yX1_shuts.cls ≠ "java/lang/invoke/MethodHandle" ∧ yX1_shuts.cls ≠ "java/lang/invoke/VarHandle" ∧ (parseMethodDescriptor yX1_shuts.desc).map (fun d => d.parameters.length) = some 2 := by decide +kernel
set_option maxHeartbeats 4000000 in
theorem D_shuts (l : Launch) {G : GD} {A : Nat → Prop} {N R : Nat} {r : Nat → Int32} {ah ga : Nat → Nat} {H0 : Heap} (hF : FG G) (hH : HS G A N r ah ga H0) (hO : OkN r R N) (i : Nat) (hi : i < N) {z : Int32} (hz01 : z = 0 ∨ z = 1) : MetW l G yX1_shuts cX1_shuts 4 (some .boolean) 1 0 0 A [.ref (ah 0), .int (nI i), .int z] H0 (some (.int (b2i (r (gp i 7) = 1)))) (fun H => HS G A N (upd r (gp i 7) z) ah ga H) := by
  refine mx_of (by decide) (Nat.le_of_ble_eq_true rfl) ?_
  intro p e s m below meth c hx hb hr hc hlk hnm hs0 ls hl
  subst hs0
  have hown := hc.2.2.2.1
  have hts := hc.2.2.2.2.1
  have hK := hc.2.2.2.2.2
  have hl : lv_has ls 4 [(0, .ref (ah 0)), (1, .int (nI i)), (2, .int z)] := hl
  have hS : va_S A s.heap s.heap [] := va_S.rf
  have hN20 := hO.2.1
  obtain ⟨u, hv, hcok, hW⟩ := hH
  refine lv_aload_n hx hb dX1_shuts_0 rfl (lv_at hl 0 rfl) ?_
  refine lv_iload_n hx hb dX1_shuts_1 rfl (lv_at hl 1 rfl) ?_
  refine cv_R1 (rest := []) hc (D_hgap l hF hW hO i hi) (lw_V q466 q429 q430 q68 q431) nd_X1_gap ⟨Nat.le_of_ble_eq_true rfl, Nat.le_of_ble_eq_true rfl⟩ (HW.recv hK hW) rfl hl.1 rfl (Nat.le_of_ble_eq_true rfl) dX1_shuts_2 ⟨Nat.le_of_ble_eq_true rfl, Nat.le_of_ble_eq_true rfl⟩ ?_
  refine gv_get hc (hO.gap hi).kd.1 (hW.gp hi) 6 (by decide) q333 rfl dX1_shuts_5 ?_
  refine lv_istore_n (lv' := [(3, .int (r (gp i 7))), (0, .ref (ah 0)), (1, .int (nI i)), (2, .int z)]) hx hb dX1_shuts_8 rfl hl (by decide) rfl (fun ls hl => ?_)
  refine lv_aload_n hx hb dX1_shuts_9 rfl (lv_at hl 1 rfl) ?_
  refine lv_iload_n hx hb dX1_shuts_10 rfl (lv_at hl 2 rfl) ?_
  refine cv_R1 (rest := []) hc (D_hgap l hF hW hO i hi) (lw_V q466 q429 q430 q68 q431) nd_X1_gap ⟨Nat.le_of_ble_eq_true rfl, Nat.le_of_ble_eq_true rfl⟩ (HW.recv hK hW) rfl hl.1 rfl (Nat.le_of_ble_eq_true rfl) dX1_shuts_11 ⟨Nat.le_of_ble_eq_true rfl, Nat.le_of_ble_eq_true rfl⟩ ?_
  refine lv_iload_n hx hb dX1_shuts_14 rfl (lv_at hl 3 rfl) ?_
  refine h_gput hc hW hS hi (hO.gap hi).kd.1 6 7 (by decide) (by decide) gfs_6 q333 rfl rfl (b01_nar hz01) (b01_fit hz01) dX1_shuts_15 (fun H locs hW hS hz oq => ?_)
  have hO1 := OkN_shut (i := i) hO hz01
  refine lv_aload_n hx hb dX1_shuts_18 rfl (lv_at hl 1 rfl) ?_
  refine cv_W0 (rest := []) hc (D_changes l hF hW hO1) (lw_V q522 q274 q275 q68 q276) nd_X1_changes ⟨Nat.le_of_ble_eq_true rfl, Nat.le_of_ble_eq_true rfl⟩ (HW.recv hK hW) rfl hl.1 rfl (Nat.le_of_ble_eq_true rfl) dX1_shuts_19 ⟨Nat.le_of_ble_eq_true rfl, Nat.le_of_ble_eq_true rfl⟩ hS (fun _ h => h) (fun H locs hW hS hz hk => ?_)
  have hH := HS.ch hW
  refine lv_iload_n hx hb dX1_shuts_22 rfl (lv_at hl 0 rfl) ?_
  exact rz_W hx hb hr hlk hS (bz_eq (hO.gap hi).2.2.2.2.2.2.2.2) (hH) dX1_shuts_23
