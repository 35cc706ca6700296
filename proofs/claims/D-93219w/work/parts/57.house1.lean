/-! a house's methods, 1: gap, changes, breadth, pushes, pressed -/
set_option maxRecDepth 100000
/-- what the law's start says of links, casts, statics -/
def FG (G : GD) : Prop := SG G ∧ WG G ∧ CG G
theorem nd_X1_gap : yX1_gap.cls = "SmokeLeans$House" ∧ yX1_gap.cls ≠ "java/lang/invoke/MethodHandle" ∧ yX1_gap.cls ≠ "java/lang/invoke/VarHandle" ∧ (parseMethodDescriptor yX1_gap.desc).map (fun d => d.parameters.length) = some 1 := by decide +kernel
set_option maxHeartbeats 4000000 in
theorem D_hgap (l : Launch) {G : GD} {A : Nat → Prop} {N R : Nat} {r : Nat → Int32} {u : Nat → Nat → Int32} {hv : Nat → Value} {ah ga : Nat → Nat} {H0 : Heap} (hF : FG G) (hW : HW G A N r u hv ah ga H0) (hO : OkN r R N) (i : Nat) (hi : i < N) : MetR l G yX1_gap cX1_gap 2 (some (.object "SmokeLeans$Gap")) 0 [.ref (ah 0), .int (nI i)] H0 (some (.ref (ga i))) := by
  refine mx_of (by decide) (Nat.le_of_ble_eq_true rfl) ?_
  intro p e s m below meth c hx hb hr hc hlk hnm hs0 ls hl
  subst hs0
  have hown := hc.2.2.2.1
  have hts := hc.2.2.2.2.1
  have hK := hc.2.2.2.2.2
  have hl : lv_has ls 2 [(0, .ref (ah 0)), (1, .int (nI i))] := hl
  have hN20 := hO.2.1
  refine lv_aload_n hx hb dX1_gap_0 rfl (lv_at hl 0 rfl) ?_
  refine h_get hc hW 2 (by decide) rfl q125 rfl rfl dX1_gap_1 ?_
  refine lv_iload_n hx hb dX1_gap_4 rfl (lv_at hl 1 rfl) ?_
  refine h_sld hc hW (ix_nI (by omega) (by decide)) dX1_gap_5 ?_
  refine h_held hc hW hi hO.2.1 rfl q113 dX1_gap_6 ?_
  refine gv_cast hc hF.2.2 (hO.gap hi).kd.1 (hW.gp hi) q432 dX1_gap_9 ?_
  exact ra_R hx hb hr (Or.inl ⟨_, rfl⟩) hlk (Or.inr ⟨_, rfl⟩) dX1_gap_12
theorem nd_X1_changes : yX1_changes.cls = "SmokeLeans$House" ∧ yX1_changes.cls ≠ "java/lang/invoke/MethodHandle" ∧ yX1_changes.cls ≠ "java/lang/invoke/VarHandle" ∧ (parseMethodDescriptor yX1_changes.desc).map (fun d => d.parameters.length) = some 0 := by decide +kernel
set_option maxHeartbeats 4000000 in
theorem D_changes (l : Launch) {G : GD} {A : Nat → Prop} {N R : Nat} {r : Nat → Int32} {u : Nat → Nat → Int32} {hv : Nat → Value} {ah ga : Nat → Nat} {H0 : Heap} (hF : FG G) (hW : HW G A N r u hv ah ga H0) (hO : OkN r R N)  : MetW l G yX1_changes cX1_changes 1 none 0 0 0 A [.ref (ah 0)] H0 none (fun H => HW G A N r (up2 u 0 0 0) hv ah ga H) := by
  refine mx_of (by decide) (Nat.le_of_ble_eq_true rfl) ?_
  intro p e s m below meth c hx hb hr hc hlk hnm hs0 ls hl
  subst hs0
  have hown := hc.2.2.2.1
  have hts := hc.2.2.2.2.1
  have hK := hc.2.2.2.2.2
  have hl : lv_has ls 1 [(0, .ref (ah 0))] := hl
  have hS : va_S A s.heap s.heap [] := va_S.rf
  have hN20 := hO.2.1
  refine lv_aload_n hx hb dX1_changes_0 rfl (lv_at hl 0 rfl) ?_
  refine lv_iconst (v := 0) hx hb dX1_changes_1 (by decide) ?_
  refine h_put (r' := r) (u' := up2 u 0 0 0) hc hW hS 5 (by decide) rfl q133 rfl rfl rfl rfl rfl rfl (fun _ _ => rfl) (up2_ne (by decide)) (up2_ne (by decide)) dX1_changes_2 (fun H locs hW hS hz oq => ?_)
  exact rv_W hx hb hr hlk hS (hW) dX1_changes_5
theorem nd_X1_breadth : yX1_breadth.cls = "SmokeLeans$House" ∧ yX1_breadth.cls ≠ "java/lang/invoke/MethodHandle" ∧ yX1_breadth.cls ≠ "java/lang/invoke/VarHandle" ∧ (parseMethodDescriptor yX1_breadth.desc).map (fun d => d.parameters.length) = some 1 := by decide +kernel
set_option maxHeartbeats 4000000 in
theorem D_hbreadth (l : Launch) {G : GD} {A : Nat → Prop} {N R : Nat} {r : Nat → Int32} {u : Nat → Nat → Int32} {hv : Nat → Value} {ah ga : Nat → Nat} {H0 : Heap} (hF : FG G) (hW : HW G A N r u hv ah ga H0) (hO : OkN r R N) (i : Nat) (hi : i < N) : MetR l G yX1_breadth cX1_breadth 2 (some .int) 2 [.ref (ah 0), .int (nI i)] H0 (some (.int (breadthP r i))) := by
  refine mx_of (by decide) (Nat.le_of_ble_eq_true rfl) ?_
  intro p e s m below meth c hx hb hr hc hlk hnm hs0 ls hl
  subst hs0
  have hown := hc.2.2.2.1
  have hts := hc.2.2.2.2.1
  have hK := hc.2.2.2.2.2
  have hl : lv_has ls 2 [(0, .ref (ah 0)), (1, .int (nI i))] := hl
  have hN20 := hO.2.1
  refine lv_aload_n hx hb dX1_breadth_0 rfl (lv_at hl 0 rfl) ?_
  refine lv_iload_n hx hb dX1_breadth_1 rfl (lv_at hl 1 rfl) ?_
  refine cv_R1 (rest := []) hc (D_hgap l hF hW hO i hi) (lw_V q466 q429 q430 q68 q431) nd_X1_gap ⟨Nat.le_of_ble_eq_true rfl, Nat.le_of_ble_eq_true rfl⟩ (HW.recv hK hW) rfl hl.1 rfl (Nat.le_of_ble_eq_true rfl) dX1_breadth_2 ⟨Nat.le_of_ble_eq_true rfl, Nat.le_of_ble_eq_true rfl⟩ ?_
  refine lv_aload_n hx hb dX1_breadth_5 rfl (lv_at hl 0 rfl) ?_
  refine h_get hc hW 3 (by decide) rfl q128 rfl rfl dX1_breadth_6 ?_
  refine gv_breadth (rest := []) hc q467 hW.nt (hO.gap hi).kd.1 (hW.gp hi) ⟨Nat.le_of_ble_eq_true rfl, Nat.le_of_ble_eq_true rfl⟩ hl.1 (Nat.le_of_ble_eq_true rfl) dX1_breadth_9 ⟨Nat.le_of_ble_eq_true rfl, Nat.le_of_ble_eq_true rfl⟩ (sm_topi (v := breadthP r i) (brK_eq (hO.gap hi)) ?_)
  exact ri_R hx hb hr hlk (rfl) dX1_breadth_12
/-- what pushes at gap i, seen from room x, of pressures q -/
def pshV (r q : Nat → Int32) (i : Nat) (x : Int32) : Int32 :=
  if r (gp i 1) = x then (if r (gp i 2) = -1 then 8 * pushP r i else q (r (gp i 2)).toNatClampNeg) else q (r (gp i 1)).toNatClampNeg
theorem rm_ne {r : Nat → Int32} {R i : Nat} (h : GapOk r R i) (hR : R ≤ 6) : ¬ r (gp i 1) = -1 := by
  obtain ⟨t, ht, e⟩ := h.2.1
  rw [e]
  have key : ∀ t : Fin 6, ¬ nI t.val = -1 := by decide
  exact key ⟨t, by omega⟩
theorem nd_X1_pushes : yX1_pushes.cls = "SmokeLeans$House" ∧ yX1_pushes.cls ≠ "java/lang/invoke/MethodHandle" ∧ yX1_pushes.cls ≠ "java/lang/invoke/VarHandle" ∧ (parseMethodDescriptor yX1_pushes.desc).map (fun d => d.parameters.length) = some 3 := by decide +kernel
set_option maxHeartbeats 4000000 in
theorem D_pushes (l : Launch) {G : GD} {A : Nat → Prop} {N R : Nat} {r : Nat → Int32} {u : Nat → Nat → Int32} {hv : Nat → Value} {ah ga : Nat → Nat} {H0 : Heap} (hF : FG G) (hW : HW G A N r u hv ah ga H0) (hO : OkN r R N) (i : Nat) (hi : i < N) (x : Int32) {qb : Nat} {q6 : Nat → Int32} (hq6 : va_at G.1 vwCl (qb, .inl (G.2.1 0, 6, .inl q6)) H0) : MetR l G yX1_pushes cX1_pushes 5 (some .int) 3 [.ref (ah 0), .ref (ga i), .int x, .ref qb] H0 (some (.int (pshV r q6 i x))) := by
  refine mx_of (by decide) (Nat.le_of_ble_eq_true rfl) ?_
  intro p e s m below meth c hx hb hr hc hlk hnm hs0 ls hl
  subst hs0
  have hown := hc.2.2.2.1
  have hts := hc.2.2.2.2.1
  have hK := hc.2.2.2.2.2
  have hl : lv_has ls 5 [(0, .ref (ah 0)), (1, .ref (ga i)), (2, .int x), (3, .ref qb)] := hl
  have hN20 := hO.2.1
  refine lv_aload_n hx hb dX1_pushes_0 rfl (lv_at hl 1 rfl) ?_
  refine gv_get hc (hO.gap hi).kd.1 (hW.gp hi) 0 (by decide) q312 rfl dX1_pushes_1 ?_
  refine lv_iload_n hx hb dX1_pushes_4 rfl (lv_at hl 2 rfl) ?_
  refine lv_icmp_ne (tgt := 15) hx hb dX1_pushes_5 (by decide) (fun c_409 => ?_) (fun c_409 => ?_)
  · refine lv_aload_n hx hb dX1_pushes_15 rfl (lv_at hl 1 rfl) ?_
    refine gv_get hc (hO.gap hi).kd.1 (hW.gp hi) 0 (by decide) q312 rfl dX1_pushes_16 ?_
    refine lv_istore (lv' := [(4, .int (r (gp i 1))), (0, .ref (ah 0)), (1, .ref (ga i)), (2, .int x), (3, .ref qb)]) hx hb dX1_pushes_19 hl (by decide) rfl (fun ls hl => ?_)
    refine lv_iload hx hb dX1_pushes_21 (lv_at hl 0 rfl) ?_
    refine lv_iconst (v := (-1)) hx hb dX1_pushes_23 (by decide) ?_
    refine lv_icmp_ne (tgt := 41) hx hb dX1_pushes_24 (by decide) (fun _ => ?_) (fun h => absurd h (rm_ne (hO.gap hi) hO.1))
    refine lv_aload_n hx hb dX1_pushes_41 rfl (lv_at hl 4 rfl) ?_
    refine lv_iload hx hb dX1_pushes_42 (lv_at hl 0 rfl) ?_
    refine h_ild hc hq6 ((hO.gap hi).rmIx hO.1) dX1_pushes_44 ?_
    exact ri_R hx hb hr hlk (by simp only [pshV, if_neg c_409]) dX1_pushes_45
  · refine lv_aload_n hx hb dX1_pushes_8 rfl (lv_at hl 1 rfl) ?_
    refine gv_get hc (hO.gap hi).kd.1 (hW.gp hi) 1 (by decide) q317 rfl dX1_pushes_9 ?_
    refine lv_goto (tgt := 19) hx hb dX1_pushes_12 (by decide) ?_
    refine lv_istore (lv' := [(4, .int (r (gp i 2))), (0, .ref (ah 0)), (1, .ref (ga i)), (2, .int x), (3, .ref qb)]) hx hb dX1_pushes_19 hl (by decide) rfl (fun ls hl => ?_)
    refine lv_iload hx hb dX1_pushes_21 (lv_at hl 0 rfl) ?_
    refine lv_iconst (v := (-1)) hx hb dX1_pushes_23 (by decide) ?_
    refine lv_icmp_ne (tgt := 41) hx hb dX1_pushes_24 (by decide) (fun c_410 => ?_) (fun c_410 => ?_)
    · refine lv_aload_n hx hb dX1_pushes_41 rfl (lv_at hl 4 rfl) ?_
      refine lv_iload hx hb dX1_pushes_42 (lv_at hl 0 rfl) ?_
      refine h_ild hc hq6 ((hO.gap hi).toIx hO.1 c_410) dX1_pushes_44 ?_
      exact ri_R hx hb hr hlk (by simp only [pshV, if_pos c_409, if_neg c_410]) dX1_pushes_45
    · refine lv_bipush (v := 8) hx hb dX1_pushes_27 (by decide) ?_
      refine lv_aload_n hx hb dX1_pushes_29 rfl (lv_at hl 2 rfl) ?_
      refine lv_aload_n hx hb dX1_pushes_30 rfl (lv_at hl 1 rfl) ?_
      refine h_get hc hW 3 (by decide) rfl q128 rfl rfl dX1_pushes_31 ?_
      refine gv_push (rest := [.int 8]) hc q752 hF.2.1 hW.nt (hO.gap hi).kd.1 (hW.gp hi) ⟨Nat.le_of_ble_eq_true rfl, Nat.le_of_ble_eq_true rfl⟩ hl.1 (Nat.le_of_ble_eq_true rfl) dX1_pushes_34 ⟨Nat.le_of_ble_eq_true rfl, Nat.le_of_ble_eq_true rfl⟩ (sm_topi (v := pushP r i) (psK_eq hO hi c_410) ?_)
      refine lv_imul hx hb dX1_pushes_37 ?_
      refine lv_goto (tgt := 45) hx hb dX1_pushes_38 (by decide) ?_
      exact ri_R hx hb hr hlk (by simp only [pshV, if_pos c_409, if_pos c_410]) dX1_pushes_45
theorem ask_step {s p : Nat → Int32} {x : Int32} {n : Nat} (h1 : ¬ s (gp n 1) = x) (h2 : ¬ s (gp n 2) = x) : askP s p x (n + 1) = askP s p x n := by simp only [askP, if_neg h1, if_neg h2]
theorem ask_step1 {s p : Nat → Int32} {x : Int32} {n : Nat} (h : s (gp n 1) = x) : askP s p x (n + 1) = ((askP s p x n).1 + breadthP s n * pshV s p n x, (askP s p x n).2 + breadthP s n) := by
  simp only [askP, if_pos h, pshV, thereP]
theorem ask_step2 {s p : Nat → Int32} {x : Int32} {n : Nat} (h1 : ¬ s (gp n 1) = x) (h : s (gp n 2) = x) : askP s p x (n + 1) = ((askP s p x n).1 + breadthP s n * pshV s p n x, (askP s p x n).2 + breadthP s n) := by
  simp only [askP, if_neg h1, if_pos h, pshV]
theorem nd_X1_pressed : yX1_pressed.cls = "SmokeLeans$House" ∧ yX1_pressed.cls ≠ "java/lang/invoke/MethodHandle" ∧ yX1_pressed.cls ≠ "java/lang/invoke/VarHandle" ∧ (parseMethodDescriptor yX1_pressed.desc).map (fun d => d.parameters.length) = some 1 := by decide +kernel
set_option maxHeartbeats 4000000 in
theorem D_pressed (l : Launch) {G : GD} {A : Nat → Prop} {N R : Nat} {r : Nat → Int32} {u : Nat → Nat → Int32} {hv : Nat → Value} {ah ga : Nat → Nat} {H0 : Heap} (hF : FG G) (hW : HW G A N r u hv ah ga H0) (hO : OkN r R N) (x : Int32) : MetR l G yX1_pressed cX1_pressed 7 (some .int) 4 [.ref (ah 0), .int x] H0 (some (.int (askedP r (u 2) x))) := by
  refine mx_of (by decide) (Nat.le_of_ble_eq_true rfl) ?_
  intro p e s m below meth c hx hb hr hc hlk hnm hs0 ls hl
  subst hs0
  have hown := hc.2.2.2.1
  have hts := hc.2.2.2.2.1
  have hK := hc.2.2.2.2.2
  have hl : lv_has ls 7 [(0, .ref (ah 0)), (1, .int x)] := hl
  have hN20 := hO.2.1
  refine lv_iconst (v := 0) hx hb dX1_pressed_0 (by decide) ?_
  refine lv_istore_n (lv' := [(2, .int 0), (0, .ref (ah 0)), (1, .int x)]) hx hb dX1_pressed_1 rfl hl (by decide) rfl (fun ls hl => ?_)
  refine w_join (fun y => y = (askP r (u 2) x 0).1) 19 [] (fun y hy => ?_) (fun jn => ?_)
  · subst hy
    refine lv_istore_n (lv' := [(3, .int ((askP r (u 2) x 0).1)), (2, .int 0), (0, .ref (ah 0)), (1, .int x)]) hx hb dX1_pressed_19 rfl hl (by decide) rfl (fun ls hl => ?_)
    refine lv_iconst (v := 0) hx hb dX1_pressed_20 (by decide) ?_
    refine lv_istore (lv' := [(4, .int 0), (3, .int ((askP r (u 2) x 0).1)), (2, .int 0), (0, .ref (ah 0)), (1, .int x)]) hx hb dX1_pressed_21 hl (by decide) rfl (fun ls hl => ?_)
    refine w_loop (σ := Nat) (fun i fr => ∃ ls, fr = F0 m 23 ls [] ∧ lv_has ls 7 [(4, .int (nI i)), (3, .int ((askP r (u 2) x i).1)), (2, .int ((askP r (u 2) x i).2)), (1, .int x), (0, .ref (ah 0))] ∧ (i ≤ N)) (fun i => N - i) 0 ⟨ls, rfl, lv_sub hl [0, 1, 2, 4, 3] rfl, Nat.zero_le _⟩ ?_
    intro i fr hI ih
    obtain ⟨ls, rfl, hl, hinv⟩ := hI
    by_cases hi : i < N
    · refine lv_iload hx hb dX1_pressed_23 (lv_at hl 0 rfl) ?_
      refine lv_aload_n hx hb dX1_pressed_25 rfl (lv_at hl 4 rfl) ?_
      refine h_get hc hW 1 (by decide) rfl q122 rfl rfl dX1_pressed_26 ?_
      refine sm_topi (v := nI N) hO.2.2.2.1 ?_
      refine lv_icmp_ge (tgt := 100) hx hb dX1_pressed_29 (by decide) (fun h => absurd h (nI_ge hi (by omega))) (fun _ => ?_)
      refine lv_aload_n hx hb dX1_pressed_32 rfl (lv_at hl 4 rfl) ?_
      refine lv_iload hx hb dX1_pressed_33 (lv_at hl 0 rfl) ?_
      refine cv_R1 (rest := []) hc (D_hgap l hF hW hO i hi) (lw_V q466 q429 q430 q68 q431) nd_X1_gap ⟨Nat.le_of_ble_eq_true rfl, Nat.le_of_ble_eq_true rfl⟩ (HW.recv hK hW) rfl hl.1 rfl (Nat.le_of_ble_eq_true rfl) dX1_pressed_35 ⟨Nat.le_of_ble_eq_true rfl, Nat.le_of_ble_eq_true rfl⟩ ?_
      refine lv_astore (lv' := [(5, .ref (ga i)), (4, .int (nI i)), (3, .int ((askP r (u 2) x i).1)), (2, .int ((askP r (u 2) x i).2)), (1, .int x), (0, .ref (ah 0))]) hx hb dX1_pressed_38 hl (by decide) rfl (fun ls hl => ?_)
      refine lv_aload hx hb dX1_pressed_40 (lv_at hl 0 rfl) ?_
      refine gv_get hc (hO.gap hi).kd.1 (hW.gp hi) 0 (by decide) q312 rfl dX1_pressed_42 ?_
      refine lv_iload_n hx hb dX1_pressed_45 rfl (lv_at hl 4 rfl) ?_
      refine lv_icmp_eq (tgt := 61) hx hb dX1_pressed_46 (by decide) (fun c_411 => ?_) (fun c_411 => ?_)
      · refine lv_aload hx hb dX1_pressed_61 (lv_at hl 0 rfl) ?_
        refine lv_aload_n hx hb dX1_pressed_63 rfl (lv_at hl 5 rfl) ?_
        refine h_get hc hW 3 (by decide) rfl q128 rfl rfl dX1_pressed_64 ?_
        refine gv_breadth (rest := []) hc q467 hW.nt (hO.gap hi).kd.1 (hW.gp hi) ⟨Nat.le_of_ble_eq_true rfl, Nat.le_of_ble_eq_true rfl⟩ hl.1 (Nat.le_of_ble_eq_true rfl) dX1_pressed_67 ⟨Nat.le_of_ble_eq_true rfl, Nat.le_of_ble_eq_true rfl⟩ (sm_topi (v := breadthP r i) (brK_eq (hO.gap hi)) ?_)
        refine lv_istore (lv' := [(6, .int (breadthP r i)), (5, .ref (ga i)), (4, .int (nI i)), (3, .int ((askP r (u 2) x i).1)), (2, .int ((askP r (u 2) x i).2)), (1, .int x), (0, .ref (ah 0))]) hx hb dX1_pressed_70 hl (by decide) rfl (fun ls hl => ?_)
        refine lv_iload_n hx hb dX1_pressed_72 rfl (lv_at hl 4 rfl) ?_
        refine lv_iload hx hb dX1_pressed_73 (lv_at hl 0 rfl) ?_
        refine lv_iadd hx hb dX1_pressed_75 ?_
        refine lv_istore_n (lv' := [(2, .int (((askP r (u 2) x i).2) + (breadthP r i))), (6, .int (breadthP r i)), (5, .ref (ga i)), (4, .int (nI i)), (3, .int ((askP r (u 2) x i).1)), (1, .int x), (0, .ref (ah 0))]) hx hb dX1_pressed_76 rfl hl (by decide) rfl (fun ls hl => ?_)
        refine lv_iload_n hx hb dX1_pressed_77 rfl (lv_at hl 4 rfl) ?_
        refine lv_iload hx hb dX1_pressed_78 (lv_at hl 1 rfl) ?_
        refine lv_aload_n hx hb dX1_pressed_80 rfl (lv_at hl 6 rfl) ?_
        refine lv_aload hx hb dX1_pressed_81 (lv_at hl 2 rfl) ?_
        refine lv_iload_n hx hb dX1_pressed_83 rfl (lv_at hl 5 rfl) ?_
        refine lv_aload_n hx hb dX1_pressed_84 rfl (lv_at hl 6 rfl) ?_
        refine h_get hc hW 7 (by decide) rfl q135 rfl rfl dX1_pressed_85 ?_
        refine cv_R1 (rest := [.int (breadthP r i), .int ((askP r (u 2) x i).1)]) hc (D_pushes l hF hW hO i hi x hW.bf) (lw_V q748 q750 qs18 q68 q751) nd_X1_pushes ⟨Nat.le_of_ble_eq_true rfl, Nat.le_of_ble_eq_true rfl⟩ (HW.recv hK hW) rfl hl.1 rfl (Nat.le_of_ble_eq_true rfl) dX1_pressed_88 ⟨Nat.le_of_ble_eq_true rfl, Nat.le_of_ble_eq_true rfl⟩ ?_
        refine lv_imul hx hb dX1_pressed_91 ?_
        refine lv_iadd hx hb dX1_pressed_92 ?_
        refine lv_istore_n (lv' := [(3, .int (((askP r (u 2) x i).1) + ((breadthP r i) * (pshV r (u 2) i x)))), (2, .int (((askP r (u 2) x i).2) + (breadthP r i))), (6, .int (breadthP r i)), (5, .ref (ga i)), (4, .int (nI i)), (1, .int x), (0, .ref (ah 0))]) hx hb dX1_pressed_93 rfl hl (by decide) rfl (fun ls hl => ?_)
        refine lv_iinc (v := nI (i + 1)) (lv' := [(4, .int (nI (i + 1))), (3, .int (((askP r (u 2) x i).1) + ((breadthP r i) * (pshV r (u 2) i x)))), (2, .int (((askP r (u 2) x i).2) + (breadthP r i))), (6, .int (breadthP r i)), (5, .ref (ga i)), (1, .int x), (0, .ref (ah 0))]) hx hb dX1_pressed_94 hl (k := 4) rfl (nI_1 _) (by decide) rfl (fun ls hl => ?_)
        refine lv_goto (tgt := 23) hx hb dX1_pressed_97 (by decide) ?_
        refine ih (i + 1) _ ⟨ls, rfl, ?_, hi⟩ (by omega)
        rw [ask_step1 c_411]
        exact lv_sub hl [0, 1, 2, 5, 6] rfl
      · refine lv_aload hx hb dX1_pressed_49 (lv_at hl 0 rfl) ?_
        refine gv_get hc (hO.gap hi).kd.1 (hW.gp hi) 1 (by decide) q317 rfl dX1_pressed_51 ?_
        refine lv_iload_n hx hb dX1_pressed_54 rfl (lv_at hl 4 rfl) ?_
        refine lv_icmp_eq (tgt := 61) hx hb dX1_pressed_55 (by decide) (fun c_412 => ?_) (fun c_412 => ?_)
        · refine lv_aload hx hb dX1_pressed_61 (lv_at hl 0 rfl) ?_
          refine lv_aload_n hx hb dX1_pressed_63 rfl (lv_at hl 5 rfl) ?_
          refine h_get hc hW 3 (by decide) rfl q128 rfl rfl dX1_pressed_64 ?_
          refine gv_breadth (rest := []) hc q467 hW.nt (hO.gap hi).kd.1 (hW.gp hi) ⟨Nat.le_of_ble_eq_true rfl, Nat.le_of_ble_eq_true rfl⟩ hl.1 (Nat.le_of_ble_eq_true rfl) dX1_pressed_67 ⟨Nat.le_of_ble_eq_true rfl, Nat.le_of_ble_eq_true rfl⟩ (sm_topi (v := breadthP r i) (brK_eq (hO.gap hi)) ?_)
          refine lv_istore (lv' := [(6, .int (breadthP r i)), (5, .ref (ga i)), (4, .int (nI i)), (3, .int ((askP r (u 2) x i).1)), (2, .int ((askP r (u 2) x i).2)), (1, .int x), (0, .ref (ah 0))]) hx hb dX1_pressed_70 hl (by decide) rfl (fun ls hl => ?_)
          refine lv_iload_n hx hb dX1_pressed_72 rfl (lv_at hl 4 rfl) ?_
          refine lv_iload hx hb dX1_pressed_73 (lv_at hl 0 rfl) ?_
          refine lv_iadd hx hb dX1_pressed_75 ?_
          refine lv_istore_n (lv' := [(2, .int (((askP r (u 2) x i).2) + (breadthP r i))), (6, .int (breadthP r i)), (5, .ref (ga i)), (4, .int (nI i)), (3, .int ((askP r (u 2) x i).1)), (1, .int x), (0, .ref (ah 0))]) hx hb dX1_pressed_76 rfl hl (by decide) rfl (fun ls hl => ?_)
          refine lv_iload_n hx hb dX1_pressed_77 rfl (lv_at hl 4 rfl) ?_
          refine lv_iload hx hb dX1_pressed_78 (lv_at hl 1 rfl) ?_
          refine lv_aload_n hx hb dX1_pressed_80 rfl (lv_at hl 6 rfl) ?_
          refine lv_aload hx hb dX1_pressed_81 (lv_at hl 2 rfl) ?_
          refine lv_iload_n hx hb dX1_pressed_83 rfl (lv_at hl 5 rfl) ?_
          refine lv_aload_n hx hb dX1_pressed_84 rfl (lv_at hl 6 rfl) ?_
          refine h_get hc hW 7 (by decide) rfl q135 rfl rfl dX1_pressed_85 ?_
          refine cv_R1 (rest := [.int (breadthP r i), .int ((askP r (u 2) x i).1)]) hc (D_pushes l hF hW hO i hi x hW.bf) (lw_V q748 q750 qs18 q68 q751) nd_X1_pushes ⟨Nat.le_of_ble_eq_true rfl, Nat.le_of_ble_eq_true rfl⟩ (HW.recv hK hW) rfl hl.1 rfl (Nat.le_of_ble_eq_true rfl) dX1_pressed_88 ⟨Nat.le_of_ble_eq_true rfl, Nat.le_of_ble_eq_true rfl⟩ ?_
          refine lv_imul hx hb dX1_pressed_91 ?_
          refine lv_iadd hx hb dX1_pressed_92 ?_
          refine lv_istore_n (lv' := [(3, .int (((askP r (u 2) x i).1) + ((breadthP r i) * (pshV r (u 2) i x)))), (2, .int (((askP r (u 2) x i).2) + (breadthP r i))), (6, .int (breadthP r i)), (5, .ref (ga i)), (4, .int (nI i)), (1, .int x), (0, .ref (ah 0))]) hx hb dX1_pressed_93 rfl hl (by decide) rfl (fun ls hl => ?_)
          refine lv_iinc (v := nI (i + 1)) (lv' := [(4, .int (nI (i + 1))), (3, .int (((askP r (u 2) x i).1) + ((breadthP r i) * (pshV r (u 2) i x)))), (2, .int (((askP r (u 2) x i).2) + (breadthP r i))), (6, .int (breadthP r i)), (5, .ref (ga i)), (1, .int x), (0, .ref (ah 0))]) hx hb dX1_pressed_94 hl (k := 4) rfl (nI_1 _) (by decide) rfl (fun ls hl => ?_)
          refine lv_goto (tgt := 23) hx hb dX1_pressed_97 (by decide) ?_
          refine ih (i + 1) _ ⟨ls, rfl, ?_, hi⟩ (by omega)
          rw [ask_step2 c_411 c_412]
          exact lv_sub hl [0, 1, 2, 5, 6] rfl
        · refine lv_goto (tgt := 94) hx hb dX1_pressed_58 (by decide) ?_
          refine lv_iinc (v := nI (i + 1)) (lv' := [(4, .int (nI (i + 1))), (5, .ref (ga i)), (3, .int ((askP r (u 2) x i).1)), (2, .int ((askP r (u 2) x i).2)), (1, .int x), (0, .ref (ah 0))]) hx hb dX1_pressed_94 hl (k := 1) rfl (nI_1 _) (by decide) rfl (fun ls hl => ?_)
          refine lv_goto (tgt := 23) hx hb dX1_pressed_97 (by decide) ?_
          refine ih (i + 1) _ ⟨ls, rfl, ?_, hi⟩ (by omega)
          rw [ask_step c_411 c_412]
          exact lv_sub hl [0, 2, 3, 4, 5] rfl
    · have hiN : i = N := by omega
      subst hiN
      refine lv_iload hx hb dX1_pressed_23 (lv_at hl 0 rfl) ?_
      refine lv_aload_n hx hb dX1_pressed_25 rfl (lv_at hl 4 rfl) ?_
      refine h_get hc hW 1 (by decide) rfl q122 rfl rfl dX1_pressed_26 ?_
      refine sm_topi (v := nI i) hO.2.2.2.1 ?_
      refine lv_icmp_ge (tgt := 100) hx hb dX1_pressed_29 (by decide) (fun _ => ?_) (fun h => absurd (nI_le (by omega) (by omega)) h)
      refine lv_iload_n hx hb dX1_pressed_100 rfl (lv_at hl 2 rfl) ?_
      refine lv_if_ne (tgt := 108) hx hb dX1_pressed_101 (by decide) (fun c_413 => ?_) (fun c_413 => ?_)
      · refine lv_iload_n hx hb dX1_pressed_108 rfl (lv_at hl 1 rfl) ?_
        refine lv_iload_n hx hb dX1_pressed_109 rfl (lv_at hl 2 rfl) ?_
        refine lv_idiv hx hb dX1_pressed_110 (c_413) ?_
        exact ri_R hx hb hr hlk (by simp only [askedP, hO.cl1, if_neg c_413]) dX1_pressed_111
      · refine lv_iconst (v := 0) hx hb dX1_pressed_104 (by decide) ?_
        refine lv_goto (tgt := 111) hx hb dX1_pressed_105 (by decide) ?_
        exact ri_R hx hb hr hlk (by simp only [askedP, hO.cl1, if_pos c_413]) dX1_pressed_111
  · refine lv_iload_n hx hb dX1_pressed_2 rfl (lv_at hl 2 rfl) ?_
    refine lv_if_ne (tgt := 18) hx hb dX1_pressed_3 (by decide) (fun c_414 => ?_) (fun c_414 => ?_)
    · refine lv_iconst (v := 0) hx hb dX1_pressed_18 (by decide) ?_
      exact jn _ (by simp only [askP, if_neg c_414])
    · refine lv_bipush (v := 80) hx hb dX1_pressed_6 (by decide) ?_
      refine lv_aload_n hx hb dX1_pressed_8 rfl (lv_at hl 1 rfl) ?_
      refine h_get hc hW 3 (by decide) rfl q128 rfl rfl dX1_pressed_9 ?_
      refine lv_iconst (v := 3) hx hb dX1_pressed_12 (by decide) ?_
      refine nt_ld hc hW.nt (ix_eq (k := 3) rfl (by decide) (by decide)) dX1_pressed_13 ?_
      refine sm_topi (v := r 5) rfl ?_
      refine lv_imul hx hb dX1_pressed_14 ?_
      refine lv_goto (tgt := 19) hx hb dX1_pressed_15 (by decide) ?_
      exact jn _ (by simp only [askP, if_pos c_414])
