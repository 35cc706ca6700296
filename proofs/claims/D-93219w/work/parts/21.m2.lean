/-! the reference's methods, 2: the air -/
set_option maxRecDepth 100000

theorem nd_X3_asked : yX3_asked.cls = "SmokeLeansModel" ∧ yX3_asked.cls ≠ "java/lang/invoke/MethodHandle" ∧ yX3_asked.cls ≠ "java/lang/invoke/VarHandle" ∧ (parseMethodDescriptor yX3_asked.desc).map (fun d => d.parameters.length) = some 1 := by decide +kernel
set_option maxHeartbeats 4000000 in
theorem M_asked (l : Launch) {G : GD} {A : Nat → Prop} {f : Nat → Nat → Int32} {g : Nat → Nat → Int64} {ad : Nat → Nat} {H0 : Heap} (hW : MW G A f g ad H0) {R N : Nat} (hO : OkN (f 0) R N) (x : Int32) : MetR l G yX3_asked cX3_asked 6 (some .int) 2 [.ref (ad 23), .int x] H0 (some (.int (askedP (f 0) (f 11) x))) := by
  refine mx_of (by decide) (Nat.le_of_ble_eq_true rfl) ?_
  intro p e s m below meth c hx hb hr hc hlk hnm hs0 ls hl
  subst hs0
  have hown := hc.2.2.2.1
  have hts := hc.2.2.2.2.1
  have hK := hc.2.2.2.2.2
  have hl : lv_has ls 6 [(0, .ref (ad 23)), (1, .int x)] := hl
  refine w_join (fun y => y = (askP (f 0) (f 11) x 0).1) 17 [] (fun y hy => ?_) (fun jn => ?_)
  · subst hy
    refine lv_istore_n (lv' := [(2, .int ((askP (f 0) (f 11) x 0).1)), (0, .ref (ad 23)), (1, .int x)]) hx hb dX3_asked_17 rfl hl (by decide) rfl (fun ls hl => ?_)
    refine lv_iconst (v := 0) hx hb dX3_asked_18 (by decide) ?_
    refine lv_istore_n (lv' := [(3, .int 0), (2, .int ((askP (f 0) (f 11) x 0).1)), (0, .ref (ad 23)), (1, .int x)]) hx hb dX3_asked_19 rfl hl (by decide) rfl (fun ls hl => ?_)
    refine lv_iconst (v := 0) hx hb dX3_asked_20 (by decide) ?_
    refine lv_istore (lv' := [(4, .int 0), (3, .int 0), (2, .int ((askP (f 0) (f 11) x 0).1)), (0, .ref (ad 23)), (1, .int x)]) hx hb dX3_asked_21 hl (by decide) rfl (fun ls hl => ?_)
    refine w_loop (σ := Nat) (fun i fr => ∃ ls, fr = F0 m 23 ls [] ∧ lv_has ls 6 [(4, .int (nI i)), (3, .int ((askP (f 0) (f 11) x i).2)), (2, .int ((askP (f 0) (f 11) x i).1)), (1, .int x), (0, .ref (ad 23))] ∧ (i ≤ N)) (fun i => N - i) 0 ⟨ls, rfl, lv_sub hl [0, 1, 2, 4, 3] rfl, Nat.zero_le _⟩ ?_
    intro i fr hI ih
    obtain ⟨ls, rfl, hl, hinv⟩ := hI
    by_cases hi : i < N
    · have hi20 : i < 20 := by have := hO.2.1; omega
      refine lv_iload hx hb dX3_asked_23 (lv_at hl 0 rfl) ?_
      refine lv_aload_n hx hb dX3_asked_25 rfl (lv_at hl 4 rfl) ?_
      refine m_get hc hW 0 (by decide) rfl q1000 rfl rfl dX3_asked_26 ?_
      refine lv_iconst (v := 1) hx hb dX3_asked_29 (by decide) ?_
      refine m_ild hc hW 0 rfl (n := 169) rfl (ix_eq (k := 1) rfl (by decide) (by decide)) dX3_asked_30 ?_
      refine sm_topi (v := nI N) (hO.2.2.2.1) ?_
      refine lv_icmp_ge (tgt := 142) hx hb dX3_asked_31 (by decide) (fun h => absurd h (nI_ge hi (by have := hO.2.1; omega))) (fun _ => ?_)
      refine lv_aload_n hx hb dX3_asked_34 rfl (lv_at hl 4 rfl) ?_
      refine lv_iload hx hb dX3_asked_35 (lv_at hl 0 rfl) ?_
      refine cv_R1 (rest := []) hc (M_breadth l hW i (by omega)) (lw_V q1114 q1116 qs34 q70 q1117) nd_X3_breadth ⟨Nat.le_of_ble_eq_true rfl, Nat.le_of_ble_eq_true rfl⟩ (MW.recv hK hW) rfl hl.1 rfl (Nat.le_of_ble_eq_true rfl) dX3_asked_37 ⟨Nat.le_of_ble_eq_true rfl, Nat.le_of_ble_eq_true rfl⟩ ?_
      refine lv_istore (lv' := [(5, .int (breadthP (f 0) i)), (4, .int (nI i)), (3, .int ((askP (f 0) (f 11) x i).2)), (2, .int ((askP (f 0) (f 11) x i).1)), (1, .int x), (0, .ref (ad 23))]) hx hb dX3_asked_40 hl (by decide) rfl (fun ls hl => ?_)
      refine lv_aload_n hx hb dX3_asked_42 rfl (lv_at hl 5 rfl) ?_
      refine lv_iload hx hb dX3_asked_43 (lv_at hl 1 rfl) ?_
      refine lv_iconst (v := 1) hx hb dX3_asked_45 (by decide) ?_
      refine cv_R1 (rest := []) hc (M_has l hW i 1 (by omega)) (lw_V q1110 q1112 qs33 q70 q1113) nd_X3_has ⟨Nat.le_of_ble_eq_true rfl, Nat.le_of_ble_eq_true rfl⟩ (MW.recv hK hW) rfl hl.1 rfl (Nat.le_of_ble_eq_true rfl) dX3_asked_46 ⟨Nat.le_of_ble_eq_true rfl, Nat.le_of_ble_eq_true rfl⟩ ?_
      refine lv_iload_n hx hb dX3_asked_49 rfl (lv_at hl 4 rfl) ?_
      refine lv_icmp_ne (tgt := 102) hx hb dX3_asked_50 (by decide) (fun c_54 => ?_) (fun c_54 => ?_)
      · refine lv_aload_n hx hb dX3_asked_102 rfl (lv_at hl 5 rfl) ?_
        refine lv_iload hx hb dX3_asked_103 (lv_at hl 1 rfl) ?_
        refine lv_iconst (v := 2) hx hb dX3_asked_105 (by decide) ?_
        refine cv_R1 (rest := []) hc (M_has l hW i 2 (by omega)) (lw_V q1110 q1112 qs33 q70 q1113) nd_X3_has ⟨Nat.le_of_ble_eq_true rfl, Nat.le_of_ble_eq_true rfl⟩ (MW.recv hK hW) rfl hl.1 rfl (Nat.le_of_ble_eq_true rfl) dX3_asked_106 ⟨Nat.le_of_ble_eq_true rfl, Nat.le_of_ble_eq_true rfl⟩ ?_
        refine lv_iload_n hx hb dX3_asked_109 rfl (lv_at hl 4 rfl) ?_
        refine lv_icmp_ne (tgt := 136) hx hb dX3_asked_110 (by decide) (fun c_55 => ?_) (fun c_55 => ?_)
        · refine lv_iinc (v := nI (i + 1)) (lv' := [(4, .int (nI (i + 1))), (5, .int (breadthP (f 0) i)), (3, .int ((askP (f 0) (f 11) x i).2)), (2, .int ((askP (f 0) (f 11) x i).1)), (1, .int x), (0, .ref (ad 23))]) hx hb dX3_asked_136 hl (k := 1) rfl (nI_1 _) (by decide) rfl (fun ls hl => ?_)
          refine lv_goto (tgt := 23) hx hb dX3_asked_139 (by decide) ?_
          refine ih (i + 1) _ ⟨ls, rfl, ?_, hi⟩ (by omega)
          rw [show askP (f 0) (f 11) x (i + 1) = ((askP (f 0) (f 11) x i).1, (askP (f 0) (f 11) x i).2) from by simp only [askP, thereP, if_neg c_54, if_neg c_55]]
          exact lv_sub hl [0, 2, 3, 4, 5] rfl
        · refine lv_iload_n hx hb dX3_asked_113 rfl (lv_at hl 3 rfl) ?_
          refine lv_iload hx hb dX3_asked_114 (lv_at hl 0 rfl) ?_
          refine lv_aload_n hx hb dX3_asked_116 rfl (lv_at hl 5 rfl) ?_
          refine m_get hc hW 11 (by decide) rfl q1011 rfl rfl dX3_asked_117 ?_
          refine lv_aload_n hx hb dX3_asked_120 rfl (lv_at hl 5 rfl) ?_
          refine lv_iload hx hb dX3_asked_121 (lv_at hl 1 rfl) ?_
          refine lv_iconst (v := 1) hx hb dX3_asked_123 (by decide) ?_
          refine cv_R1 (rest := [.ref (ad 11), .int (breadthP (f 0) i), .int ((askP (f 0) (f 11) x i).1)]) hc (M_has l hW i 1 (by omega)) (lw_V q1110 q1112 qs33 q70 q1113) nd_X3_has ⟨Nat.le_of_ble_eq_true rfl, Nat.le_of_ble_eq_true rfl⟩ (MW.recv hK hW) rfl hl.1 rfl (Nat.le_of_ble_eq_true rfl) dX3_asked_124 ⟨Nat.le_of_ble_eq_true rfl, Nat.le_of_ble_eq_true rfl⟩ ?_
          refine m_ild hc hW 11 rfl (n := 6) rfl ((hO.gap hi).rmIx hO.1) dX3_asked_127 ?_
          refine lv_imul hx hb dX3_asked_128 ?_
          refine lv_iadd hx hb dX3_asked_129 ?_
          refine lv_istore_n (lv' := [(2, .int (((askP (f 0) (f 11) x i).1) + ((breadthP (f 0) i) * (f 11 ((f 0 (gp i 1)).toNatClampNeg))))), (5, .int (breadthP (f 0) i)), (4, .int (nI i)), (3, .int ((askP (f 0) (f 11) x i).2)), (1, .int x), (0, .ref (ad 23))]) hx hb dX3_asked_130 rfl hl (by decide) rfl (fun ls hl => ?_)
          refine lv_iload_n hx hb dX3_asked_131 rfl (lv_at hl 3 rfl) ?_
          refine lv_iload hx hb dX3_asked_132 (lv_at hl 1 rfl) ?_
          refine lv_iadd hx hb dX3_asked_134 ?_
          refine lv_istore_n (lv' := [(3, .int (((askP (f 0) (f 11) x i).2) + (breadthP (f 0) i))), (2, .int (((askP (f 0) (f 11) x i).1) + ((breadthP (f 0) i) * (f 11 ((f 0 (gp i 1)).toNatClampNeg))))), (5, .int (breadthP (f 0) i)), (4, .int (nI i)), (1, .int x), (0, .ref (ad 23))]) hx hb dX3_asked_135 rfl hl (by decide) rfl (fun ls hl => ?_)
          refine lv_iinc (v := nI (i + 1)) (lv' := [(4, .int (nI (i + 1))), (3, .int (((askP (f 0) (f 11) x i).2) + (breadthP (f 0) i))), (2, .int (((askP (f 0) (f 11) x i).1) + ((breadthP (f 0) i) * (f 11 ((f 0 (gp i 1)).toNatClampNeg))))), (5, .int (breadthP (f 0) i)), (1, .int x), (0, .ref (ad 23))]) hx hb dX3_asked_136 hl (k := 3) rfl (nI_1 _) (by decide) rfl (fun ls hl => ?_)
          refine lv_goto (tgt := 23) hx hb dX3_asked_139 (by decide) ?_
          refine ih (i + 1) _ ⟨ls, rfl, ?_, hi⟩ (by omega)
          rw [show askP (f 0) (f 11) x (i + 1) = (((askP (f 0) (f 11) x i).1) + ((breadthP (f 0) i) * (f 11 ((f 0 (gp i 1)).toNatClampNeg))), ((askP (f 0) (f 11) x i).2) + (breadthP (f 0) i)) from by simp only [askP, thereP, if_neg c_54, if_pos c_55]]
          exact lv_sub hl [0, 1, 2, 4, 5] rfl
      · refine lv_iload_n hx hb dX3_asked_53 rfl (lv_at hl 3 rfl) ?_
        refine lv_iload hx hb dX3_asked_54 (lv_at hl 0 rfl) ?_
        refine lv_aload_n hx hb dX3_asked_56 rfl (lv_at hl 5 rfl) ?_
        refine lv_iload hx hb dX3_asked_57 (lv_at hl 1 rfl) ?_
        refine lv_iconst (v := 2) hx hb dX3_asked_59 (by decide) ?_
        refine cv_R1 (rest := [.int (breadthP (f 0) i), .int ((askP (f 0) (f 11) x i).1)]) hc (M_has l hW i 2 (by omega)) (lw_V q1110 q1112 qs33 q70 q1113) nd_X3_has ⟨Nat.le_of_ble_eq_true rfl, Nat.le_of_ble_eq_true rfl⟩ (MW.recv hK hW) rfl hl.1 rfl (Nat.le_of_ble_eq_true rfl) dX3_asked_60 ⟨Nat.le_of_ble_eq_true rfl, Nat.le_of_ble_eq_true rfl⟩ ?_
        refine lv_iconst (v := (-1)) hx hb dX3_asked_63 (by decide) ?_
        refine lv_icmp_ne (tgt := 79) hx hb dX3_asked_64 (by decide) (fun c_56 => ?_) (fun c_56 => ?_)
        · refine lv_aload_n hx hb dX3_asked_79 rfl (lv_at hl 5 rfl) ?_
          refine m_get hc hW 11 (by decide) rfl q1011 rfl rfl dX3_asked_80 ?_
          refine lv_aload_n hx hb dX3_asked_83 rfl (lv_at hl 5 rfl) ?_
          refine lv_iload hx hb dX3_asked_84 (lv_at hl 1 rfl) ?_
          refine lv_iconst (v := 2) hx hb dX3_asked_86 (by decide) ?_
          refine cv_R1 (rest := [.ref (ad 11), .int (breadthP (f 0) i), .int ((askP (f 0) (f 11) x i).1)]) hc (M_has l hW i 2 (by omega)) (lw_V q1110 q1112 qs33 q70 q1113) nd_X3_has ⟨Nat.le_of_ble_eq_true rfl, Nat.le_of_ble_eq_true rfl⟩ (MW.recv hK hW) rfl hl.1 rfl (Nat.le_of_ble_eq_true rfl) dX3_asked_87 ⟨Nat.le_of_ble_eq_true rfl, Nat.le_of_ble_eq_true rfl⟩ ?_
          refine m_ild hc hW 11 rfl (n := 6) rfl ((hO.gap hi).toIx hO.1 c_56) dX3_asked_90 ?_
          refine lv_imul hx hb dX3_asked_91 ?_
          refine lv_iadd hx hb dX3_asked_92 ?_
          refine lv_istore_n (lv' := [(2, .int (((askP (f 0) (f 11) x i).1) + ((breadthP (f 0) i) * (f 11 ((f 0 (gp i 2)).toNatClampNeg))))), (5, .int (breadthP (f 0) i)), (4, .int (nI i)), (3, .int ((askP (f 0) (f 11) x i).2)), (1, .int x), (0, .ref (ad 23))]) hx hb dX3_asked_93 rfl hl (by decide) rfl (fun ls hl => ?_)
          refine lv_iload_n hx hb dX3_asked_94 rfl (lv_at hl 3 rfl) ?_
          refine lv_iload hx hb dX3_asked_95 (lv_at hl 1 rfl) ?_
          refine lv_iadd hx hb dX3_asked_97 ?_
          refine lv_istore_n (lv' := [(3, .int (((askP (f 0) (f 11) x i).2) + (breadthP (f 0) i))), (2, .int (((askP (f 0) (f 11) x i).1) + ((breadthP (f 0) i) * (f 11 ((f 0 (gp i 2)).toNatClampNeg))))), (5, .int (breadthP (f 0) i)), (4, .int (nI i)), (1, .int x), (0, .ref (ad 23))]) hx hb dX3_asked_98 rfl hl (by decide) rfl (fun ls hl => ?_)
          refine lv_goto (tgt := 136) hx hb dX3_asked_99 (by decide) ?_
          refine lv_iinc (v := nI (i + 1)) (lv' := [(4, .int (nI (i + 1))), (3, .int (((askP (f 0) (f 11) x i).2) + (breadthP (f 0) i))), (2, .int (((askP (f 0) (f 11) x i).1) + ((breadthP (f 0) i) * (f 11 ((f 0 (gp i 2)).toNatClampNeg))))), (5, .int (breadthP (f 0) i)), (1, .int x), (0, .ref (ad 23))]) hx hb dX3_asked_136 hl (k := 3) rfl (nI_1 _) (by decide) rfl (fun ls hl => ?_)
          refine lv_goto (tgt := 23) hx hb dX3_asked_139 (by decide) ?_
          refine ih (i + 1) _ ⟨ls, rfl, ?_, hi⟩ (by omega)
          rw [show askP (f 0) (f 11) x (i + 1) = (((askP (f 0) (f 11) x i).1) + ((breadthP (f 0) i) * (f 11 ((f 0 (gp i 2)).toNatClampNeg))), ((askP (f 0) (f 11) x i).2) + (breadthP (f 0) i)) from by simp only [askP, thereP, if_pos c_54, if_neg c_56]]
          exact lv_sub hl [0, 1, 2, 4, 5] rfl
        · refine lv_bipush (v := 8) hx hb dX3_asked_67 (by decide) ?_
          refine lv_aload_n hx hb dX3_asked_69 rfl (lv_at hl 5 rfl) ?_
          refine lv_iload hx hb dX3_asked_70 (lv_at hl 1 rfl) ?_
          refine cv_R1 (rest := [.int 8, .int (breadthP (f 0) i), .int ((askP (f 0) (f 11) x i).1)]) hc (M_push l hW i (by omega)) (lw_V q1118 q1120 qs35 q70 q1121) nd_X3_push ⟨Nat.le_of_ble_eq_true rfl, Nat.le_of_ble_eq_true rfl⟩ (MW.recv hK hW) rfl hl.1 rfl (Nat.le_of_ble_eq_true rfl) dX3_asked_72 ⟨Nat.le_of_ble_eq_true rfl, Nat.le_of_ble_eq_true rfl⟩ ?_
          refine lv_imul hx hb dX3_asked_75 ?_
          refine lv_goto (tgt := 91) hx hb dX3_asked_76 (by decide) ?_
          refine lv_imul hx hb dX3_asked_91 ?_
          refine lv_iadd hx hb dX3_asked_92 ?_
          refine lv_istore_n (lv' := [(2, .int (((askP (f 0) (f 11) x i).1) + ((breadthP (f 0) i) * (8 * (pushP (f 0) i))))), (5, .int (breadthP (f 0) i)), (4, .int (nI i)), (3, .int ((askP (f 0) (f 11) x i).2)), (1, .int x), (0, .ref (ad 23))]) hx hb dX3_asked_93 rfl hl (by decide) rfl (fun ls hl => ?_)
          refine lv_iload_n hx hb dX3_asked_94 rfl (lv_at hl 3 rfl) ?_
          refine lv_iload hx hb dX3_asked_95 (lv_at hl 1 rfl) ?_
          refine lv_iadd hx hb dX3_asked_97 ?_
          refine lv_istore_n (lv' := [(3, .int (((askP (f 0) (f 11) x i).2) + (breadthP (f 0) i))), (2, .int (((askP (f 0) (f 11) x i).1) + ((breadthP (f 0) i) * (8 * (pushP (f 0) i))))), (5, .int (breadthP (f 0) i)), (4, .int (nI i)), (1, .int x), (0, .ref (ad 23))]) hx hb dX3_asked_98 rfl hl (by decide) rfl (fun ls hl => ?_)
          refine lv_goto (tgt := 136) hx hb dX3_asked_99 (by decide) ?_
          refine lv_iinc (v := nI (i + 1)) (lv' := [(4, .int (nI (i + 1))), (3, .int (((askP (f 0) (f 11) x i).2) + (breadthP (f 0) i))), (2, .int (((askP (f 0) (f 11) x i).1) + ((breadthP (f 0) i) * (8 * (pushP (f 0) i))))), (5, .int (breadthP (f 0) i)), (1, .int x), (0, .ref (ad 23))]) hx hb dX3_asked_136 hl (k := 3) rfl (nI_1 _) (by decide) rfl (fun ls hl => ?_)
          refine lv_goto (tgt := 23) hx hb dX3_asked_139 (by decide) ?_
          refine ih (i + 1) _ ⟨ls, rfl, ?_, hi⟩ (by omega)
          rw [show askP (f 0) (f 11) x (i + 1) = (((askP (f 0) (f 11) x i).1) + ((breadthP (f 0) i) * (8 * (pushP (f 0) i))), ((askP (f 0) (f 11) x i).2) + (breadthP (f 0) i)) from by simp only [askP, thereP, if_pos c_54, if_pos c_56]]
          exact lv_sub hl [0, 1, 2, 4, 5] rfl
    · have hiN : i = N := by omega
      subst hiN
      refine lv_iload hx hb dX3_asked_23 (lv_at hl 0 rfl) ?_
      refine lv_aload_n hx hb dX3_asked_25 rfl (lv_at hl 4 rfl) ?_
      refine m_get hc hW 0 (by decide) rfl q1000 rfl rfl dX3_asked_26 ?_
      refine lv_iconst (v := 1) hx hb dX3_asked_29 (by decide) ?_
      refine m_ild hc hW 0 rfl (n := 169) rfl (ix_eq (k := 1) rfl (by decide) (by decide)) dX3_asked_30 ?_
      refine sm_topi (v := nI i) (hO.2.2.2.1) ?_
      refine lv_icmp_ge (tgt := 142) hx hb dX3_asked_31 (by decide) (fun _ => ?_) (fun h => absurd (nI_le (by omega) (by have := hO.2.1; omega)) h)
      refine lv_iload_n hx hb dX3_asked_142 rfl (lv_at hl 1 rfl) ?_
      refine lv_if_ne (tgt := 150) hx hb dX3_asked_143 (by decide) (fun c_57 => ?_) (fun c_57 => ?_)
      · refine lv_iload_n hx hb dX3_asked_150 rfl (lv_at hl 2 rfl) ?_
        refine lv_iload_n hx hb dX3_asked_151 rfl (lv_at hl 1 rfl) ?_
        refine lv_idiv hx hb dX3_asked_152 (c_57) ?_
        exact ri_R hx hb hr hlk (by simp only [askedP, hO.cl1, if_neg c_57]) dX3_asked_153
      · refine lv_iconst (v := 0) hx hb dX3_asked_146 (by decide) ?_
        refine lv_goto (tgt := 153) hx hb dX3_asked_147 (by decide) ?_
        exact ri_R hx hb hr hlk (by simp only [askedP, hO.cl1, if_pos c_57]) dX3_asked_153
  · refine lv_iload_n hx hb dX3_asked_0 rfl (lv_at hl 1 rfl) ?_
    refine lv_if_ne (tgt := 16) hx hb dX3_asked_1 (by decide) (fun c_58 => ?_) (fun c_58 => ?_)
    · refine lv_iconst (v := 0) hx hb dX3_asked_16 (by decide) ?_
      exact jn _ (by simp only [askP, if_neg c_58])
    · refine lv_bipush (v := 80) hx hb dX3_asked_4 (by decide) ?_
      refine lv_aload_n hx hb dX3_asked_6 rfl (lv_at hl 0 rfl) ?_
      refine m_get hc hW 0 (by decide) rfl q1000 rfl rfl dX3_asked_7 ?_
      refine lv_iconst (v := 5) hx hb dX3_asked_10 (by decide) ?_
      refine m_ild hc hW 0 rfl (n := 169) rfl (ix_eq (k := 5) rfl (by decide) (by decide)) dX3_asked_11 ?_
      refine lv_imul hx hb dX3_asked_12 ?_
      refine lv_goto (tgt := 17) hx hb dX3_asked_13 (by decide) ?_
      exact jn _ (by simp only [askP, if_pos c_58])
theorem nd_X3_flowOf : yX3_flowOf.cls = "SmokeLeansModel" ∧ yX3_flowOf.cls ≠ "java/lang/invoke/MethodHandle" ∧ yX3_flowOf.cls ≠ "java/lang/invoke/VarHandle" ∧ (parseMethodDescriptor yX3_flowOf.desc).map (fun d => d.parameters.length) = some 1 := by decide +kernel
set_option maxHeartbeats 4000000 in
theorem M_flowOf (l : Launch) {G : GD} {A : Nat → Prop} {f : Nat → Nat → Int32} {g : Nat → Nat → Int64} {ad : Nat → Nat} {H0 : Heap} (hW : MW G A f g ad H0) {R N : Nat} (hO : OkN (f 0) R N) (i : Nat) (hi : i < N)  : MetR l G yX3_flowOf cX3_flowOf 3 (some .int) 2 [.ref (ad 23), .int (nI i)] H0 (some (.int (flowQ (f 0) (f 11) i))) := by
  refine mx_of (by decide) (Nat.le_of_ble_eq_true rfl) ?_
  intro p e s m below meth c hx hb hr hc hlk hnm hs0 ls hl
  subst hs0
  have hown := hc.2.2.2.1
  have hts := hc.2.2.2.2.1
  have hK := hc.2.2.2.2.2
  have hl : lv_has ls 3 [(0, .ref (ad 23)), (1, .int (nI i))] := hl
  have hi20 : i < 20 := by have := hO.2.1; omega
  refine lv_aload_n hx hb dX3_flowOf_0 rfl (lv_at hl 0 rfl) ?_
  refine lv_iload_n hx hb dX3_flowOf_1 rfl (lv_at hl 1 rfl) ?_
  refine lv_iconst (v := 2) hx hb dX3_flowOf_2 (by decide) ?_
  refine cv_R1 (rest := []) hc (M_has l hW i 2 (by omega)) (lw_V q1110 q1112 qs33 q70 q1113) nd_X3_has ⟨Nat.le_of_ble_eq_true rfl, Nat.le_of_ble_eq_true rfl⟩ (MW.recv hK hW) rfl hl.1 rfl (Nat.le_of_ble_eq_true rfl) dX3_flowOf_3 ⟨Nat.le_of_ble_eq_true rfl, Nat.le_of_ble_eq_true rfl⟩ ?_
  refine lv_iconst (v := (-1)) hx hb dX3_flowOf_6 (by decide) ?_
  refine lv_icmp_ne (tgt := 21) hx hb dX3_flowOf_7 (by decide) (fun c_59 => ?_) (fun c_59 => ?_)
  · refine lv_aload_n hx hb dX3_flowOf_21 rfl (lv_at hl 0 rfl) ?_
    refine m_get hc hW 11 (by decide) rfl q1011 rfl rfl dX3_flowOf_22 ?_
    refine lv_aload_n hx hb dX3_flowOf_25 rfl (lv_at hl 0 rfl) ?_
    refine lv_iload_n hx hb dX3_flowOf_26 rfl (lv_at hl 1 rfl) ?_
    refine lv_iconst (v := 2) hx hb dX3_flowOf_27 (by decide) ?_
    refine cv_R1 (rest := [.ref (ad 11)]) hc (M_has l hW i 2 (by omega)) (lw_V q1110 q1112 qs33 q70 q1113) nd_X3_has ⟨Nat.le_of_ble_eq_true rfl, Nat.le_of_ble_eq_true rfl⟩ (MW.recv hK hW) rfl hl.1 rfl (Nat.le_of_ble_eq_true rfl) dX3_flowOf_28 ⟨Nat.le_of_ble_eq_true rfl, Nat.le_of_ble_eq_true rfl⟩ ?_
    refine m_ild hc hW 11 rfl (n := 6) rfl ((hO.gap hi).toIx hO.1 c_59) dX3_flowOf_31 ?_
    refine lv_istore_n (lv' := [(2, .int (f 11 ((f 0 (gp i 2)).toNatClampNeg))), (0, .ref (ad 23)), (1, .int (nI i))]) hx hb dX3_flowOf_32 rfl hl (by decide) rfl (fun ls hl => ?_)
    refine lv_aload_n hx hb dX3_flowOf_33 rfl (lv_at hl 1 rfl) ?_
    refine lv_iload_n hx hb dX3_flowOf_34 rfl (lv_at hl 2 rfl) ?_
    refine cv_R1 (rest := []) hc (M_breadth l hW i (by omega)) (lw_V q1114 q1116 qs34 q70 q1117) nd_X3_breadth ⟨Nat.le_of_ble_eq_true rfl, Nat.le_of_ble_eq_true rfl⟩ (MW.recv hK hW) rfl hl.1 rfl (Nat.le_of_ble_eq_true rfl) dX3_flowOf_35 ⟨Nat.le_of_ble_eq_true rfl, Nat.le_of_ble_eq_true rfl⟩ ?_
    refine lv_iload_n hx hb dX3_flowOf_38 rfl (lv_at hl 0 rfl) ?_
    refine lv_aload_n hx hb dX3_flowOf_39 rfl (lv_at hl 1 rfl) ?_
    refine m_get hc hW 11 (by decide) rfl q1011 rfl rfl dX3_flowOf_40 ?_
    refine lv_aload_n hx hb dX3_flowOf_43 rfl (lv_at hl 1 rfl) ?_
    refine lv_iload_n hx hb dX3_flowOf_44 rfl (lv_at hl 2 rfl) ?_
    refine lv_iconst (v := 1) hx hb dX3_flowOf_45 (by decide) ?_
    refine cv_R1 (rest := [.ref (ad 11), .int (f 11 ((f 0 (gp i 2)).toNatClampNeg)), .int (breadthP (f 0) i)]) hc (M_has l hW i 1 (by omega)) (lw_V q1110 q1112 qs33 q70 q1113) nd_X3_has ⟨Nat.le_of_ble_eq_true rfl, Nat.le_of_ble_eq_true rfl⟩ (MW.recv hK hW) rfl hl.1 rfl (Nat.le_of_ble_eq_true rfl) dX3_flowOf_46 ⟨Nat.le_of_ble_eq_true rfl, Nat.le_of_ble_eq_true rfl⟩ ?_
    refine m_ild hc hW 11 rfl (n := 6) rfl ((hO.gap hi).rmIx hO.1) dX3_flowOf_49 ?_
    refine lv_isub hx hb dX3_flowOf_50 ?_
    refine lv_imul hx hb dX3_flowOf_51 ?_
    refine lv_bipush (v := 80) hx hb dX3_flowOf_52 (by decide) ?_
    refine lv_idiv hx hb dX3_flowOf_54 (by decide) ?_
    exact ri_R hx hb hr hlk (by simp only [flowQ, thereP, if_neg c_59]) dX3_flowOf_55
  · refine lv_bipush (v := 8) hx hb dX3_flowOf_10 (by decide) ?_
    refine lv_aload_n hx hb dX3_flowOf_12 rfl (lv_at hl 0 rfl) ?_
    refine lv_iload_n hx hb dX3_flowOf_13 rfl (lv_at hl 1 rfl) ?_
    refine cv_R1 (rest := [.int 8]) hc (M_push l hW i (by omega)) (lw_V q1118 q1120 qs35 q70 q1121) nd_X3_push ⟨Nat.le_of_ble_eq_true rfl, Nat.le_of_ble_eq_true rfl⟩ (MW.recv hK hW) rfl hl.1 rfl (Nat.le_of_ble_eq_true rfl) dX3_flowOf_14 ⟨Nat.le_of_ble_eq_true rfl, Nat.le_of_ble_eq_true rfl⟩ ?_
    refine lv_imul hx hb dX3_flowOf_17 ?_
    refine lv_goto (tgt := 32) hx hb dX3_flowOf_18 (by decide) ?_
    refine lv_istore_n (lv' := [(2, .int (8 * (pushP (f 0) i))), (0, .ref (ad 23)), (1, .int (nI i))]) hx hb dX3_flowOf_32 rfl hl (by decide) rfl (fun ls hl => ?_)
    refine lv_aload_n hx hb dX3_flowOf_33 rfl (lv_at hl 1 rfl) ?_
    refine lv_iload_n hx hb dX3_flowOf_34 rfl (lv_at hl 2 rfl) ?_
    refine cv_R1 (rest := []) hc (M_breadth l hW i (by omega)) (lw_V q1114 q1116 qs34 q70 q1117) nd_X3_breadth ⟨Nat.le_of_ble_eq_true rfl, Nat.le_of_ble_eq_true rfl⟩ (MW.recv hK hW) rfl hl.1 rfl (Nat.le_of_ble_eq_true rfl) dX3_flowOf_35 ⟨Nat.le_of_ble_eq_true rfl, Nat.le_of_ble_eq_true rfl⟩ ?_
    refine lv_iload_n hx hb dX3_flowOf_38 rfl (lv_at hl 0 rfl) ?_
    refine lv_aload_n hx hb dX3_flowOf_39 rfl (lv_at hl 1 rfl) ?_
    refine m_get hc hW 11 (by decide) rfl q1011 rfl rfl dX3_flowOf_40 ?_
    refine lv_aload_n hx hb dX3_flowOf_43 rfl (lv_at hl 1 rfl) ?_
    refine lv_iload_n hx hb dX3_flowOf_44 rfl (lv_at hl 2 rfl) ?_
    refine lv_iconst (v := 1) hx hb dX3_flowOf_45 (by decide) ?_
    refine cv_R1 (rest := [.ref (ad 11), .int (8 * (pushP (f 0) i)), .int (breadthP (f 0) i)]) hc (M_has l hW i 1 (by omega)) (lw_V q1110 q1112 qs33 q70 q1113) nd_X3_has ⟨Nat.le_of_ble_eq_true rfl, Nat.le_of_ble_eq_true rfl⟩ (MW.recv hK hW) rfl hl.1 rfl (Nat.le_of_ble_eq_true rfl) dX3_flowOf_46 ⟨Nat.le_of_ble_eq_true rfl, Nat.le_of_ble_eq_true rfl⟩ ?_
    refine m_ild hc hW 11 rfl (n := 6) rfl ((hO.gap hi).rmIx hO.1) dX3_flowOf_49 ?_
    refine lv_isub hx hb dX3_flowOf_50 ?_
    refine lv_imul hx hb dX3_flowOf_51 ?_
    refine lv_bipush (v := 80) hx hb dX3_flowOf_52 (by decide) ?_
    refine lv_idiv hx hb dX3_flowOf_54 (by decide) ?_
    exact ri_R hx hb hr hlk (by simp only [flowQ, thereP, if_pos c_59]) dX3_flowOf_55
theorem nd_X3_size : yX3_size.cls ≠ "java/lang/invoke/MethodHandle" ∧ yX3_size.cls ≠ "java/lang/invoke/VarHandle" ∧ (parseMethodDescriptor yX3_size.desc).map (fun d => d.parameters.length) = some 1 := by decide +kernel
set_option maxHeartbeats 4000000 in
theorem M_size (l : Launch) {G : GD} {H0 : Heap} (v : Int32) : MetR l G yX3_size cX3_size 1 (some .int) 0 [.int v] H0 (some (.int (sizeP v))) := by
  refine mx_of (by decide) (Nat.le_of_ble_eq_true rfl) ?_
  intro p e s m below meth c hx hb hr hc hlk hnm hs0 ls hl
  subst hs0
  have hown := hc.2.2.2.1
  have hts := hc.2.2.2.2.1
  have hK := hc.2.2.2.2.2
  have hl : lv_has ls 1 [(0, .int v)] := hl
  refine lv_iload_n hx hb dX3_size_0 rfl (lv_at hl 0 rfl) ?_
  refine lv_if_ge (tgt := 10) hx hb dX3_size_1 (by decide) (fun c_60 => ?_) (fun c_60 => ?_)
  · refine lv_iload_n hx hb dX3_size_10 rfl (lv_at hl 0 rfl) ?_
    exact ri_R hx hb hr hlk (by simp only [sizeP, if_neg (Int32.not_lt.mpr c_60)]) dX3_size_11
  · refine lv_iconst (v := 0) hx hb dX3_size_4 (by decide) ?_
    refine lv_iload_n hx hb dX3_size_5 rfl (lv_at hl 0 rfl) ?_
    refine lv_isub hx hb dX3_size_6 ?_
    refine lv_goto (tgt := 11) hx hb dX3_size_7 (by decide) ?_
    exact ri_R hx hb hr hlk (by simp only [sizeP, if_pos (Int32.not_le.mp c_60)]) dX3_size_11
theorem nd_X3_leanOf : yX3_leanOf.cls = "SmokeLeansModel" ∧ yX3_leanOf.cls ≠ "java/lang/invoke/MethodHandle" ∧ yX3_leanOf.cls ≠ "java/lang/invoke/VarHandle" ∧ (parseMethodDescriptor yX3_leanOf.desc).map (fun d => d.parameters.length) = some 1 := by decide +kernel
set_option maxHeartbeats 4000000 in
theorem M_leanOf (l : Launch) {G : GD} {A : Nat → Prop} {f : Nat → Nat → Int32} {g : Nat → Nat → Int64} {ad : Nat → Nat} {H0 : Heap} (hW : MW G A f g ad H0) {R N : Nat} (hO : OkN (f 0) R N) (i : Nat) (hi : i < N)  : MetR l G yX3_leanOf cX3_leanOf 4 (some .int) 3 [.ref (ad 23), .int (nI i)] H0 (some (.int (leanV (flowQ (f 0) (f 11) i)))) := by
  refine mx_of (by decide) (Nat.le_of_ble_eq_true rfl) ?_
  intro p e s m below meth c hx hb hr hc hlk hnm hs0 ls hl
  subst hs0
  have hown := hc.2.2.2.1
  have hts := hc.2.2.2.2.1
  have hK := hc.2.2.2.2.2
  have hl : lv_has ls 4 [(0, .ref (ad 23)), (1, .int (nI i))] := hl
  refine lv_aload_n hx hb dX3_leanOf_0 rfl (lv_at hl 0 rfl) ?_
  refine lv_iload_n hx hb dX3_leanOf_1 rfl (lv_at hl 1 rfl) ?_
  refine cv_R1 (rest := []) hc (M_flowOf l hW (R := R) (N := N) hO i (by omega)) (lw_V q1249 q1251 qs54 q70 q1252) nd_X3_flowOf ⟨Nat.le_of_ble_eq_true rfl, Nat.le_of_ble_eq_true rfl⟩ (MW.recv hK hW) rfl hl.1 rfl (Nat.le_of_ble_eq_true rfl) dX3_leanOf_2 ⟨Nat.le_of_ble_eq_true rfl, Nat.le_of_ble_eq_true rfl⟩ ?_
  refine lv_istore_n (lv' := [(2, .int (flowQ (f 0) (f 11) i)), (0, .ref (ad 23)), (1, .int (nI i))]) hx hb dX3_leanOf_5 rfl hl (by decide) rfl (fun ls hl => ?_)
  refine lv_iload_n hx hb dX3_leanOf_6 rfl (lv_at hl 0 rfl) ?_
  refine cs_R1 (rest := []) hc (M_size l (flowQ (f 0) (f 11) i)) (lw_S q1261 q1262 q70 q1263) nd_X3_size ⟨Nat.le_of_ble_eq_true rfl, Nat.le_of_ble_eq_true rfl⟩ rfl hl.1 rfl (Nat.le_of_ble_eq_true rfl) dX3_leanOf_7 ⟨Nat.le_of_ble_eq_true rfl, Nat.le_of_ble_eq_true rfl⟩ ?_
  refine lv_iconst (v := 5) hx hb dX3_leanOf_10 (by decide) ?_
  refine lv_icmp_ge (tgt := 16) hx hb dX3_leanOf_11 (by decide) (fun c_61 => ?_) (fun c_61 => ?_)
  · refine lv_iload_n hx hb dX3_leanOf_16 rfl (lv_at hl 0 rfl) ?_
    refine cs_R1 (rest := []) hc (M_size l (flowQ (f 0) (f 11) i)) (lw_S q1261 q1262 q70 q1263) nd_X3_size ⟨Nat.le_of_ble_eq_true rfl, Nat.le_of_ble_eq_true rfl⟩ rfl hl.1 rfl (Nat.le_of_ble_eq_true rfl) dX3_leanOf_17 ⟨Nat.le_of_ble_eq_true rfl, Nat.le_of_ble_eq_true rfl⟩ ?_
    refine lv_bipush (v := 20) hx hb dX3_leanOf_20 (by decide) ?_
    refine lv_idiv hx hb dX3_leanOf_22 (by decide) ?_
    refine lv_iconst (v := 1) hx hb dX3_leanOf_23 (by decide) ?_
    refine lv_iadd hx hb dX3_leanOf_24 ?_
    refine lv_istore_n (lv' := [(3, .int (((sizeP (flowQ (f 0) (f 11) i)) / 20) + 1)), (2, .int (flowQ (f 0) (f 11) i)), (0, .ref (ad 23)), (1, .int (nI i))]) hx hb dX3_leanOf_25 rfl hl (by decide) rfl (fun ls hl => ?_)
    refine lv_iload_n hx hb dX3_leanOf_26 rfl (lv_at hl 0 rfl) ?_
    refine lv_bipush (v := 9) hx hb dX3_leanOf_27 (by decide) ?_
    refine lv_icmp_le (tgt := 37) hx hb dX3_leanOf_29 (by decide) (fun c_62 => ?_) (fun c_62 => ?_)
    · refine lv_iload_n hx hb dX3_leanOf_37 rfl (lv_at hl 0 rfl) ?_
      refine lv_istore_n (lv' := [(3, .int (((sizeP (flowQ (f 0) (f 11) i)) / 20) + 1)), (2, .int (flowQ (f 0) (f 11) i)), (0, .ref (ad 23)), (1, .int (nI i))]) hx hb dX3_leanOf_38 rfl hl (by decide) rfl (fun ls hl => ?_)
      refine lv_iload_n hx hb dX3_leanOf_39 rfl (lv_at hl 1 rfl) ?_
      refine lv_if_ge (tgt := 49) hx hb dX3_leanOf_40 (by decide) (fun c_63 => ?_) (fun c_63 => ?_)
      · refine lv_iload_n hx hb dX3_leanOf_49 rfl (lv_at hl 0 rfl) ?_
        exact ri_R hx hb hr hlk (by simp only [leanV, if_neg (Int32.not_lt.mpr c_61), if_neg (Int32.not_lt.mpr c_62), if_neg (Int32.not_lt.mpr c_63)]) dX3_leanOf_50
      · refine lv_iconst (v := 0) hx hb dX3_leanOf_43 (by decide) ?_
        refine lv_iload_n hx hb dX3_leanOf_44 rfl (lv_at hl 0 rfl) ?_
        refine lv_isub hx hb dX3_leanOf_45 ?_
        refine lv_goto (tgt := 50) hx hb dX3_leanOf_46 (by decide) ?_
        exact ri_R hx hb hr hlk (by simp only [leanV, if_neg (Int32.not_lt.mpr c_61), if_neg (Int32.not_lt.mpr c_62), if_pos (Int32.not_le.mp c_63)]) dX3_leanOf_50
    · refine lv_bipush (v := 9) hx hb dX3_leanOf_32 (by decide) ?_
      refine lv_goto (tgt := 38) hx hb dX3_leanOf_34 (by decide) ?_
      refine lv_istore_n (lv' := [(3, .int 9), (2, .int (flowQ (f 0) (f 11) i)), (0, .ref (ad 23)), (1, .int (nI i))]) hx hb dX3_leanOf_38 rfl hl (by decide) rfl (fun ls hl => ?_)
      refine lv_iload_n hx hb dX3_leanOf_39 rfl (lv_at hl 1 rfl) ?_
      refine lv_if_ge (tgt := 49) hx hb dX3_leanOf_40 (by decide) (fun c_64 => ?_) (fun c_64 => ?_)
      · refine lv_iload_n hx hb dX3_leanOf_49 rfl (lv_at hl 0 rfl) ?_
        exact ri_R hx hb hr hlk (by simp only [leanV, if_neg (Int32.not_lt.mpr c_61), if_pos (Int32.not_le.mp c_62), if_neg (Int32.not_lt.mpr c_64)]) dX3_leanOf_50
      · refine lv_iconst (v := 0) hx hb dX3_leanOf_43 (by decide) ?_
        refine lv_iload_n hx hb dX3_leanOf_44 rfl (lv_at hl 0 rfl) ?_
        refine lv_isub hx hb dX3_leanOf_45 ?_
        refine lv_goto (tgt := 50) hx hb dX3_leanOf_46 (by decide) ?_
        exact ri_R hx hb hr hlk (by simp only [leanV, if_neg (Int32.not_lt.mpr c_61), if_pos (Int32.not_le.mp c_62), if_pos (Int32.not_le.mp c_64)]) dX3_leanOf_50
  · refine lv_iconst (v := 0) hx hb dX3_leanOf_14 (by decide) ?_
    exact ri_R hx hb hr hlk (by simp only [leanV, if_pos (Int32.not_le.mp c_61)]) dX3_leanOf_15
theorem nd_X3_fresh : yX3_fresh.cls = "SmokeLeansModel" ∧ yX3_fresh.cls ≠ "java/lang/invoke/MethodHandle" ∧ yX3_fresh.cls ≠ "java/lang/invoke/VarHandle" ∧ (parseMethodDescriptor yX3_fresh.desc).map (fun d => d.parameters.length) = some 0 := by decide +kernel
set_option maxHeartbeats 4000000 in
theorem M_fresh (l : Launch) {G : GD} {A : Nat → Prop} {f : Nat → Nat → Int32} {g : Nat → Nat → Int64} {ad : Nat → Nat} {H0 : Heap} (hW : MW G A f g ad H0) {R N : Nat} (hO : OkN (f 0) R N)  : MetR l G yX3_fresh cX3_fresh 4 (some .int) 3 [.ref (ad 23)] H0 (some (.int (freshN (f 0) (f 11) N))) := by
  refine mx_of (by decide) (Nat.le_of_ble_eq_true rfl) ?_
  intro p e s m below meth c hx hb hr hc hlk hnm hs0 ls hl
  subst hs0
  have hown := hc.2.2.2.1
  have hts := hc.2.2.2.2.1
  have hK := hc.2.2.2.2.2
  have hl : lv_has ls 4 [(0, .ref (ad 23))] := hl
  refine lv_iconst (v := 0) hx hb dX3_fresh_0 (by decide) ?_
  refine lv_istore_n (lv' := [(1, .int 0), (0, .ref (ad 23))]) hx hb dX3_fresh_1 rfl hl (by decide) rfl (fun ls hl => ?_)
  refine lv_iconst (v := 0) hx hb dX3_fresh_2 (by decide) ?_
  refine lv_istore_n (lv' := [(2, .int 0), (1, .int 0), (0, .ref (ad 23))]) hx hb dX3_fresh_3 rfl hl (by decide) rfl (fun ls hl => ?_)
  refine w_loop (σ := Nat) (fun i fr => ∃ ls, fr = F0 m 4 ls [] ∧ lv_has ls 4 [(2, .int (nI i)), (1, .int (freshN (f 0) (f 11) i)), (0, .ref (ad 23))] ∧ (i ≤ N)) (fun i => N - i) 0 ⟨ls, rfl, lv_sub hl [0, 1, 2] rfl, Nat.zero_le _⟩ ?_
  intro i fr hI ih
  obtain ⟨ls, rfl, hl, hinv⟩ := hI
  by_cases hi : i < N
  · have hi20 : i < 20 := by have := hO.2.1; omega
    refine lv_iload_n hx hb dX3_fresh_4 rfl (lv_at hl 0 rfl) ?_
    refine lv_aload_n hx hb dX3_fresh_5 rfl (lv_at hl 2 rfl) ?_
    refine m_get hc hW 0 (by decide) rfl q1000 rfl rfl dX3_fresh_6 ?_
    refine lv_iconst (v := 1) hx hb dX3_fresh_9 (by decide) ?_
    refine m_ild hc hW 0 rfl (n := 169) rfl (ix_eq (k := 1) rfl (by decide) (by decide)) dX3_fresh_10 ?_
    refine sm_topi (v := nI N) (hO.2.2.2.1) ?_
    refine lv_icmp_ge (tgt := 52) hx hb dX3_fresh_11 (by decide) (fun h => absurd h (nI_ge hi (by have := hO.2.1; omega))) (fun _ => ?_)
    refine lv_aload_n hx hb dX3_fresh_14 rfl (lv_at hl 2 rfl) ?_
    refine lv_iload_n hx hb dX3_fresh_15 rfl (lv_at hl 0 rfl) ?_
    refine lv_iconst (v := 2) hx hb dX3_fresh_16 (by decide) ?_
    refine cv_R1 (rest := []) hc (M_has l hW i 2 (by omega)) (lw_V q1110 q1112 qs33 q70 q1113) nd_X3_has ⟨Nat.le_of_ble_eq_true rfl, Nat.le_of_ble_eq_true rfl⟩ (MW.recv hK hW) rfl hl.1 rfl (Nat.le_of_ble_eq_true rfl) dX3_fresh_17 ⟨Nat.le_of_ble_eq_true rfl, Nat.le_of_ble_eq_true rfl⟩ ?_
    refine lv_iconst (v := (-1)) hx hb dX3_fresh_20 (by decide) ?_
    refine lv_icmp_ne (tgt := 32) hx hb dX3_fresh_21 (by decide) (fun c_65 => ?_) (fun c_65 => ?_)
    · refine lv_iconst (v := 0) hx hb dX3_fresh_32 (by decide) ?_
      refine lv_istore_n (lv' := [(3, .int 0), (2, .int (nI i)), (1, .int (freshN (f 0) (f 11) i)), (0, .ref (ad 23))]) hx hb dX3_fresh_33 rfl hl (by decide) rfl (fun ls hl => ?_)
      refine lv_iload_n hx hb dX3_fresh_34 rfl (lv_at hl 2 rfl) ?_
      refine lv_iload_n hx hb dX3_fresh_35 rfl (lv_at hl 0 rfl) ?_
      refine lv_if_le (tgt := 43) hx hb dX3_fresh_36 (by decide) (fun _ => ?_) (fun h => absurd (by decide) h)
      refine lv_iconst (v := 0) hx hb dX3_fresh_43 (by decide) ?_
      refine lv_iadd hx hb dX3_fresh_44 ?_
      refine lv_istore_n (lv' := [(1, .int ((freshN (f 0) (f 11) i) + 0)), (3, .int 0), (2, .int (nI i)), (0, .ref (ad 23))]) hx hb dX3_fresh_45 rfl hl (by decide) rfl (fun ls hl => ?_)
      refine lv_iinc (v := nI (i + 1)) (lv' := [(2, .int (nI (i + 1))), (1, .int ((freshN (f 0) (f 11) i) + 0)), (3, .int 0), (0, .ref (ad 23))]) hx hb dX3_fresh_46 hl (k := 2) rfl (nI_1 _) (by decide) rfl (fun ls hl => ?_)
      refine lv_goto (tgt := 4) hx hb dX3_fresh_49 (by decide) ?_
      refine ih (i + 1) _ ⟨ls, rfl, ?_, hi⟩ (by omega)
      rw [show freshN (f 0) (f 11) (i + 1) = (freshN (f 0) (f 11) i) + 0 from by simp only [freshN, if_neg c_65]; rfl]
      exact lv_sub hl [0, 1, 3] rfl
    · refine lv_aload_n hx hb dX3_fresh_24 rfl (lv_at hl 2 rfl) ?_
      refine lv_iload_n hx hb dX3_fresh_25 rfl (lv_at hl 0 rfl) ?_
      refine cv_R1 (rest := []) hc (M_flowOf l hW (R := R) (N := N) hO i (by omega)) (lw_V q1249 q1251 qs54 q70 q1252) nd_X3_flowOf ⟨Nat.le_of_ble_eq_true rfl, Nat.le_of_ble_eq_true rfl⟩ (MW.recv hK hW) rfl hl.1 rfl (Nat.le_of_ble_eq_true rfl) dX3_fresh_26 ⟨Nat.le_of_ble_eq_true rfl, Nat.le_of_ble_eq_true rfl⟩ ?_
      refine lv_goto (tgt := 33) hx hb dX3_fresh_29 (by decide) ?_
      refine lv_istore_n (lv' := [(3, .int (flowQ (f 0) (f 11) i)), (2, .int (nI i)), (1, .int (freshN (f 0) (f 11) i)), (0, .ref (ad 23))]) hx hb dX3_fresh_33 rfl hl (by decide) rfl (fun ls hl => ?_)
      refine lv_iload_n hx hb dX3_fresh_34 rfl (lv_at hl 2 rfl) ?_
      refine lv_iload_n hx hb dX3_fresh_35 rfl (lv_at hl 0 rfl) ?_
      refine lv_if_le (tgt := 43) hx hb dX3_fresh_36 (by decide) (fun c_66 => ?_) (fun c_66 => ?_)
      · refine lv_iconst (v := 0) hx hb dX3_fresh_43 (by decide) ?_
        refine lv_iadd hx hb dX3_fresh_44 ?_
        refine lv_istore_n (lv' := [(1, .int ((freshN (f 0) (f 11) i) + 0)), (3, .int (flowQ (f 0) (f 11) i)), (2, .int (nI i)), (0, .ref (ad 23))]) hx hb dX3_fresh_45 rfl hl (by decide) rfl (fun ls hl => ?_)
        refine lv_iinc (v := nI (i + 1)) (lv' := [(2, .int (nI (i + 1))), (1, .int ((freshN (f 0) (f 11) i) + 0)), (3, .int (flowQ (f 0) (f 11) i)), (0, .ref (ad 23))]) hx hb dX3_fresh_46 hl (k := 2) rfl (nI_1 _) (by decide) rfl (fun ls hl => ?_)
        refine lv_goto (tgt := 4) hx hb dX3_fresh_49 (by decide) ?_
        refine ih (i + 1) _ ⟨ls, rfl, ?_, hi⟩ (by omega)
        rw [show freshN (f 0) (f 11) (i + 1) = (freshN (f 0) (f 11) i) + 0 from by simp only [freshN, if_pos c_65, if_neg (Int32.not_lt.mpr c_66)]]
        exact lv_sub hl [0, 1, 3] rfl
      · refine lv_iload_n hx hb dX3_fresh_39 rfl (lv_at hl 0 rfl) ?_
        refine lv_goto (tgt := 44) hx hb dX3_fresh_40 (by decide) ?_
        refine lv_iadd hx hb dX3_fresh_44 ?_
        refine lv_istore_n (lv' := [(1, .int ((freshN (f 0) (f 11) i) + (flowQ (f 0) (f 11) i))), (3, .int (flowQ (f 0) (f 11) i)), (2, .int (nI i)), (0, .ref (ad 23))]) hx hb dX3_fresh_45 rfl hl (by decide) rfl (fun ls hl => ?_)
        refine lv_iinc (v := nI (i + 1)) (lv' := [(2, .int (nI (i + 1))), (1, .int ((freshN (f 0) (f 11) i) + (flowQ (f 0) (f 11) i))), (3, .int (flowQ (f 0) (f 11) i)), (0, .ref (ad 23))]) hx hb dX3_fresh_46 hl (k := 2) rfl (nI_1 _) (by decide) rfl (fun ls hl => ?_)
        refine lv_goto (tgt := 4) hx hb dX3_fresh_49 (by decide) ?_
        refine ih (i + 1) _ ⟨ls, rfl, ?_, hi⟩ (by omega)
        rw [show freshN (f 0) (f 11) (i + 1) = (freshN (f 0) (f 11) i) + (flowQ (f 0) (f 11) i) from by simp only [freshN, if_pos c_65, if_pos (Int32.not_le.mp c_66)]]
        exact lv_sub hl [0, 1, 3] rfl
  · have hiN : i = N := by omega
    subst hiN
    refine lv_iload_n hx hb dX3_fresh_4 rfl (lv_at hl 0 rfl) ?_
    refine lv_aload_n hx hb dX3_fresh_5 rfl (lv_at hl 2 rfl) ?_
    refine m_get hc hW 0 (by decide) rfl q1000 rfl rfl dX3_fresh_6 ?_
    refine lv_iconst (v := 1) hx hb dX3_fresh_9 (by decide) ?_
    refine m_ild hc hW 0 rfl (n := 169) rfl (ix_eq (k := 1) rfl (by decide) (by decide)) dX3_fresh_10 ?_
    refine sm_topi (v := nI i) (hO.2.2.2.1) ?_
    refine lv_icmp_ge (tgt := 52) hx hb dX3_fresh_11 (by decide) (fun _ => ?_) (fun h => absurd (nI_le (by omega) (by have := hO.2.1; omega)) h)
    refine lv_iload_n hx hb dX3_fresh_52 rfl (lv_at hl 1 rfl) ?_
    exact ri_R hx hb hr hlk (rfl) dX3_fresh_53
theorem nd_X3_lost : yX3_lost.cls = "SmokeLeansModel" ∧ yX3_lost.cls ≠ "java/lang/invoke/MethodHandle" ∧ yX3_lost.cls ≠ "java/lang/invoke/VarHandle" ∧ (parseMethodDescriptor yX3_lost.desc).map (fun d => d.parameters.length) = some 0 := by decide +kernel
set_option maxHeartbeats 4000000 in
theorem M_lost (l : Launch) {G : GD} {A : Nat → Prop} {f : Nat → Nat → Int32} {g : Nat → Nat → Int64} {ad : Nat → Nat} {H0 : Heap} (hW : MW G A f g ad H0) {R N : Nat} (hO : OkN (f 0) R N)  : MetR l G yX3_lost cX3_lost 1 (some .int) 4 [.ref (ad 23)] H0 (some (.int (freshN (f 0) (f 11) N * f 0 2))) := by
  refine mx_of (by decide) (Nat.le_of_ble_eq_true rfl) ?_
  intro p e s m below meth c hx hb hr hc hlk hnm hs0 ls hl
  subst hs0
  have hown := hc.2.2.2.1
  have hts := hc.2.2.2.2.1
  have hK := hc.2.2.2.2.2
  have hl : lv_has ls 1 [(0, .ref (ad 23))] := hl
  refine lv_aload_n hx hb dX3_lost_0 rfl (lv_at hl 0 rfl) ?_
  refine cv_R1 (rest := []) hc (M_fresh l hW (R := R) (N := N) hO) (lw_V q1277 q1279 qs56 q70 q1280) nd_X3_fresh ⟨Nat.le_of_ble_eq_true rfl, Nat.le_of_ble_eq_true rfl⟩ (MW.recv hK hW) rfl hl.1 rfl (Nat.le_of_ble_eq_true rfl) dX3_lost_1 ⟨Nat.le_of_ble_eq_true rfl, Nat.le_of_ble_eq_true rfl⟩ ?_
  refine lv_aload_n hx hb dX3_lost_4 rfl (lv_at hl 0 rfl) ?_
  refine m_get hc hW 0 (by decide) rfl q1000 rfl rfl dX3_lost_5 ?_
  refine lv_iconst (v := 2) hx hb dX3_lost_8 (by decide) ?_
  refine m_ild hc hW 0 rfl (n := 169) rfl (ix_eq (k := 2) rfl (by decide) (by decide)) dX3_lost_9 ?_
  refine lv_imul hx hb dX3_lost_10 ?_
  exact ri_R hx hb hr hlk (rfl) dX3_lost_11
theorem nd_X3_smokes : yX3_smokes.cls = "SmokeLeansModel" ∧ yX3_smokes.cls ≠ "java/lang/invoke/MethodHandle" ∧ yX3_smokes.cls ≠ "java/lang/invoke/VarHandle" ∧ (parseMethodDescriptor yX3_smokes.desc).map (fun d => d.parameters.length) = some 0 := by decide +kernel
set_option maxHeartbeats 4000000 in
theorem M_smokes (l : Launch) {G : GD} {A : Nat → Prop} {f : Nat → Nat → Int32} {g : Nat → Nat → Int64} {ad : Nat → Nat} {H0 : Heap} (hW : MW G A f g ad H0) {R N : Nat} (hO : OkN (f 0) R N)  : MetR l G yX3_smokes cX3_smokes 3 (some .boolean) 3 [.ref (ad 23)] H0 (some (.int (b2i (smkN (f 0) (f 11) N = true)))) := by
  refine mx_of (by decide) (Nat.le_of_ble_eq_true rfl) ?_
  intro p e s m below meth c hx hb hr hc hlk hnm hs0 ls hl
  subst hs0
  have hown := hc.2.2.2.1
  have hts := hc.2.2.2.2.1
  have hK := hc.2.2.2.2.2
  have hl : lv_has ls 3 [(0, .ref (ad 23))] := hl
  refine lv_iconst (v := 0) hx hb dX3_smokes_0 (by decide) ?_
  refine lv_istore_n (lv' := [(1, .int 0), (0, .ref (ad 23))]) hx hb dX3_smokes_1 rfl hl (by decide) rfl (fun ls hl => ?_)
  refine lv_iconst (v := 0) hx hb dX3_smokes_2 (by decide) ?_
  refine lv_istore_n (lv' := [(2, .int 0), (1, .int 0), (0, .ref (ad 23))]) hx hb dX3_smokes_3 rfl hl (by decide) rfl (fun ls hl => ?_)
  refine w_loop (σ := Nat) (fun i fr => ∃ ls, fr = F0 m 4 ls [] ∧ lv_has ls 3 [(2, .int (nI i)), (1, .int (b2i (smkN (f 0) (f 11) i = true))), (0, .ref (ad 23))] ∧ (i ≤ N)) (fun i => N - i) 0 ⟨ls, rfl, lv_sub hl [0, 1, 2] rfl, Nat.zero_le _⟩ ?_
  intro i fr hI ih
  obtain ⟨ls, rfl, hl, hinv⟩ := hI
  by_cases hi : i < N
  · have hi20 : i < 20 := by have := hO.2.1; omega
    refine lv_iload_n hx hb dX3_smokes_4 rfl (lv_at hl 0 rfl) ?_
    refine lv_aload_n hx hb dX3_smokes_5 rfl (lv_at hl 2 rfl) ?_
    refine m_get hc hW 0 (by decide) rfl q1000 rfl rfl dX3_smokes_6 ?_
    refine lv_iconst (v := 1) hx hb dX3_smokes_9 (by decide) ?_
    refine m_ild hc hW 0 rfl (n := 169) rfl (ix_eq (k := 1) rfl (by decide) (by decide)) dX3_smokes_10 ?_
    refine sm_topi (v := nI N) (hO.2.2.2.1) ?_
    refine lv_icmp_ge (tgt := 66) hx hb dX3_smokes_11 (by decide) (fun h => absurd h (nI_ge hi (by have := hO.2.1; omega))) (fun _ => ?_)
    refine lv_iload_n hx hb dX3_smokes_14 rfl (lv_at hl 1 rfl) ?_
    refine bi_ne (tgt := 54) hx hb dX3_smokes_15 (by decide) (fun c_67 => ?_) (fun c_67 => ?_)
    · refine lv_iconst (v := 1) hx hb dX3_smokes_54 (by decide) ?_
      refine lv_goto (tgt := 59) hx hb dX3_smokes_55 (by decide) ?_
      refine lv_istore_n (lv' := [(1, .int 1), (2, .int (nI i)), (0, .ref (ad 23))]) hx hb dX3_smokes_59 rfl hl (by decide) rfl (fun ls hl => ?_)
      refine lv_iinc (v := nI (i + 1)) (lv' := [(2, .int (nI (i + 1))), (1, .int 1), (0, .ref (ad 23))]) hx hb dX3_smokes_60 hl (k := 1) rfl (nI_1 _) (by decide) rfl (fun ls hl => ?_)
      refine lv_goto (tgt := 4) hx hb dX3_smokes_63 (by decide) ?_
      refine ih (i + 1) _ ⟨ls, rfl, ?_, hi⟩ (by omega)
      rw [show b2i (smkN (f 0) (f 11) (i + 1) = true) = 1 from b2i_t (by rw [smkN, c_67]; rfl)]
      exact lv_sub hl [0, 1, 2] rfl
    · refine lv_aload_n hx hb dX3_smokes_18 rfl (lv_at hl 2 rfl) ?_
      refine lv_iload_n hx hb dX3_smokes_19 rfl (lv_at hl 0 rfl) ?_
      refine cv_R1 (rest := []) hc (M_isNeeded l hW i (by omega)) (lw_V q1135 q1137 qs36 q70 q1138) nd_X3_isNeeded ⟨Nat.le_of_ble_eq_true rfl, Nat.le_of_ble_eq_true rfl⟩ (MW.recv hK hW) rfl hl.1 rfl (Nat.le_of_ble_eq_true rfl) dX3_smokes_20 ⟨Nat.le_of_ble_eq_true rfl, Nat.le_of_ble_eq_true rfl⟩ ?_
      refine bi_eq (tgt := 58) hx hb dX3_smokes_23 (by decide) (fun c_68 => ?_) (fun c_68 => ?_)
      · refine lv_iconst (v := 0) hx hb dX3_smokes_58 (by decide) ?_
        refine lv_istore_n (lv' := [(1, .int 0), (2, .int (nI i)), (0, .ref (ad 23))]) hx hb dX3_smokes_59 rfl hl (by decide) rfl (fun ls hl => ?_)
        refine lv_iinc (v := nI (i + 1)) (lv' := [(2, .int (nI (i + 1))), (1, .int 0), (0, .ref (ad 23))]) hx hb dX3_smokes_60 hl (k := 1) rfl (nI_1 _) (by decide) rfl (fun ls hl => ?_)
        refine lv_goto (tgt := 4) hx hb dX3_smokes_63 (by decide) ?_
        refine ih (i + 1) _ ⟨ls, rfl, ?_, hi⟩ (by omega)
        rw [show b2i (smkN (f 0) (f 11) (i + 1) = true) = 0 from b2i_f (by rw [smkN, decide_eq_false (show ¬ smkG (f 0) (f 11) i from fun h => c_68 h.1), Bool.or_false]; exact c_67)]
        exact lv_sub hl [0, 1, 2] rfl
      · refine lv_aload_n hx hb dX3_smokes_26 rfl (lv_at hl 2 rfl) ?_
        refine lv_iload_n hx hb dX3_smokes_27 rfl (lv_at hl 0 rfl) ?_
        refine lv_iconst (v := 2) hx hb dX3_smokes_28 (by decide) ?_
        refine cv_R1 (rest := []) hc (M_has l hW i 2 (by omega)) (lw_V q1110 q1112 qs33 q70 q1113) nd_X3_has ⟨Nat.le_of_ble_eq_true rfl, Nat.le_of_ble_eq_true rfl⟩ (MW.recv hK hW) rfl hl.1 rfl (Nat.le_of_ble_eq_true rfl) dX3_smokes_29 ⟨Nat.le_of_ble_eq_true rfl, Nat.le_of_ble_eq_true rfl⟩ ?_
        refine lv_iconst (v := (-1)) hx hb dX3_smokes_32 (by decide) ?_
        refine lv_icmp_ne (tgt := 58) hx hb dX3_smokes_33 (by decide) (fun c_69 => ?_) (fun c_69 => ?_)
        · refine lv_iconst (v := 0) hx hb dX3_smokes_58 (by decide) ?_
          refine lv_istore_n (lv' := [(1, .int 0), (2, .int (nI i)), (0, .ref (ad 23))]) hx hb dX3_smokes_59 rfl hl (by decide) rfl (fun ls hl => ?_)
          refine lv_iinc (v := nI (i + 1)) (lv' := [(2, .int (nI (i + 1))), (1, .int 0), (0, .ref (ad 23))]) hx hb dX3_smokes_60 hl (k := 1) rfl (nI_1 _) (by decide) rfl (fun ls hl => ?_)
          refine lv_goto (tgt := 4) hx hb dX3_smokes_63 (by decide) ?_
          refine ih (i + 1) _ ⟨ls, rfl, ?_, hi⟩ (by omega)
          rw [show b2i (smkN (f 0) (f 11) (i + 1) = true) = 0 from b2i_f (by rw [smkN, decide_eq_false (show ¬ smkG (f 0) (f 11) i from fun h => c_69 h.2.1), Bool.or_false]; exact c_67)]
          exact lv_sub hl [0, 1, 2] rfl
        · refine lv_aload_n hx hb dX3_smokes_36 rfl (lv_at hl 2 rfl) ?_
          refine lv_iload_n hx hb dX3_smokes_37 rfl (lv_at hl 0 rfl) ?_
          refine lv_bipush (v := 7) hx hb dX3_smokes_38 (by decide) ?_
          refine cv_R1 (rest := []) hc (M_has l hW i 7 (by omega)) (lw_V q1110 q1112 qs33 q70 q1113) nd_X3_has ⟨Nat.le_of_ble_eq_true rfl, Nat.le_of_ble_eq_true rfl⟩ (MW.recv hK hW) rfl hl.1 rfl (Nat.le_of_ble_eq_true rfl) dX3_smokes_40 ⟨Nat.le_of_ble_eq_true rfl, Nat.le_of_ble_eq_true rfl⟩ ?_
          refine lv_if_ne (tgt := 58) hx hb dX3_smokes_43 (by decide) (fun c_70 => ?_) (fun c_70 => ?_)
          · refine lv_iconst (v := 0) hx hb dX3_smokes_58 (by decide) ?_
            refine lv_istore_n (lv' := [(1, .int 0), (2, .int (nI i)), (0, .ref (ad 23))]) hx hb dX3_smokes_59 rfl hl (by decide) rfl (fun ls hl => ?_)
            refine lv_iinc (v := nI (i + 1)) (lv' := [(2, .int (nI (i + 1))), (1, .int 0), (0, .ref (ad 23))]) hx hb dX3_smokes_60 hl (k := 1) rfl (nI_1 _) (by decide) rfl (fun ls hl => ?_)
            refine lv_goto (tgt := 4) hx hb dX3_smokes_63 (by decide) ?_
            refine ih (i + 1) _ ⟨ls, rfl, ?_, hi⟩ (by omega)
            rw [show b2i (smkN (f 0) (f 11) (i + 1) = true) = 0 from b2i_f (by rw [smkN, decide_eq_false (show ¬ smkG (f 0) (f 11) i from fun h => c_70 h.2.2.1), Bool.or_false]; exact c_67)]
            exact lv_sub hl [0, 1, 2] rfl
          · refine lv_aload_n hx hb dX3_smokes_46 rfl (lv_at hl 2 rfl) ?_
            refine lv_iload_n hx hb dX3_smokes_47 rfl (lv_at hl 0 rfl) ?_
            refine cv_R1 (rest := []) hc (M_flowOf l hW (R := R) (N := N) hO i (by omega)) (lw_V q1249 q1251 qs54 q70 q1252) nd_X3_flowOf ⟨Nat.le_of_ble_eq_true rfl, Nat.le_of_ble_eq_true rfl⟩ (MW.recv hK hW) rfl hl.1 rfl (Nat.le_of_ble_eq_true rfl) dX3_smokes_48 ⟨Nat.le_of_ble_eq_true rfl, Nat.le_of_ble_eq_true rfl⟩ ?_
            refine lv_if_lt (tgt := 58) hx hb dX3_smokes_51 (by decide) (fun c_71 => ?_) (fun c_71 => ?_)
            · refine lv_iconst (v := 0) hx hb dX3_smokes_58 (by decide) ?_
              refine lv_istore_n (lv' := [(1, .int 0), (2, .int (nI i)), (0, .ref (ad 23))]) hx hb dX3_smokes_59 rfl hl (by decide) rfl (fun ls hl => ?_)
              refine lv_iinc (v := nI (i + 1)) (lv' := [(2, .int (nI (i + 1))), (1, .int 0), (0, .ref (ad 23))]) hx hb dX3_smokes_60 hl (k := 1) rfl (nI_1 _) (by decide) rfl (fun ls hl => ?_)
              refine lv_goto (tgt := 4) hx hb dX3_smokes_63 (by decide) ?_
              refine ih (i + 1) _ ⟨ls, rfl, ?_, hi⟩ (by omega)
              rw [show b2i (smkN (f 0) (f 11) (i + 1) = true) = 0 from b2i_f (by rw [smkN, decide_eq_false (show ¬ smkG (f 0) (f 11) i from fun h => absurd h.2.2.2 (Int32.not_le.mpr c_71)), Bool.or_false]; exact c_67)]
              exact lv_sub hl [0, 1, 2] rfl
            · refine lv_iconst (v := 1) hx hb dX3_smokes_54 (by decide) ?_
              refine lv_goto (tgt := 59) hx hb dX3_smokes_55 (by decide) ?_
              refine lv_istore_n (lv' := [(1, .int 1), (2, .int (nI i)), (0, .ref (ad 23))]) hx hb dX3_smokes_59 rfl hl (by decide) rfl (fun ls hl => ?_)
              refine lv_iinc (v := nI (i + 1)) (lv' := [(2, .int (nI (i + 1))), (1, .int 1), (0, .ref (ad 23))]) hx hb dX3_smokes_60 hl (k := 1) rfl (nI_1 _) (by decide) rfl (fun ls hl => ?_)
              refine lv_goto (tgt := 4) hx hb dX3_smokes_63 (by decide) ?_
              refine ih (i + 1) _ ⟨ls, rfl, ?_, hi⟩ (by omega)
              rw [show b2i (smkN (f 0) (f 11) (i + 1) = true) = 1 from b2i_t (by rw [smkN, decide_eq_true (show smkG (f 0) (f 11) i from ⟨c_68, c_69, c_70, Int32.not_lt.mp c_71⟩), Bool.or_true])]
              exact lv_sub hl [0, 1, 2] rfl
  · have hiN : i = N := by omega
    subst hiN
    refine lv_iload_n hx hb dX3_smokes_4 rfl (lv_at hl 0 rfl) ?_
    refine lv_aload_n hx hb dX3_smokes_5 rfl (lv_at hl 2 rfl) ?_
    refine m_get hc hW 0 (by decide) rfl q1000 rfl rfl dX3_smokes_6 ?_
    refine lv_iconst (v := 1) hx hb dX3_smokes_9 (by decide) ?_
    refine m_ild hc hW 0 rfl (n := 169) rfl (ix_eq (k := 1) rfl (by decide) (by decide)) dX3_smokes_10 ?_
    refine sm_topi (v := nI i) (hO.2.2.2.1) ?_
    refine lv_icmp_ge (tgt := 66) hx hb dX3_smokes_11 (by decide) (fun _ => ?_) (fun h => absurd (nI_le (by omega) (by have := hO.2.1; omega)) h)
    refine lv_iload_n hx hb dX3_smokes_66 rfl (lv_at hl 1 rfl) ?_
    exact rz_R hx hb hr hlk (rfl) dX3_smokes_67
