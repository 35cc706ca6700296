/-! the reference's methods, 15: words and numbers -/
set_option maxRecDepth 100000
theorem wdB_i3 {t : Nat → Int32} {T : Nat} {p : PS} {c0 c1 c2 : Int32} : wdB t T p [c0, c1, c2] = true ↔ (¬ p.2.2.2.1 = true ∧ p.2.1 - p.1 = 3 ∧ bA t T (p.1 + 0) = c0 ∧ bA t T (p.1 + 1) = c1 ∧ bA t T (p.1 + 2) = c2) := by
  unfold wdB
  simp only [Bool.and_eq_true, Bool.not_eq_true', decide_eq_true_iff, List.all_eq_true, List.mem_range, List.length]
  constructor
  · rintro ⟨h1, h2, h3⟩
    exact ⟨by rw [h1]; decide, h2, h3 0 (by decide), h3 1 (by decide), h3 2 (by decide)⟩
  · rintro ⟨h1, h2, q0, q1, q2⟩
    refine ⟨by simpa using h1, h2, ?_⟩
    intro i hi
    match i, hi with
    | 0, _ => exact q0
    | 1, _ => exact q1
    | 2, _ => exact q2
    | i + 3, hi => omega
theorem wdB_i4 {t : Nat → Int32} {T : Nat} {p : PS} {c0 c1 c2 c3 : Int32} : wdB t T p [c0, c1, c2, c3] = true ↔ (¬ p.2.2.2.1 = true ∧ p.2.1 - p.1 = 4 ∧ bA t T (p.1 + 0) = c0 ∧ bA t T (p.1 + 1) = c1 ∧ bA t T (p.1 + 2) = c2 ∧ bA t T (p.1 + 3) = c3) := by
  unfold wdB
  simp only [Bool.and_eq_true, Bool.not_eq_true', decide_eq_true_iff, List.all_eq_true, List.mem_range, List.length]
  constructor
  · rintro ⟨h1, h2, h3⟩
    exact ⟨by rw [h1]; decide, h2, h3 0 (by decide), h3 1 (by decide), h3 2 (by decide), h3 3 (by decide)⟩
  · rintro ⟨h1, h2, q0, q1, q2, q3⟩
    refine ⟨by simpa using h1, h2, ?_⟩
    intro i hi
    match i, hi with
    | 0, _ => exact q0
    | 1, _ => exact q1
    | 2, _ => exact q2
    | 3, _ => exact q3
    | i + 4, hi => omega
theorem wdB_i5 {t : Nat → Int32} {T : Nat} {p : PS} {c0 c1 c2 c3 c4 : Int32} : wdB t T p [c0, c1, c2, c3, c4] = true ↔ (¬ p.2.2.2.1 = true ∧ p.2.1 - p.1 = 5 ∧ bA t T (p.1 + 0) = c0 ∧ bA t T (p.1 + 1) = c1 ∧ bA t T (p.1 + 2) = c2 ∧ bA t T (p.1 + 3) = c3 ∧ bA t T (p.1 + 4) = c4) := by
  unfold wdB
  simp only [Bool.and_eq_true, Bool.not_eq_true', decide_eq_true_iff, List.all_eq_true, List.mem_range, List.length]
  constructor
  · rintro ⟨h1, h2, h3⟩
    exact ⟨by rw [h1]; decide, h2, h3 0 (by decide), h3 1 (by decide), h3 2 (by decide), h3 3 (by decide), h3 4 (by decide)⟩
  · rintro ⟨h1, h2, q0, q1, q2, q3, q4⟩
    refine ⟨by simpa using h1, h2, ?_⟩
    intro i hi
    match i, hi with
    | 0, _ => exact q0
    | 1, _ => exact q1
    | 2, _ => exact q2
    | 3, _ => exact q3
    | 4, _ => exact q4
    | i + 5, hi => omega
theorem wdB_i6 {t : Nat → Int32} {T : Nat} {p : PS} {c0 c1 c2 c3 c4 c5 : Int32} : wdB t T p [c0, c1, c2, c3, c4, c5] = true ↔ (¬ p.2.2.2.1 = true ∧ p.2.1 - p.1 = 6 ∧ bA t T (p.1 + 0) = c0 ∧ bA t T (p.1 + 1) = c1 ∧ bA t T (p.1 + 2) = c2 ∧ bA t T (p.1 + 3) = c3 ∧ bA t T (p.1 + 4) = c4 ∧ bA t T (p.1 + 5) = c5) := by
  unfold wdB
  simp only [Bool.and_eq_true, Bool.not_eq_true', decide_eq_true_iff, List.all_eq_true, List.mem_range, List.length]
  constructor
  · rintro ⟨h1, h2, h3⟩
    exact ⟨by rw [h1]; decide, h2, h3 0 (by decide), h3 1 (by decide), h3 2 (by decide), h3 3 (by decide), h3 4 (by decide), h3 5 (by decide)⟩
  · rintro ⟨h1, h2, q0, q1, q2, q3, q4, q5⟩
    refine ⟨by simpa using h1, h2, ?_⟩
    intro i hi
    match i, hi with
    | 0, _ => exact q0
    | 1, _ => exact q1
    | 2, _ => exact q2
    | 3, _ => exact q3
    | 4, _ => exact q4
    | 5, _ => exact q5
    | i + 6, hi => omega
theorem wdB_i7 {t : Nat → Int32} {T : Nat} {p : PS} {c0 c1 c2 c3 c4 c5 c6 : Int32} : wdB t T p [c0, c1, c2, c3, c4, c5, c6] = true ↔ (¬ p.2.2.2.1 = true ∧ p.2.1 - p.1 = 7 ∧ bA t T (p.1 + 0) = c0 ∧ bA t T (p.1 + 1) = c1 ∧ bA t T (p.1 + 2) = c2 ∧ bA t T (p.1 + 3) = c3 ∧ bA t T (p.1 + 4) = c4 ∧ bA t T (p.1 + 5) = c5 ∧ bA t T (p.1 + 6) = c6) := by
  unfold wdB
  simp only [Bool.and_eq_true, Bool.not_eq_true', decide_eq_true_iff, List.all_eq_true, List.mem_range, List.length]
  constructor
  · rintro ⟨h1, h2, h3⟩
    exact ⟨by rw [h1]; decide, h2, h3 0 (by decide), h3 1 (by decide), h3 2 (by decide), h3 3 (by decide), h3 4 (by decide), h3 5 (by decide), h3 6 (by decide)⟩
  · rintro ⟨h1, h2, q0, q1, q2, q3, q4, q5, q6⟩
    refine ⟨by simpa using h1, h2, ?_⟩
    intro i hi
    match i, hi with
    | 0, _ => exact q0
    | 1, _ => exact q1
    | 2, _ => exact q2
    | 3, _ => exact q3
    | 4, _ => exact q4
    | 5, _ => exact q5
    | 6, _ => exact q6
    | i + 7, hi => omega
theorem nd_X3_isAt : yX3_isAt.cls = "SmokeLeansModel" ∧ yX3_isAt.cls ≠ "java/lang/invoke/MethodHandle" ∧ yX3_isAt.cls ≠ "java/lang/invoke/VarHandle" ∧ (parseMethodDescriptor yX3_isAt.desc).map (fun d => d.parameters.length) = some 2 := by decide +kernel
set_option maxHeartbeats 4000000 in
theorem M_isAt (l : Launch) {G : GD} {A : Nat → Prop} {f : Nat → Nat → Int32} {g : Nat → Nat → Int64} {ad : Nat → Nat} {H0 : Heap} {pp : PS} (hW : MW G A (psT f pp) g ad H0) {T : Nat} (hT : f 6 0 = nI T) (hT1 : T ≤ 120) (hB : PB T pp) (k : Nat) (hk : k < 10) (x : Int32) : MetR l G yX3_isAt cX3_isAt 3 (some .boolean) 1 [.ref (ad 23), .int (nI k), .int x] H0 (some (.int (b2i (x = 0 ∨ bA (f 5) T (pp.1 + k) = x)))) := by
  refine mx_of (by decide) (Nat.le_of_ble_eq_true rfl) ?_
  intro p e s m below meth c hx hb hr hc hlk hnm hs0 ls hl
  subst hs0
  have hown := hc.2.2.2.1
  have hts := hc.2.2.2.2.1
  have hK := hc.2.2.2.2.2
  have hl : lv_has ls 3 [(0, .ref (ad 23)), (1, .int (nI k)), (2, .int x)] := hl
  have hb1 := hB.1
  have hb2 := hB.2
  refine lv_iload_n hx hb dX3_isAt_0 rfl (lv_at hl 2 rfl) ?_
  refine lv_if_eq (tgt := 18) hx hb dX3_isAt_1 (by decide) (fun c_237 => ?_) (fun c_237 => ?_)
  · refine lv_iconst (v := 1) hx hb dX3_isAt_18 (by decide) ?_
    refine lv_goto (tgt := 23) hx hb dX3_isAt_19 (by decide) ?_
    exact rz_R hx hb hr hlk ((b2i_t (Or.inl c_237)).symm) dX3_isAt_23
  · refine lv_aload_n hx hb dX3_isAt_4 rfl (lv_at hl 0 rfl) ?_
    refine lv_aload_n hx hb dX3_isAt_5 rfl (lv_at hl 0 rfl) ?_
    refine m_get hc hW 7 (by decide) rfl q1007 rfl rfl dX3_isAt_6 ?_
    refine sm_topi (v := nI pp.1) rfl ?_
    refine lv_iload_n hx hb dX3_isAt_9 rfl (lv_at hl 1 rfl) ?_
    refine lv_iadd hx hb dX3_isAt_10 (sm_topi (v := nI (pp.1 + k)) (nI_add _ _) ?_)
    refine cv_R1 (rest := []) hc (M_byteAt l hW (T := T) hT hT1 (pp.1 + k) (by omega)) (lw_V q1171 q1173 qs39 q70 q1174) nd_X3_byteAt ⟨Nat.le_of_ble_eq_true rfl, Nat.le_of_ble_eq_true rfl⟩ (MW.recv hK hW) rfl hl.1 rfl (Nat.le_of_ble_eq_true rfl) dX3_isAt_11 ⟨Nat.le_of_ble_eq_true rfl, Nat.le_of_ble_eq_true rfl⟩ ?_
    refine sm_topi (v := bA (f 5) T (pp.1 + k)) rfl ?_
    refine lv_iload_n hx hb dX3_isAt_14 rfl (lv_at hl 2 rfl) ?_
    refine lv_icmp_ne (tgt := 22) hx hb dX3_isAt_15 (by decide) (fun c_238 => ?_) (fun c_238 => ?_)
    · refine lv_iconst (v := 0) hx hb dX3_isAt_22 (by decide) ?_
      exact rz_R hx hb hr hlk ((b2i_f (not_or.mpr ⟨c_237, c_238⟩)).symm) dX3_isAt_23
    · refine lv_iconst (v := 1) hx hb dX3_isAt_18 (by decide) ?_
      refine lv_goto (tgt := 23) hx hb dX3_isAt_19 (by decide) ?_
      exact rz_R hx hb hr hlk ((b2i_t (Or.inr c_238)).symm) dX3_isAt_23
theorem nd_X3_isWord : yX3_isWord.cls = "SmokeLeansModel" ∧ yX3_isWord.cls ≠ "java/lang/invoke/MethodHandle" ∧ yX3_isWord.cls ≠ "java/lang/invoke/VarHandle" ∧ (parseMethodDescriptor yX3_isWord.desc).map (fun d => d.parameters.length) = some 7 := by decide +kernel
set_option maxHeartbeats 4000000 in
theorem M_w_gap (l : Launch) {G : GD} {A : Nat → Prop} {f : Nat → Nat → Int32} {g : Nat → Nat → Int64} {ad : Nat → Nat} {H0 : Heap} {pp : PS} (hW : MW G A (psT f pp) g ad H0) {T : Nat} (hT : f 6 0 = nI T) (hT1 : T ≤ 120) (hB : PB T pp)  : MetR l G yX3_isWord cX3_isWord 9 (some .boolean) 2 [.ref (ad 23), .int 103, .int 97, .int 112, .int 0, .int 0, .int 0, .int 0] H0 (some (.int (b2i (wdB (f 5) T pp [103, 97, 112] = true)))) := by
  refine mx_of (by decide) (Nat.le_of_ble_eq_true rfl) ?_
  intro p e s m below meth c hx hb hr hc hlk hnm hs0 ls hl
  subst hs0
  have hown := hc.2.2.2.1
  have hts := hc.2.2.2.2.1
  have hK := hc.2.2.2.2.2
  have hl : lv_has ls 9 [(0, .ref (ad 23)), (1, .int 103), (2, .int 97), (3, .int 112), (4, .int 0), (5, .int 0), (6, .int 0), (7, .int 0)] := hl
  have hb1 := hB.1
  have hb2 := hB.2
  refine lv_iload hx hb dX3_isWord_0 (lv_at hl 4 rfl) ?_
  refine lv_if_ne (tgt := 9) hx hb dX3_isWord_2 (by decide) (fun h => absurd (by decide) h) (fun _ => ?_)
  refine lv_iconst (v := 3) hx hb dX3_isWord_5 (by decide) ?_
  refine lv_goto (tgt := 39) hx hb dX3_isWord_6 (by decide) ?_
  refine lv_istore (lv' := [(8, .int 3), (0, .ref (ad 23)), (1, .int 103), (2, .int 97), (3, .int 112), (4, .int 0), (5, .int 0), (6, .int 0), (7, .int 0)]) hx hb dX3_isWord_39 hl (by decide) rfl (fun ls hl => ?_)
  refine lv_aload_n hx hb dX3_isWord_41 rfl (lv_at hl 1 rfl) ?_
  refine m_get hc hW 10 (by decide) rfl q1010 rfl rfl dX3_isWord_42 ?_
  refine sm_topi (v := b2i (pp.2.2.2.1 = true)) rfl ?_
  refine bi_ne (tgt := 134) hx hb dX3_isWord_45 (by decide) (fun c_239 => ?_) (fun c_239 => ?_)
  · refine lv_iconst (v := 0) hx hb dX3_isWord_134 (by decide) ?_
    exact rz_R hx hb hr hlk ((b2i_f (fun h => absurd c_239 (wdB_i3.mp h).1)).symm) dX3_isWord_135
  · refine lv_aload_n hx hb dX3_isWord_48 rfl (lv_at hl 1 rfl) ?_
    refine m_get hc hW 8 (by decide) rfl q1008 rfl rfl dX3_isWord_49 ?_
    refine sm_topi (v := nI pp.2.1) rfl ?_
    refine lv_aload_n hx hb dX3_isWord_52 rfl (lv_at hl 1 rfl) ?_
    refine m_get hc hW 7 (by decide) rfl q1007 rfl rfl dX3_isWord_53 ?_
    refine sm_topi (v := nI pp.1) rfl ?_
    refine lv_isub hx hb dX3_isWord_56 ?_
    refine sm_topi (v := nI (pp.2.1 - pp.1)) (pk_sub hb1) ?_
    refine lv_iload hx hb dX3_isWord_57 (lv_at hl 0 rfl) ?_
    refine lv_icmp_ne (tgt := 134) hx hb dX3_isWord_59 (by decide) (fun c_240 => ?_) (fun c_240 => ?_)
    · refine lv_iconst (v := 0) hx hb dX3_isWord_134 (by decide) ?_
      exact rz_R hx hb hr hlk ((b2i_f (fun h => c_240 (by rw [(wdB_i3.mp h).2.1]; rfl))).symm) dX3_isWord_135
    · refine lv_aload_n hx hb dX3_isWord_62 rfl (lv_at hl 1 rfl) ?_
      refine lv_iconst (v := 0) hx hb dX3_isWord_63 (by decide) ?_
      refine lv_iload_n hx hb dX3_isWord_64 rfl (lv_at hl 2 rfl) ?_
      refine cv_R1 (rest := []) hc (M_isAt l hW (T := T) hT hT1 hB 0 (by decide) 103) (lw_V q1197 q1199 qs43 q70 q1200) nd_X3_isAt ⟨Nat.le_of_ble_eq_true rfl, Nat.le_of_ble_eq_true rfl⟩ (MW.recv hK hW) rfl hl.1 rfl (Nat.le_of_ble_eq_true rfl) dX3_isWord_65 ⟨Nat.le_of_ble_eq_true rfl, Nat.le_of_ble_eq_true rfl⟩ ?_
      refine sm_topi (v := b2i (bA (f 5) T (pp.1 + 0) = 103)) (b2i_congr (or_iff_right (by decide))) ?_
      refine bi_eq (tgt := 134) hx hb dX3_isWord_68 (by decide) (fun c_241 => ?_) (fun c_241 => ?_)
      · refine lv_iconst (v := 0) hx hb dX3_isWord_134 (by decide) ?_
        exact rz_R hx hb hr hlk ((b2i_f (fun h => c_241 (wdB_i3.mp h).2.2.1)).symm) dX3_isWord_135
      · refine lv_aload_n hx hb dX3_isWord_71 rfl (lv_at hl 1 rfl) ?_
        refine lv_iconst (v := 1) hx hb dX3_isWord_72 (by decide) ?_
        refine lv_iload_n hx hb dX3_isWord_73 rfl (lv_at hl 3 rfl) ?_
        refine cv_R1 (rest := []) hc (M_isAt l hW (T := T) hT hT1 hB 1 (by decide) 97) (lw_V q1197 q1199 qs43 q70 q1200) nd_X3_isAt ⟨Nat.le_of_ble_eq_true rfl, Nat.le_of_ble_eq_true rfl⟩ (MW.recv hK hW) rfl hl.1 rfl (Nat.le_of_ble_eq_true rfl) dX3_isWord_74 ⟨Nat.le_of_ble_eq_true rfl, Nat.le_of_ble_eq_true rfl⟩ ?_
        refine sm_topi (v := b2i (bA (f 5) T (pp.1 + 1) = 97)) (b2i_congr (or_iff_right (by decide))) ?_
        refine bi_eq (tgt := 134) hx hb dX3_isWord_77 (by decide) (fun c_242 => ?_) (fun c_242 => ?_)
        · refine lv_iconst (v := 0) hx hb dX3_isWord_134 (by decide) ?_
          exact rz_R hx hb hr hlk ((b2i_f (fun h => c_242 (wdB_i3.mp h).2.2.2.1)).symm) dX3_isWord_135
        · refine lv_aload_n hx hb dX3_isWord_80 rfl (lv_at hl 1 rfl) ?_
          refine lv_iconst (v := 2) hx hb dX3_isWord_81 (by decide) ?_
          refine lv_iload_n hx hb dX3_isWord_82 rfl (lv_at hl 4 rfl) ?_
          refine cv_R1 (rest := []) hc (M_isAt l hW (T := T) hT hT1 hB 2 (by decide) 112) (lw_V q1197 q1199 qs43 q70 q1200) nd_X3_isAt ⟨Nat.le_of_ble_eq_true rfl, Nat.le_of_ble_eq_true rfl⟩ (MW.recv hK hW) rfl hl.1 rfl (Nat.le_of_ble_eq_true rfl) dX3_isWord_83 ⟨Nat.le_of_ble_eq_true rfl, Nat.le_of_ble_eq_true rfl⟩ ?_
          refine sm_topi (v := b2i (bA (f 5) T (pp.1 + 2) = 112)) (b2i_congr (or_iff_right (by decide))) ?_
          refine bi_eq (tgt := 134) hx hb dX3_isWord_86 (by decide) (fun c_243 => ?_) (fun c_243 => ?_)
          · refine lv_iconst (v := 0) hx hb dX3_isWord_134 (by decide) ?_
            exact rz_R hx hb hr hlk ((b2i_f (fun h => c_243 (wdB_i3.mp h).2.2.2.2)).symm) dX3_isWord_135
          · refine lv_aload_n hx hb dX3_isWord_89 rfl (lv_at hl 1 rfl) ?_
            refine lv_iconst (v := 3) hx hb dX3_isWord_90 (by decide) ?_
            refine lv_iload hx hb dX3_isWord_91 (lv_at hl 5 rfl) ?_
            refine cv_R1 (rest := []) hc (M_isAt l hW (T := T) hT hT1 hB 3 (by decide) 0) (lw_V q1197 q1199 qs43 q70 q1200) nd_X3_isAt ⟨Nat.le_of_ble_eq_true rfl, Nat.le_of_ble_eq_true rfl⟩ (MW.recv hK hW) rfl hl.1 rfl (Nat.le_of_ble_eq_true rfl) dX3_isWord_93 ⟨Nat.le_of_ble_eq_true rfl, Nat.le_of_ble_eq_true rfl⟩ ?_
            refine sm_topi (v := 1) (b2i_t (Or.inl rfl)) ?_
            refine lv_if_eq (tgt := 134) hx hb dX3_isWord_96 (by decide) (fun h => absurd h (by decide)) (fun _ => ?_)
            refine lv_aload_n hx hb dX3_isWord_99 rfl (lv_at hl 1 rfl) ?_
            refine lv_iconst (v := 4) hx hb dX3_isWord_100 (by decide) ?_
            refine lv_iload hx hb dX3_isWord_101 (lv_at hl 6 rfl) ?_
            refine cv_R1 (rest := []) hc (M_isAt l hW (T := T) hT hT1 hB 4 (by decide) 0) (lw_V q1197 q1199 qs43 q70 q1200) nd_X3_isAt ⟨Nat.le_of_ble_eq_true rfl, Nat.le_of_ble_eq_true rfl⟩ (MW.recv hK hW) rfl hl.1 rfl (Nat.le_of_ble_eq_true rfl) dX3_isWord_103 ⟨Nat.le_of_ble_eq_true rfl, Nat.le_of_ble_eq_true rfl⟩ ?_
            refine sm_topi (v := 1) (b2i_t (Or.inl rfl)) ?_
            refine lv_if_eq (tgt := 134) hx hb dX3_isWord_106 (by decide) (fun h => absurd h (by decide)) (fun _ => ?_)
            refine lv_aload_n hx hb dX3_isWord_109 rfl (lv_at hl 1 rfl) ?_
            refine lv_iconst (v := 5) hx hb dX3_isWord_110 (by decide) ?_
            refine lv_iload hx hb dX3_isWord_111 (lv_at hl 7 rfl) ?_
            refine cv_R1 (rest := []) hc (M_isAt l hW (T := T) hT hT1 hB 5 (by decide) 0) (lw_V q1197 q1199 qs43 q70 q1200) nd_X3_isAt ⟨Nat.le_of_ble_eq_true rfl, Nat.le_of_ble_eq_true rfl⟩ (MW.recv hK hW) rfl hl.1 rfl (Nat.le_of_ble_eq_true rfl) dX3_isWord_113 ⟨Nat.le_of_ble_eq_true rfl, Nat.le_of_ble_eq_true rfl⟩ ?_
            refine sm_topi (v := 1) (b2i_t (Or.inl rfl)) ?_
            refine lv_if_eq (tgt := 134) hx hb dX3_isWord_116 (by decide) (fun h => absurd h (by decide)) (fun _ => ?_)
            refine lv_aload_n hx hb dX3_isWord_119 rfl (lv_at hl 1 rfl) ?_
            refine lv_bipush (v := 6) hx hb dX3_isWord_120 (by decide) ?_
            refine lv_iload hx hb dX3_isWord_122 (lv_at hl 8 rfl) ?_
            refine cv_R1 (rest := []) hc (M_isAt l hW (T := T) hT hT1 hB 6 (by decide) 0) (lw_V q1197 q1199 qs43 q70 q1200) nd_X3_isAt ⟨Nat.le_of_ble_eq_true rfl, Nat.le_of_ble_eq_true rfl⟩ (MW.recv hK hW) rfl hl.1 rfl (Nat.le_of_ble_eq_true rfl) dX3_isWord_124 ⟨Nat.le_of_ble_eq_true rfl, Nat.le_of_ble_eq_true rfl⟩ ?_
            refine sm_topi (v := 1) (b2i_t (Or.inl rfl)) ?_
            refine lv_if_eq (tgt := 134) hx hb dX3_isWord_127 (by decide) (fun h => absurd h (by decide)) (fun _ => ?_)
            refine lv_iconst (v := 1) hx hb dX3_isWord_130 (by decide) ?_
            refine lv_goto (tgt := 135) hx hb dX3_isWord_131 (by decide) ?_
            exact rz_R hx hb hr hlk ((b2i_t (wdB_i3.mpr ⟨c_239, (nI_eq (by omega) (by decide)).mp (show nI (pp.2.1 - pp.1) = nI 3 from c_240), c_241, c_242, c_243⟩)).symm) dX3_isWord_135
set_option maxHeartbeats 4000000 in
theorem M_w_hidden (l : Launch) {G : GD} {A : Nat → Prop} {f : Nat → Nat → Int32} {g : Nat → Nat → Int64} {ad : Nat → Nat} {H0 : Heap} {pp : PS} (hW : MW G A (psT f pp) g ad H0) {T : Nat} (hT : f 6 0 = nI T) (hT1 : T ≤ 120) (hB : PB T pp)  : MetR l G yX3_isWord cX3_isWord 9 (some .boolean) 2 [.ref (ad 23), .int 104, .int 105, .int 100, .int 100, .int 101, .int 110, .int 0] H0 (some (.int (b2i (wdB (f 5) T pp [104, 105, 100, 100, 101, 110] = true)))) := by
  refine mx_of (by decide) (Nat.le_of_ble_eq_true rfl) ?_
  intro p e s m below meth c hx hb hr hc hlk hnm hs0 ls hl
  subst hs0
  have hown := hc.2.2.2.1
  have hts := hc.2.2.2.2.1
  have hK := hc.2.2.2.2.2
  have hl : lv_has ls 9 [(0, .ref (ad 23)), (1, .int 104), (2, .int 105), (3, .int 100), (4, .int 100), (5, .int 101), (6, .int 110), (7, .int 0)] := hl
  have hb1 := hB.1
  have hb2 := hB.2
  refine lv_iload hx hb dX3_isWord_0 (lv_at hl 4 rfl) ?_
  refine lv_if_ne (tgt := 9) hx hb dX3_isWord_2 (by decide) (fun _ => ?_) (fun h => absurd h (by decide))
  refine lv_iload hx hb dX3_isWord_9 (lv_at hl 5 rfl) ?_
  refine lv_if_ne (tgt := 18) hx hb dX3_isWord_11 (by decide) (fun _ => ?_) (fun h => absurd h (by decide))
  refine lv_iload hx hb dX3_isWord_18 (lv_at hl 6 rfl) ?_
  refine lv_if_ne (tgt := 27) hx hb dX3_isWord_20 (by decide) (fun _ => ?_) (fun h => absurd h (by decide))
  refine lv_iload hx hb dX3_isWord_27 (lv_at hl 7 rfl) ?_
  refine lv_if_ne (tgt := 37) hx hb dX3_isWord_29 (by decide) (fun h => absurd (by decide) h) (fun _ => ?_)
  refine lv_bipush (v := 6) hx hb dX3_isWord_32 (by decide) ?_
  refine lv_goto (tgt := 39) hx hb dX3_isWord_34 (by decide) ?_
  refine lv_istore (lv' := [(8, .int 6), (0, .ref (ad 23)), (1, .int 104), (2, .int 105), (3, .int 100), (4, .int 100), (5, .int 101), (6, .int 110), (7, .int 0)]) hx hb dX3_isWord_39 hl (by decide) rfl (fun ls hl => ?_)
  refine lv_aload_n hx hb dX3_isWord_41 rfl (lv_at hl 1 rfl) ?_
  refine m_get hc hW 10 (by decide) rfl q1010 rfl rfl dX3_isWord_42 ?_
  refine sm_topi (v := b2i (pp.2.2.2.1 = true)) rfl ?_
  refine bi_ne (tgt := 134) hx hb dX3_isWord_45 (by decide) (fun c_244 => ?_) (fun c_244 => ?_)
  · refine lv_iconst (v := 0) hx hb dX3_isWord_134 (by decide) ?_
    exact rz_R hx hb hr hlk ((b2i_f (fun h => absurd c_244 (wdB_i6.mp h).1)).symm) dX3_isWord_135
  · refine lv_aload_n hx hb dX3_isWord_48 rfl (lv_at hl 1 rfl) ?_
    refine m_get hc hW 8 (by decide) rfl q1008 rfl rfl dX3_isWord_49 ?_
    refine sm_topi (v := nI pp.2.1) rfl ?_
    refine lv_aload_n hx hb dX3_isWord_52 rfl (lv_at hl 1 rfl) ?_
    refine m_get hc hW 7 (by decide) rfl q1007 rfl rfl dX3_isWord_53 ?_
    refine sm_topi (v := nI pp.1) rfl ?_
    refine lv_isub hx hb dX3_isWord_56 ?_
    refine sm_topi (v := nI (pp.2.1 - pp.1)) (pk_sub hb1) ?_
    refine lv_iload hx hb dX3_isWord_57 (lv_at hl 0 rfl) ?_
    refine lv_icmp_ne (tgt := 134) hx hb dX3_isWord_59 (by decide) (fun c_245 => ?_) (fun c_245 => ?_)
    · refine lv_iconst (v := 0) hx hb dX3_isWord_134 (by decide) ?_
      exact rz_R hx hb hr hlk ((b2i_f (fun h => c_245 (by rw [(wdB_i6.mp h).2.1]; rfl))).symm) dX3_isWord_135
    · refine lv_aload_n hx hb dX3_isWord_62 rfl (lv_at hl 1 rfl) ?_
      refine lv_iconst (v := 0) hx hb dX3_isWord_63 (by decide) ?_
      refine lv_iload_n hx hb dX3_isWord_64 rfl (lv_at hl 2 rfl) ?_
      refine cv_R1 (rest := []) hc (M_isAt l hW (T := T) hT hT1 hB 0 (by decide) 104) (lw_V q1197 q1199 qs43 q70 q1200) nd_X3_isAt ⟨Nat.le_of_ble_eq_true rfl, Nat.le_of_ble_eq_true rfl⟩ (MW.recv hK hW) rfl hl.1 rfl (Nat.le_of_ble_eq_true rfl) dX3_isWord_65 ⟨Nat.le_of_ble_eq_true rfl, Nat.le_of_ble_eq_true rfl⟩ ?_
      refine sm_topi (v := b2i (bA (f 5) T (pp.1 + 0) = 104)) (b2i_congr (or_iff_right (by decide))) ?_
      refine bi_eq (tgt := 134) hx hb dX3_isWord_68 (by decide) (fun c_246 => ?_) (fun c_246 => ?_)
      · refine lv_iconst (v := 0) hx hb dX3_isWord_134 (by decide) ?_
        exact rz_R hx hb hr hlk ((b2i_f (fun h => c_246 (wdB_i6.mp h).2.2.1)).symm) dX3_isWord_135
      · refine lv_aload_n hx hb dX3_isWord_71 rfl (lv_at hl 1 rfl) ?_
        refine lv_iconst (v := 1) hx hb dX3_isWord_72 (by decide) ?_
        refine lv_iload_n hx hb dX3_isWord_73 rfl (lv_at hl 3 rfl) ?_
        refine cv_R1 (rest := []) hc (M_isAt l hW (T := T) hT hT1 hB 1 (by decide) 105) (lw_V q1197 q1199 qs43 q70 q1200) nd_X3_isAt ⟨Nat.le_of_ble_eq_true rfl, Nat.le_of_ble_eq_true rfl⟩ (MW.recv hK hW) rfl hl.1 rfl (Nat.le_of_ble_eq_true rfl) dX3_isWord_74 ⟨Nat.le_of_ble_eq_true rfl, Nat.le_of_ble_eq_true rfl⟩ ?_
        refine sm_topi (v := b2i (bA (f 5) T (pp.1 + 1) = 105)) (b2i_congr (or_iff_right (by decide))) ?_
        refine bi_eq (tgt := 134) hx hb dX3_isWord_77 (by decide) (fun c_247 => ?_) (fun c_247 => ?_)
        · refine lv_iconst (v := 0) hx hb dX3_isWord_134 (by decide) ?_
          exact rz_R hx hb hr hlk ((b2i_f (fun h => c_247 (wdB_i6.mp h).2.2.2.1)).symm) dX3_isWord_135
        · refine lv_aload_n hx hb dX3_isWord_80 rfl (lv_at hl 1 rfl) ?_
          refine lv_iconst (v := 2) hx hb dX3_isWord_81 (by decide) ?_
          refine lv_iload_n hx hb dX3_isWord_82 rfl (lv_at hl 4 rfl) ?_
          refine cv_R1 (rest := []) hc (M_isAt l hW (T := T) hT hT1 hB 2 (by decide) 100) (lw_V q1197 q1199 qs43 q70 q1200) nd_X3_isAt ⟨Nat.le_of_ble_eq_true rfl, Nat.le_of_ble_eq_true rfl⟩ (MW.recv hK hW) rfl hl.1 rfl (Nat.le_of_ble_eq_true rfl) dX3_isWord_83 ⟨Nat.le_of_ble_eq_true rfl, Nat.le_of_ble_eq_true rfl⟩ ?_
          refine sm_topi (v := b2i (bA (f 5) T (pp.1 + 2) = 100)) (b2i_congr (or_iff_right (by decide))) ?_
          refine bi_eq (tgt := 134) hx hb dX3_isWord_86 (by decide) (fun c_248 => ?_) (fun c_248 => ?_)
          · refine lv_iconst (v := 0) hx hb dX3_isWord_134 (by decide) ?_
            exact rz_R hx hb hr hlk ((b2i_f (fun h => c_248 (wdB_i6.mp h).2.2.2.2.1)).symm) dX3_isWord_135
          · refine lv_aload_n hx hb dX3_isWord_89 rfl (lv_at hl 1 rfl) ?_
            refine lv_iconst (v := 3) hx hb dX3_isWord_90 (by decide) ?_
            refine lv_iload hx hb dX3_isWord_91 (lv_at hl 5 rfl) ?_
            refine cv_R1 (rest := []) hc (M_isAt l hW (T := T) hT hT1 hB 3 (by decide) 100) (lw_V q1197 q1199 qs43 q70 q1200) nd_X3_isAt ⟨Nat.le_of_ble_eq_true rfl, Nat.le_of_ble_eq_true rfl⟩ (MW.recv hK hW) rfl hl.1 rfl (Nat.le_of_ble_eq_true rfl) dX3_isWord_93 ⟨Nat.le_of_ble_eq_true rfl, Nat.le_of_ble_eq_true rfl⟩ ?_
            refine sm_topi (v := b2i (bA (f 5) T (pp.1 + 3) = 100)) (b2i_congr (or_iff_right (by decide))) ?_
            refine bi_eq (tgt := 134) hx hb dX3_isWord_96 (by decide) (fun c_249 => ?_) (fun c_249 => ?_)
            · refine lv_iconst (v := 0) hx hb dX3_isWord_134 (by decide) ?_
              exact rz_R hx hb hr hlk ((b2i_f (fun h => c_249 (wdB_i6.mp h).2.2.2.2.2.1)).symm) dX3_isWord_135
            · refine lv_aload_n hx hb dX3_isWord_99 rfl (lv_at hl 1 rfl) ?_
              refine lv_iconst (v := 4) hx hb dX3_isWord_100 (by decide) ?_
              refine lv_iload hx hb dX3_isWord_101 (lv_at hl 6 rfl) ?_
              refine cv_R1 (rest := []) hc (M_isAt l hW (T := T) hT hT1 hB 4 (by decide) 101) (lw_V q1197 q1199 qs43 q70 q1200) nd_X3_isAt ⟨Nat.le_of_ble_eq_true rfl, Nat.le_of_ble_eq_true rfl⟩ (MW.recv hK hW) rfl hl.1 rfl (Nat.le_of_ble_eq_true rfl) dX3_isWord_103 ⟨Nat.le_of_ble_eq_true rfl, Nat.le_of_ble_eq_true rfl⟩ ?_
              refine sm_topi (v := b2i (bA (f 5) T (pp.1 + 4) = 101)) (b2i_congr (or_iff_right (by decide))) ?_
              refine bi_eq (tgt := 134) hx hb dX3_isWord_106 (by decide) (fun c_250 => ?_) (fun c_250 => ?_)
              · refine lv_iconst (v := 0) hx hb dX3_isWord_134 (by decide) ?_
                exact rz_R hx hb hr hlk ((b2i_f (fun h => c_250 (wdB_i6.mp h).2.2.2.2.2.2.1)).symm) dX3_isWord_135
              · refine lv_aload_n hx hb dX3_isWord_109 rfl (lv_at hl 1 rfl) ?_
                refine lv_iconst (v := 5) hx hb dX3_isWord_110 (by decide) ?_
                refine lv_iload hx hb dX3_isWord_111 (lv_at hl 7 rfl) ?_
                refine cv_R1 (rest := []) hc (M_isAt l hW (T := T) hT hT1 hB 5 (by decide) 110) (lw_V q1197 q1199 qs43 q70 q1200) nd_X3_isAt ⟨Nat.le_of_ble_eq_true rfl, Nat.le_of_ble_eq_true rfl⟩ (MW.recv hK hW) rfl hl.1 rfl (Nat.le_of_ble_eq_true rfl) dX3_isWord_113 ⟨Nat.le_of_ble_eq_true rfl, Nat.le_of_ble_eq_true rfl⟩ ?_
                refine sm_topi (v := b2i (bA (f 5) T (pp.1 + 5) = 110)) (b2i_congr (or_iff_right (by decide))) ?_
                refine bi_eq (tgt := 134) hx hb dX3_isWord_116 (by decide) (fun c_251 => ?_) (fun c_251 => ?_)
                · refine lv_iconst (v := 0) hx hb dX3_isWord_134 (by decide) ?_
                  exact rz_R hx hb hr hlk ((b2i_f (fun h => c_251 (wdB_i6.mp h).2.2.2.2.2.2.2)).symm) dX3_isWord_135
                · refine lv_aload_n hx hb dX3_isWord_119 rfl (lv_at hl 1 rfl) ?_
                  refine lv_bipush (v := 6) hx hb dX3_isWord_120 (by decide) ?_
                  refine lv_iload hx hb dX3_isWord_122 (lv_at hl 8 rfl) ?_
                  refine cv_R1 (rest := []) hc (M_isAt l hW (T := T) hT hT1 hB 6 (by decide) 0) (lw_V q1197 q1199 qs43 q70 q1200) nd_X3_isAt ⟨Nat.le_of_ble_eq_true rfl, Nat.le_of_ble_eq_true rfl⟩ (MW.recv hK hW) rfl hl.1 rfl (Nat.le_of_ble_eq_true rfl) dX3_isWord_124 ⟨Nat.le_of_ble_eq_true rfl, Nat.le_of_ble_eq_true rfl⟩ ?_
                  refine sm_topi (v := 1) (b2i_t (Or.inl rfl)) ?_
                  refine lv_if_eq (tgt := 134) hx hb dX3_isWord_127 (by decide) (fun h => absurd h (by decide)) (fun _ => ?_)
                  refine lv_iconst (v := 1) hx hb dX3_isWord_130 (by decide) ?_
                  refine lv_goto (tgt := 135) hx hb dX3_isWord_131 (by decide) ?_
                  exact rz_R hx hb hr hlk ((b2i_t (wdB_i6.mpr ⟨c_244, (nI_eq (by omega) (by decide)).mp (show nI (pp.2.1 - pp.1) = nI 6 from c_245), c_246, c_247, c_248, c_249, c_250, c_251⟩)).symm) dX3_isWord_135
set_option maxHeartbeats 4000000 in
theorem M_w_needed (l : Launch) {G : GD} {A : Nat → Prop} {f : Nat → Nat → Int32} {g : Nat → Nat → Int64} {ad : Nat → Nat} {H0 : Heap} {pp : PS} (hW : MW G A (psT f pp) g ad H0) {T : Nat} (hT : f 6 0 = nI T) (hT1 : T ≤ 120) (hB : PB T pp)  : MetR l G yX3_isWord cX3_isWord 9 (some .boolean) 2 [.ref (ad 23), .int 110, .int 101, .int 101, .int 100, .int 101, .int 100, .int 0] H0 (some (.int (b2i (wdB (f 5) T pp [110, 101, 101, 100, 101, 100] = true)))) := by
  refine mx_of (by decide) (Nat.le_of_ble_eq_true rfl) ?_
  intro p e s m below meth c hx hb hr hc hlk hnm hs0 ls hl
  subst hs0
  have hown := hc.2.2.2.1
  have hts := hc.2.2.2.2.1
  have hK := hc.2.2.2.2.2
  have hl : lv_has ls 9 [(0, .ref (ad 23)), (1, .int 110), (2, .int 101), (3, .int 101), (4, .int 100), (5, .int 101), (6, .int 100), (7, .int 0)] := hl
  have hb1 := hB.1
  have hb2 := hB.2
  refine lv_iload hx hb dX3_isWord_0 (lv_at hl 4 rfl) ?_
  refine lv_if_ne (tgt := 9) hx hb dX3_isWord_2 (by decide) (fun _ => ?_) (fun h => absurd h (by decide))
  refine lv_iload hx hb dX3_isWord_9 (lv_at hl 5 rfl) ?_
  refine lv_if_ne (tgt := 18) hx hb dX3_isWord_11 (by decide) (fun _ => ?_) (fun h => absurd h (by decide))
  refine lv_iload hx hb dX3_isWord_18 (lv_at hl 6 rfl) ?_
  refine lv_if_ne (tgt := 27) hx hb dX3_isWord_20 (by decide) (fun _ => ?_) (fun h => absurd h (by decide))
  refine lv_iload hx hb dX3_isWord_27 (lv_at hl 7 rfl) ?_
  refine lv_if_ne (tgt := 37) hx hb dX3_isWord_29 (by decide) (fun h => absurd (by decide) h) (fun _ => ?_)
  refine lv_bipush (v := 6) hx hb dX3_isWord_32 (by decide) ?_
  refine lv_goto (tgt := 39) hx hb dX3_isWord_34 (by decide) ?_
  refine lv_istore (lv' := [(8, .int 6), (0, .ref (ad 23)), (1, .int 110), (2, .int 101), (3, .int 101), (4, .int 100), (5, .int 101), (6, .int 100), (7, .int 0)]) hx hb dX3_isWord_39 hl (by decide) rfl (fun ls hl => ?_)
  refine lv_aload_n hx hb dX3_isWord_41 rfl (lv_at hl 1 rfl) ?_
  refine m_get hc hW 10 (by decide) rfl q1010 rfl rfl dX3_isWord_42 ?_
  refine sm_topi (v := b2i (pp.2.2.2.1 = true)) rfl ?_
  refine bi_ne (tgt := 134) hx hb dX3_isWord_45 (by decide) (fun c_252 => ?_) (fun c_252 => ?_)
  · refine lv_iconst (v := 0) hx hb dX3_isWord_134 (by decide) ?_
    exact rz_R hx hb hr hlk ((b2i_f (fun h => absurd c_252 (wdB_i6.mp h).1)).symm) dX3_isWord_135
  · refine lv_aload_n hx hb dX3_isWord_48 rfl (lv_at hl 1 rfl) ?_
    refine m_get hc hW 8 (by decide) rfl q1008 rfl rfl dX3_isWord_49 ?_
    refine sm_topi (v := nI pp.2.1) rfl ?_
    refine lv_aload_n hx hb dX3_isWord_52 rfl (lv_at hl 1 rfl) ?_
    refine m_get hc hW 7 (by decide) rfl q1007 rfl rfl dX3_isWord_53 ?_
    refine sm_topi (v := nI pp.1) rfl ?_
    refine lv_isub hx hb dX3_isWord_56 ?_
    refine sm_topi (v := nI (pp.2.1 - pp.1)) (pk_sub hb1) ?_
    refine lv_iload hx hb dX3_isWord_57 (lv_at hl 0 rfl) ?_
    refine lv_icmp_ne (tgt := 134) hx hb dX3_isWord_59 (by decide) (fun c_253 => ?_) (fun c_253 => ?_)
    · refine lv_iconst (v := 0) hx hb dX3_isWord_134 (by decide) ?_
      exact rz_R hx hb hr hlk ((b2i_f (fun h => c_253 (by rw [(wdB_i6.mp h).2.1]; rfl))).symm) dX3_isWord_135
    · refine lv_aload_n hx hb dX3_isWord_62 rfl (lv_at hl 1 rfl) ?_
      refine lv_iconst (v := 0) hx hb dX3_isWord_63 (by decide) ?_
      refine lv_iload_n hx hb dX3_isWord_64 rfl (lv_at hl 2 rfl) ?_
      refine cv_R1 (rest := []) hc (M_isAt l hW (T := T) hT hT1 hB 0 (by decide) 110) (lw_V q1197 q1199 qs43 q70 q1200) nd_X3_isAt ⟨Nat.le_of_ble_eq_true rfl, Nat.le_of_ble_eq_true rfl⟩ (MW.recv hK hW) rfl hl.1 rfl (Nat.le_of_ble_eq_true rfl) dX3_isWord_65 ⟨Nat.le_of_ble_eq_true rfl, Nat.le_of_ble_eq_true rfl⟩ ?_
      refine sm_topi (v := b2i (bA (f 5) T (pp.1 + 0) = 110)) (b2i_congr (or_iff_right (by decide))) ?_
      refine bi_eq (tgt := 134) hx hb dX3_isWord_68 (by decide) (fun c_254 => ?_) (fun c_254 => ?_)
      · refine lv_iconst (v := 0) hx hb dX3_isWord_134 (by decide) ?_
        exact rz_R hx hb hr hlk ((b2i_f (fun h => c_254 (wdB_i6.mp h).2.2.1)).symm) dX3_isWord_135
      · refine lv_aload_n hx hb dX3_isWord_71 rfl (lv_at hl 1 rfl) ?_
        refine lv_iconst (v := 1) hx hb dX3_isWord_72 (by decide) ?_
        refine lv_iload_n hx hb dX3_isWord_73 rfl (lv_at hl 3 rfl) ?_
        refine cv_R1 (rest := []) hc (M_isAt l hW (T := T) hT hT1 hB 1 (by decide) 101) (lw_V q1197 q1199 qs43 q70 q1200) nd_X3_isAt ⟨Nat.le_of_ble_eq_true rfl, Nat.le_of_ble_eq_true rfl⟩ (MW.recv hK hW) rfl hl.1 rfl (Nat.le_of_ble_eq_true rfl) dX3_isWord_74 ⟨Nat.le_of_ble_eq_true rfl, Nat.le_of_ble_eq_true rfl⟩ ?_
        refine sm_topi (v := b2i (bA (f 5) T (pp.1 + 1) = 101)) (b2i_congr (or_iff_right (by decide))) ?_
        refine bi_eq (tgt := 134) hx hb dX3_isWord_77 (by decide) (fun c_255 => ?_) (fun c_255 => ?_)
        · refine lv_iconst (v := 0) hx hb dX3_isWord_134 (by decide) ?_
          exact rz_R hx hb hr hlk ((b2i_f (fun h => c_255 (wdB_i6.mp h).2.2.2.1)).symm) dX3_isWord_135
        · refine lv_aload_n hx hb dX3_isWord_80 rfl (lv_at hl 1 rfl) ?_
          refine lv_iconst (v := 2) hx hb dX3_isWord_81 (by decide) ?_
          refine lv_iload_n hx hb dX3_isWord_82 rfl (lv_at hl 4 rfl) ?_
          refine cv_R1 (rest := []) hc (M_isAt l hW (T := T) hT hT1 hB 2 (by decide) 101) (lw_V q1197 q1199 qs43 q70 q1200) nd_X3_isAt ⟨Nat.le_of_ble_eq_true rfl, Nat.le_of_ble_eq_true rfl⟩ (MW.recv hK hW) rfl hl.1 rfl (Nat.le_of_ble_eq_true rfl) dX3_isWord_83 ⟨Nat.le_of_ble_eq_true rfl, Nat.le_of_ble_eq_true rfl⟩ ?_
          refine sm_topi (v := b2i (bA (f 5) T (pp.1 + 2) = 101)) (b2i_congr (or_iff_right (by decide))) ?_
          refine bi_eq (tgt := 134) hx hb dX3_isWord_86 (by decide) (fun c_256 => ?_) (fun c_256 => ?_)
          · refine lv_iconst (v := 0) hx hb dX3_isWord_134 (by decide) ?_
            exact rz_R hx hb hr hlk ((b2i_f (fun h => c_256 (wdB_i6.mp h).2.2.2.2.1)).symm) dX3_isWord_135
          · refine lv_aload_n hx hb dX3_isWord_89 rfl (lv_at hl 1 rfl) ?_
            refine lv_iconst (v := 3) hx hb dX3_isWord_90 (by decide) ?_
            refine lv_iload hx hb dX3_isWord_91 (lv_at hl 5 rfl) ?_
            refine cv_R1 (rest := []) hc (M_isAt l hW (T := T) hT hT1 hB 3 (by decide) 100) (lw_V q1197 q1199 qs43 q70 q1200) nd_X3_isAt ⟨Nat.le_of_ble_eq_true rfl, Nat.le_of_ble_eq_true rfl⟩ (MW.recv hK hW) rfl hl.1 rfl (Nat.le_of_ble_eq_true rfl) dX3_isWord_93 ⟨Nat.le_of_ble_eq_true rfl, Nat.le_of_ble_eq_true rfl⟩ ?_
            refine sm_topi (v := b2i (bA (f 5) T (pp.1 + 3) = 100)) (b2i_congr (or_iff_right (by decide))) ?_
            refine bi_eq (tgt := 134) hx hb dX3_isWord_96 (by decide) (fun c_257 => ?_) (fun c_257 => ?_)
            · refine lv_iconst (v := 0) hx hb dX3_isWord_134 (by decide) ?_
              exact rz_R hx hb hr hlk ((b2i_f (fun h => c_257 (wdB_i6.mp h).2.2.2.2.2.1)).symm) dX3_isWord_135
            · refine lv_aload_n hx hb dX3_isWord_99 rfl (lv_at hl 1 rfl) ?_
              refine lv_iconst (v := 4) hx hb dX3_isWord_100 (by decide) ?_
              refine lv_iload hx hb dX3_isWord_101 (lv_at hl 6 rfl) ?_
              refine cv_R1 (rest := []) hc (M_isAt l hW (T := T) hT hT1 hB 4 (by decide) 101) (lw_V q1197 q1199 qs43 q70 q1200) nd_X3_isAt ⟨Nat.le_of_ble_eq_true rfl, Nat.le_of_ble_eq_true rfl⟩ (MW.recv hK hW) rfl hl.1 rfl (Nat.le_of_ble_eq_true rfl) dX3_isWord_103 ⟨Nat.le_of_ble_eq_true rfl, Nat.le_of_ble_eq_true rfl⟩ ?_
              refine sm_topi (v := b2i (bA (f 5) T (pp.1 + 4) = 101)) (b2i_congr (or_iff_right (by decide))) ?_
              refine bi_eq (tgt := 134) hx hb dX3_isWord_106 (by decide) (fun c_258 => ?_) (fun c_258 => ?_)
              · refine lv_iconst (v := 0) hx hb dX3_isWord_134 (by decide) ?_
                exact rz_R hx hb hr hlk ((b2i_f (fun h => c_258 (wdB_i6.mp h).2.2.2.2.2.2.1)).symm) dX3_isWord_135
              · refine lv_aload_n hx hb dX3_isWord_109 rfl (lv_at hl 1 rfl) ?_
                refine lv_iconst (v := 5) hx hb dX3_isWord_110 (by decide) ?_
                refine lv_iload hx hb dX3_isWord_111 (lv_at hl 7 rfl) ?_
                refine cv_R1 (rest := []) hc (M_isAt l hW (T := T) hT hT1 hB 5 (by decide) 100) (lw_V q1197 q1199 qs43 q70 q1200) nd_X3_isAt ⟨Nat.le_of_ble_eq_true rfl, Nat.le_of_ble_eq_true rfl⟩ (MW.recv hK hW) rfl hl.1 rfl (Nat.le_of_ble_eq_true rfl) dX3_isWord_113 ⟨Nat.le_of_ble_eq_true rfl, Nat.le_of_ble_eq_true rfl⟩ ?_
                refine sm_topi (v := b2i (bA (f 5) T (pp.1 + 5) = 100)) (b2i_congr (or_iff_right (by decide))) ?_
                refine bi_eq (tgt := 134) hx hb dX3_isWord_116 (by decide) (fun c_259 => ?_) (fun c_259 => ?_)
                · refine lv_iconst (v := 0) hx hb dX3_isWord_134 (by decide) ?_
                  exact rz_R hx hb hr hlk ((b2i_f (fun h => c_259 (wdB_i6.mp h).2.2.2.2.2.2.2)).symm) dX3_isWord_135
                · refine lv_aload_n hx hb dX3_isWord_119 rfl (lv_at hl 1 rfl) ?_
                  refine lv_bipush (v := 6) hx hb dX3_isWord_120 (by decide) ?_
                  refine lv_iload hx hb dX3_isWord_122 (lv_at hl 8 rfl) ?_
                  refine cv_R1 (rest := []) hc (M_isAt l hW (T := T) hT hT1 hB 6 (by decide) 0) (lw_V q1197 q1199 qs43 q70 q1200) nd_X3_isAt ⟨Nat.le_of_ble_eq_true rfl, Nat.le_of_ble_eq_true rfl⟩ (MW.recv hK hW) rfl hl.1 rfl (Nat.le_of_ble_eq_true rfl) dX3_isWord_124 ⟨Nat.le_of_ble_eq_true rfl, Nat.le_of_ble_eq_true rfl⟩ ?_
                  refine sm_topi (v := 1) (b2i_t (Or.inl rfl)) ?_
                  refine lv_if_eq (tgt := 134) hx hb dX3_isWord_127 (by decide) (fun h => absurd h (by decide)) (fun _ => ?_)
                  refine lv_iconst (v := 1) hx hb dX3_isWord_130 (by decide) ?_
                  refine lv_goto (tgt := 135) hx hb dX3_isWord_131 (by decide) ?_
                  exact rz_R hx hb hr hlk ((b2i_t (wdB_i6.mpr ⟨c_252, (nI_eq (by omega) (by decide)).mp (show nI (pp.2.1 - pp.1) = nI 6 from c_253), c_254, c_255, c_256, c_257, c_258, c_259⟩)).symm) dX3_isWord_135
set_option maxHeartbeats 4000000 in
theorem M_w_known (l : Launch) {G : GD} {A : Nat → Prop} {f : Nat → Nat → Int32} {g : Nat → Nat → Int64} {ad : Nat → Nat} {H0 : Heap} {pp : PS} (hW : MW G A (psT f pp) g ad H0) {T : Nat} (hT : f 6 0 = nI T) (hT1 : T ≤ 120) (hB : PB T pp)  : MetR l G yX3_isWord cX3_isWord 9 (some .boolean) 2 [.ref (ad 23), .int 107, .int 110, .int 111, .int 119, .int 110, .int 0, .int 0] H0 (some (.int (b2i (wdB (f 5) T pp [107, 110, 111, 119, 110] = true)))) := by
  refine mx_of (by decide) (Nat.le_of_ble_eq_true rfl) ?_
  intro p e s m below meth c hx hb hr hc hlk hnm hs0 ls hl
  subst hs0
  have hown := hc.2.2.2.1
  have hts := hc.2.2.2.2.1
  have hK := hc.2.2.2.2.2
  have hl : lv_has ls 9 [(0, .ref (ad 23)), (1, .int 107), (2, .int 110), (3, .int 111), (4, .int 119), (5, .int 110), (6, .int 0), (7, .int 0)] := hl
  have hb1 := hB.1
  have hb2 := hB.2
  refine lv_iload hx hb dX3_isWord_0 (lv_at hl 4 rfl) ?_
  refine lv_if_ne (tgt := 9) hx hb dX3_isWord_2 (by decide) (fun _ => ?_) (fun h => absurd h (by decide))
  refine lv_iload hx hb dX3_isWord_9 (lv_at hl 5 rfl) ?_
  refine lv_if_ne (tgt := 18) hx hb dX3_isWord_11 (by decide) (fun _ => ?_) (fun h => absurd h (by decide))
  refine lv_iload hx hb dX3_isWord_18 (lv_at hl 6 rfl) ?_
  refine lv_if_ne (tgt := 27) hx hb dX3_isWord_20 (by decide) (fun h => absurd (by decide) h) (fun _ => ?_)
  refine lv_iconst (v := 5) hx hb dX3_isWord_23 (by decide) ?_
  refine lv_goto (tgt := 39) hx hb dX3_isWord_24 (by decide) ?_
  refine lv_istore (lv' := [(8, .int 5), (0, .ref (ad 23)), (1, .int 107), (2, .int 110), (3, .int 111), (4, .int 119), (5, .int 110), (6, .int 0), (7, .int 0)]) hx hb dX3_isWord_39 hl (by decide) rfl (fun ls hl => ?_)
  refine lv_aload_n hx hb dX3_isWord_41 rfl (lv_at hl 1 rfl) ?_
  refine m_get hc hW 10 (by decide) rfl q1010 rfl rfl dX3_isWord_42 ?_
  refine sm_topi (v := b2i (pp.2.2.2.1 = true)) rfl ?_
  refine bi_ne (tgt := 134) hx hb dX3_isWord_45 (by decide) (fun c_260 => ?_) (fun c_260 => ?_)
  · refine lv_iconst (v := 0) hx hb dX3_isWord_134 (by decide) ?_
    exact rz_R hx hb hr hlk ((b2i_f (fun h => absurd c_260 (wdB_i5.mp h).1)).symm) dX3_isWord_135
  · refine lv_aload_n hx hb dX3_isWord_48 rfl (lv_at hl 1 rfl) ?_
    refine m_get hc hW 8 (by decide) rfl q1008 rfl rfl dX3_isWord_49 ?_
    refine sm_topi (v := nI pp.2.1) rfl ?_
    refine lv_aload_n hx hb dX3_isWord_52 rfl (lv_at hl 1 rfl) ?_
    refine m_get hc hW 7 (by decide) rfl q1007 rfl rfl dX3_isWord_53 ?_
    refine sm_topi (v := nI pp.1) rfl ?_
    refine lv_isub hx hb dX3_isWord_56 ?_
    refine sm_topi (v := nI (pp.2.1 - pp.1)) (pk_sub hb1) ?_
    refine lv_iload hx hb dX3_isWord_57 (lv_at hl 0 rfl) ?_
    refine lv_icmp_ne (tgt := 134) hx hb dX3_isWord_59 (by decide) (fun c_261 => ?_) (fun c_261 => ?_)
    · refine lv_iconst (v := 0) hx hb dX3_isWord_134 (by decide) ?_
      exact rz_R hx hb hr hlk ((b2i_f (fun h => c_261 (by rw [(wdB_i5.mp h).2.1]; rfl))).symm) dX3_isWord_135
    · refine lv_aload_n hx hb dX3_isWord_62 rfl (lv_at hl 1 rfl) ?_
      refine lv_iconst (v := 0) hx hb dX3_isWord_63 (by decide) ?_
      refine lv_iload_n hx hb dX3_isWord_64 rfl (lv_at hl 2 rfl) ?_
      refine cv_R1 (rest := []) hc (M_isAt l hW (T := T) hT hT1 hB 0 (by decide) 107) (lw_V q1197 q1199 qs43 q70 q1200) nd_X3_isAt ⟨Nat.le_of_ble_eq_true rfl, Nat.le_of_ble_eq_true rfl⟩ (MW.recv hK hW) rfl hl.1 rfl (Nat.le_of_ble_eq_true rfl) dX3_isWord_65 ⟨Nat.le_of_ble_eq_true rfl, Nat.le_of_ble_eq_true rfl⟩ ?_
      refine sm_topi (v := b2i (bA (f 5) T (pp.1 + 0) = 107)) (b2i_congr (or_iff_right (by decide))) ?_
      refine bi_eq (tgt := 134) hx hb dX3_isWord_68 (by decide) (fun c_262 => ?_) (fun c_262 => ?_)
      · refine lv_iconst (v := 0) hx hb dX3_isWord_134 (by decide) ?_
        exact rz_R hx hb hr hlk ((b2i_f (fun h => c_262 (wdB_i5.mp h).2.2.1)).symm) dX3_isWord_135
      · refine lv_aload_n hx hb dX3_isWord_71 rfl (lv_at hl 1 rfl) ?_
        refine lv_iconst (v := 1) hx hb dX3_isWord_72 (by decide) ?_
        refine lv_iload_n hx hb dX3_isWord_73 rfl (lv_at hl 3 rfl) ?_
        refine cv_R1 (rest := []) hc (M_isAt l hW (T := T) hT hT1 hB 1 (by decide) 110) (lw_V q1197 q1199 qs43 q70 q1200) nd_X3_isAt ⟨Nat.le_of_ble_eq_true rfl, Nat.le_of_ble_eq_true rfl⟩ (MW.recv hK hW) rfl hl.1 rfl (Nat.le_of_ble_eq_true rfl) dX3_isWord_74 ⟨Nat.le_of_ble_eq_true rfl, Nat.le_of_ble_eq_true rfl⟩ ?_
        refine sm_topi (v := b2i (bA (f 5) T (pp.1 + 1) = 110)) (b2i_congr (or_iff_right (by decide))) ?_
        refine bi_eq (tgt := 134) hx hb dX3_isWord_77 (by decide) (fun c_263 => ?_) (fun c_263 => ?_)
        · refine lv_iconst (v := 0) hx hb dX3_isWord_134 (by decide) ?_
          exact rz_R hx hb hr hlk ((b2i_f (fun h => c_263 (wdB_i5.mp h).2.2.2.1)).symm) dX3_isWord_135
        · refine lv_aload_n hx hb dX3_isWord_80 rfl (lv_at hl 1 rfl) ?_
          refine lv_iconst (v := 2) hx hb dX3_isWord_81 (by decide) ?_
          refine lv_iload_n hx hb dX3_isWord_82 rfl (lv_at hl 4 rfl) ?_
          refine cv_R1 (rest := []) hc (M_isAt l hW (T := T) hT hT1 hB 2 (by decide) 111) (lw_V q1197 q1199 qs43 q70 q1200) nd_X3_isAt ⟨Nat.le_of_ble_eq_true rfl, Nat.le_of_ble_eq_true rfl⟩ (MW.recv hK hW) rfl hl.1 rfl (Nat.le_of_ble_eq_true rfl) dX3_isWord_83 ⟨Nat.le_of_ble_eq_true rfl, Nat.le_of_ble_eq_true rfl⟩ ?_
          refine sm_topi (v := b2i (bA (f 5) T (pp.1 + 2) = 111)) (b2i_congr (or_iff_right (by decide))) ?_
          refine bi_eq (tgt := 134) hx hb dX3_isWord_86 (by decide) (fun c_264 => ?_) (fun c_264 => ?_)
          · refine lv_iconst (v := 0) hx hb dX3_isWord_134 (by decide) ?_
            exact rz_R hx hb hr hlk ((b2i_f (fun h => c_264 (wdB_i5.mp h).2.2.2.2.1)).symm) dX3_isWord_135
          · refine lv_aload_n hx hb dX3_isWord_89 rfl (lv_at hl 1 rfl) ?_
            refine lv_iconst (v := 3) hx hb dX3_isWord_90 (by decide) ?_
            refine lv_iload hx hb dX3_isWord_91 (lv_at hl 5 rfl) ?_
            refine cv_R1 (rest := []) hc (M_isAt l hW (T := T) hT hT1 hB 3 (by decide) 119) (lw_V q1197 q1199 qs43 q70 q1200) nd_X3_isAt ⟨Nat.le_of_ble_eq_true rfl, Nat.le_of_ble_eq_true rfl⟩ (MW.recv hK hW) rfl hl.1 rfl (Nat.le_of_ble_eq_true rfl) dX3_isWord_93 ⟨Nat.le_of_ble_eq_true rfl, Nat.le_of_ble_eq_true rfl⟩ ?_
            refine sm_topi (v := b2i (bA (f 5) T (pp.1 + 3) = 119)) (b2i_congr (or_iff_right (by decide))) ?_
            refine bi_eq (tgt := 134) hx hb dX3_isWord_96 (by decide) (fun c_265 => ?_) (fun c_265 => ?_)
            · refine lv_iconst (v := 0) hx hb dX3_isWord_134 (by decide) ?_
              exact rz_R hx hb hr hlk ((b2i_f (fun h => c_265 (wdB_i5.mp h).2.2.2.2.2.1)).symm) dX3_isWord_135
            · refine lv_aload_n hx hb dX3_isWord_99 rfl (lv_at hl 1 rfl) ?_
              refine lv_iconst (v := 4) hx hb dX3_isWord_100 (by decide) ?_
              refine lv_iload hx hb dX3_isWord_101 (lv_at hl 6 rfl) ?_
              refine cv_R1 (rest := []) hc (M_isAt l hW (T := T) hT hT1 hB 4 (by decide) 110) (lw_V q1197 q1199 qs43 q70 q1200) nd_X3_isAt ⟨Nat.le_of_ble_eq_true rfl, Nat.le_of_ble_eq_true rfl⟩ (MW.recv hK hW) rfl hl.1 rfl (Nat.le_of_ble_eq_true rfl) dX3_isWord_103 ⟨Nat.le_of_ble_eq_true rfl, Nat.le_of_ble_eq_true rfl⟩ ?_
              refine sm_topi (v := b2i (bA (f 5) T (pp.1 + 4) = 110)) (b2i_congr (or_iff_right (by decide))) ?_
              refine bi_eq (tgt := 134) hx hb dX3_isWord_106 (by decide) (fun c_266 => ?_) (fun c_266 => ?_)
              · refine lv_iconst (v := 0) hx hb dX3_isWord_134 (by decide) ?_
                exact rz_R hx hb hr hlk ((b2i_f (fun h => c_266 (wdB_i5.mp h).2.2.2.2.2.2)).symm) dX3_isWord_135
              · refine lv_aload_n hx hb dX3_isWord_109 rfl (lv_at hl 1 rfl) ?_
                refine lv_iconst (v := 5) hx hb dX3_isWord_110 (by decide) ?_
                refine lv_iload hx hb dX3_isWord_111 (lv_at hl 7 rfl) ?_
                refine cv_R1 (rest := []) hc (M_isAt l hW (T := T) hT hT1 hB 5 (by decide) 0) (lw_V q1197 q1199 qs43 q70 q1200) nd_X3_isAt ⟨Nat.le_of_ble_eq_true rfl, Nat.le_of_ble_eq_true rfl⟩ (MW.recv hK hW) rfl hl.1 rfl (Nat.le_of_ble_eq_true rfl) dX3_isWord_113 ⟨Nat.le_of_ble_eq_true rfl, Nat.le_of_ble_eq_true rfl⟩ ?_
                refine sm_topi (v := 1) (b2i_t (Or.inl rfl)) ?_
                refine lv_if_eq (tgt := 134) hx hb dX3_isWord_116 (by decide) (fun h => absurd h (by decide)) (fun _ => ?_)
                refine lv_aload_n hx hb dX3_isWord_119 rfl (lv_at hl 1 rfl) ?_
                refine lv_bipush (v := 6) hx hb dX3_isWord_120 (by decide) ?_
                refine lv_iload hx hb dX3_isWord_122 (lv_at hl 8 rfl) ?_
                refine cv_R1 (rest := []) hc (M_isAt l hW (T := T) hT hT1 hB 6 (by decide) 0) (lw_V q1197 q1199 qs43 q70 q1200) nd_X3_isAt ⟨Nat.le_of_ble_eq_true rfl, Nat.le_of_ble_eq_true rfl⟩ (MW.recv hK hW) rfl hl.1 rfl (Nat.le_of_ble_eq_true rfl) dX3_isWord_124 ⟨Nat.le_of_ble_eq_true rfl, Nat.le_of_ble_eq_true rfl⟩ ?_
                refine sm_topi (v := 1) (b2i_t (Or.inl rfl)) ?_
                refine lv_if_eq (tgt := 134) hx hb dX3_isWord_127 (by decide) (fun h => absurd h (by decide)) (fun _ => ?_)
                refine lv_iconst (v := 1) hx hb dX3_isWord_130 (by decide) ?_
                refine lv_goto (tgt := 135) hx hb dX3_isWord_131 (by decide) ?_
                exact rz_R hx hb hr hlk ((b2i_t (wdB_i5.mpr ⟨c_260, (nI_eq (by omega) (by decide)).mp (show nI (pp.2.1 - pp.1) = nI 5 from c_261), c_262, c_263, c_264, c_265, c_266⟩)).symm) dX3_isWord_135
set_option maxHeartbeats 4000000 in
theorem M_w_turning (l : Launch) {G : GD} {A : Nat → Prop} {f : Nat → Nat → Int32} {g : Nat → Nat → Int64} {ad : Nat → Nat} {H0 : Heap} {pp : PS} (hW : MW G A (psT f pp) g ad H0) {T : Nat} (hT : f 6 0 = nI T) (hT1 : T ≤ 120) (hB : PB T pp)  : MetR l G yX3_isWord cX3_isWord 9 (some .boolean) 2 [.ref (ad 23), .int 116, .int 117, .int 114, .int 110, .int 105, .int 110, .int 103] H0 (some (.int (b2i (wdB (f 5) T pp [116, 117, 114, 110, 105, 110, 103] = true)))) := by
  refine mx_of (by decide) (Nat.le_of_ble_eq_true rfl) ?_
  intro p e s m below meth c hx hb hr hc hlk hnm hs0 ls hl
  subst hs0
  have hown := hc.2.2.2.1
  have hts := hc.2.2.2.2.1
  have hK := hc.2.2.2.2.2
  have hl : lv_has ls 9 [(0, .ref (ad 23)), (1, .int 116), (2, .int 117), (3, .int 114), (4, .int 110), (5, .int 105), (6, .int 110), (7, .int 103)] := hl
  have hb1 := hB.1
  have hb2 := hB.2
  refine lv_iload hx hb dX3_isWord_0 (lv_at hl 4 rfl) ?_
  refine lv_if_ne (tgt := 9) hx hb dX3_isWord_2 (by decide) (fun _ => ?_) (fun h => absurd h (by decide))
  refine lv_iload hx hb dX3_isWord_9 (lv_at hl 5 rfl) ?_
  refine lv_if_ne (tgt := 18) hx hb dX3_isWord_11 (by decide) (fun _ => ?_) (fun h => absurd h (by decide))
  refine lv_iload hx hb dX3_isWord_18 (lv_at hl 6 rfl) ?_
  refine lv_if_ne (tgt := 27) hx hb dX3_isWord_20 (by decide) (fun _ => ?_) (fun h => absurd h (by decide))
  refine lv_iload hx hb dX3_isWord_27 (lv_at hl 7 rfl) ?_
  refine lv_if_ne (tgt := 37) hx hb dX3_isWord_29 (by decide) (fun _ => ?_) (fun h => absurd h (by decide))
  refine lv_bipush (v := 7) hx hb dX3_isWord_37 (by decide) ?_
  refine lv_istore (lv' := [(8, .int 7), (0, .ref (ad 23)), (1, .int 116), (2, .int 117), (3, .int 114), (4, .int 110), (5, .int 105), (6, .int 110), (7, .int 103)]) hx hb dX3_isWord_39 hl (by decide) rfl (fun ls hl => ?_)
  refine lv_aload_n hx hb dX3_isWord_41 rfl (lv_at hl 1 rfl) ?_
  refine m_get hc hW 10 (by decide) rfl q1010 rfl rfl dX3_isWord_42 ?_
  refine sm_topi (v := b2i (pp.2.2.2.1 = true)) rfl ?_
  refine bi_ne (tgt := 134) hx hb dX3_isWord_45 (by decide) (fun c_267 => ?_) (fun c_267 => ?_)
  · refine lv_iconst (v := 0) hx hb dX3_isWord_134 (by decide) ?_
    exact rz_R hx hb hr hlk ((b2i_f (fun h => absurd c_267 (wdB_i7.mp h).1)).symm) dX3_isWord_135
  · refine lv_aload_n hx hb dX3_isWord_48 rfl (lv_at hl 1 rfl) ?_
    refine m_get hc hW 8 (by decide) rfl q1008 rfl rfl dX3_isWord_49 ?_
    refine sm_topi (v := nI pp.2.1) rfl ?_
    refine lv_aload_n hx hb dX3_isWord_52 rfl (lv_at hl 1 rfl) ?_
    refine m_get hc hW 7 (by decide) rfl q1007 rfl rfl dX3_isWord_53 ?_
    refine sm_topi (v := nI pp.1) rfl ?_
    refine lv_isub hx hb dX3_isWord_56 ?_
    refine sm_topi (v := nI (pp.2.1 - pp.1)) (pk_sub hb1) ?_
    refine lv_iload hx hb dX3_isWord_57 (lv_at hl 0 rfl) ?_
    refine lv_icmp_ne (tgt := 134) hx hb dX3_isWord_59 (by decide) (fun c_268 => ?_) (fun c_268 => ?_)
    · refine lv_iconst (v := 0) hx hb dX3_isWord_134 (by decide) ?_
      exact rz_R hx hb hr hlk ((b2i_f (fun h => c_268 (by rw [(wdB_i7.mp h).2.1]; rfl))).symm) dX3_isWord_135
    · refine lv_aload_n hx hb dX3_isWord_62 rfl (lv_at hl 1 rfl) ?_
      refine lv_iconst (v := 0) hx hb dX3_isWord_63 (by decide) ?_
      refine lv_iload_n hx hb dX3_isWord_64 rfl (lv_at hl 2 rfl) ?_
      refine cv_R1 (rest := []) hc (M_isAt l hW (T := T) hT hT1 hB 0 (by decide) 116) (lw_V q1197 q1199 qs43 q70 q1200) nd_X3_isAt ⟨Nat.le_of_ble_eq_true rfl, Nat.le_of_ble_eq_true rfl⟩ (MW.recv hK hW) rfl hl.1 rfl (Nat.le_of_ble_eq_true rfl) dX3_isWord_65 ⟨Nat.le_of_ble_eq_true rfl, Nat.le_of_ble_eq_true rfl⟩ ?_
      refine sm_topi (v := b2i (bA (f 5) T (pp.1 + 0) = 116)) (b2i_congr (or_iff_right (by decide))) ?_
      refine bi_eq (tgt := 134) hx hb dX3_isWord_68 (by decide) (fun c_269 => ?_) (fun c_269 => ?_)
      · refine lv_iconst (v := 0) hx hb dX3_isWord_134 (by decide) ?_
        exact rz_R hx hb hr hlk ((b2i_f (fun h => c_269 (wdB_i7.mp h).2.2.1)).symm) dX3_isWord_135
      · refine lv_aload_n hx hb dX3_isWord_71 rfl (lv_at hl 1 rfl) ?_
        refine lv_iconst (v := 1) hx hb dX3_isWord_72 (by decide) ?_
        refine lv_iload_n hx hb dX3_isWord_73 rfl (lv_at hl 3 rfl) ?_
        refine cv_R1 (rest := []) hc (M_isAt l hW (T := T) hT hT1 hB 1 (by decide) 117) (lw_V q1197 q1199 qs43 q70 q1200) nd_X3_isAt ⟨Nat.le_of_ble_eq_true rfl, Nat.le_of_ble_eq_true rfl⟩ (MW.recv hK hW) rfl hl.1 rfl (Nat.le_of_ble_eq_true rfl) dX3_isWord_74 ⟨Nat.le_of_ble_eq_true rfl, Nat.le_of_ble_eq_true rfl⟩ ?_
        refine sm_topi (v := b2i (bA (f 5) T (pp.1 + 1) = 117)) (b2i_congr (or_iff_right (by decide))) ?_
        refine bi_eq (tgt := 134) hx hb dX3_isWord_77 (by decide) (fun c_270 => ?_) (fun c_270 => ?_)
        · refine lv_iconst (v := 0) hx hb dX3_isWord_134 (by decide) ?_
          exact rz_R hx hb hr hlk ((b2i_f (fun h => c_270 (wdB_i7.mp h).2.2.2.1)).symm) dX3_isWord_135
        · refine lv_aload_n hx hb dX3_isWord_80 rfl (lv_at hl 1 rfl) ?_
          refine lv_iconst (v := 2) hx hb dX3_isWord_81 (by decide) ?_
          refine lv_iload_n hx hb dX3_isWord_82 rfl (lv_at hl 4 rfl) ?_
          refine cv_R1 (rest := []) hc (M_isAt l hW (T := T) hT hT1 hB 2 (by decide) 114) (lw_V q1197 q1199 qs43 q70 q1200) nd_X3_isAt ⟨Nat.le_of_ble_eq_true rfl, Nat.le_of_ble_eq_true rfl⟩ (MW.recv hK hW) rfl hl.1 rfl (Nat.le_of_ble_eq_true rfl) dX3_isWord_83 ⟨Nat.le_of_ble_eq_true rfl, Nat.le_of_ble_eq_true rfl⟩ ?_
          refine sm_topi (v := b2i (bA (f 5) T (pp.1 + 2) = 114)) (b2i_congr (or_iff_right (by decide))) ?_
          refine bi_eq (tgt := 134) hx hb dX3_isWord_86 (by decide) (fun c_271 => ?_) (fun c_271 => ?_)
          · refine lv_iconst (v := 0) hx hb dX3_isWord_134 (by decide) ?_
            exact rz_R hx hb hr hlk ((b2i_f (fun h => c_271 (wdB_i7.mp h).2.2.2.2.1)).symm) dX3_isWord_135
          · refine lv_aload_n hx hb dX3_isWord_89 rfl (lv_at hl 1 rfl) ?_
            refine lv_iconst (v := 3) hx hb dX3_isWord_90 (by decide) ?_
            refine lv_iload hx hb dX3_isWord_91 (lv_at hl 5 rfl) ?_
            refine cv_R1 (rest := []) hc (M_isAt l hW (T := T) hT hT1 hB 3 (by decide) 110) (lw_V q1197 q1199 qs43 q70 q1200) nd_X3_isAt ⟨Nat.le_of_ble_eq_true rfl, Nat.le_of_ble_eq_true rfl⟩ (MW.recv hK hW) rfl hl.1 rfl (Nat.le_of_ble_eq_true rfl) dX3_isWord_93 ⟨Nat.le_of_ble_eq_true rfl, Nat.le_of_ble_eq_true rfl⟩ ?_
            refine sm_topi (v := b2i (bA (f 5) T (pp.1 + 3) = 110)) (b2i_congr (or_iff_right (by decide))) ?_
            refine bi_eq (tgt := 134) hx hb dX3_isWord_96 (by decide) (fun c_272 => ?_) (fun c_272 => ?_)
            · refine lv_iconst (v := 0) hx hb dX3_isWord_134 (by decide) ?_
              exact rz_R hx hb hr hlk ((b2i_f (fun h => c_272 (wdB_i7.mp h).2.2.2.2.2.1)).symm) dX3_isWord_135
            · refine lv_aload_n hx hb dX3_isWord_99 rfl (lv_at hl 1 rfl) ?_
              refine lv_iconst (v := 4) hx hb dX3_isWord_100 (by decide) ?_
              refine lv_iload hx hb dX3_isWord_101 (lv_at hl 6 rfl) ?_
              refine cv_R1 (rest := []) hc (M_isAt l hW (T := T) hT hT1 hB 4 (by decide) 105) (lw_V q1197 q1199 qs43 q70 q1200) nd_X3_isAt ⟨Nat.le_of_ble_eq_true rfl, Nat.le_of_ble_eq_true rfl⟩ (MW.recv hK hW) rfl hl.1 rfl (Nat.le_of_ble_eq_true rfl) dX3_isWord_103 ⟨Nat.le_of_ble_eq_true rfl, Nat.le_of_ble_eq_true rfl⟩ ?_
              refine sm_topi (v := b2i (bA (f 5) T (pp.1 + 4) = 105)) (b2i_congr (or_iff_right (by decide))) ?_
              refine bi_eq (tgt := 134) hx hb dX3_isWord_106 (by decide) (fun c_273 => ?_) (fun c_273 => ?_)
              · refine lv_iconst (v := 0) hx hb dX3_isWord_134 (by decide) ?_
                exact rz_R hx hb hr hlk ((b2i_f (fun h => c_273 (wdB_i7.mp h).2.2.2.2.2.2.1)).symm) dX3_isWord_135
              · refine lv_aload_n hx hb dX3_isWord_109 rfl (lv_at hl 1 rfl) ?_
                refine lv_iconst (v := 5) hx hb dX3_isWord_110 (by decide) ?_
                refine lv_iload hx hb dX3_isWord_111 (lv_at hl 7 rfl) ?_
                refine cv_R1 (rest := []) hc (M_isAt l hW (T := T) hT hT1 hB 5 (by decide) 110) (lw_V q1197 q1199 qs43 q70 q1200) nd_X3_isAt ⟨Nat.le_of_ble_eq_true rfl, Nat.le_of_ble_eq_true rfl⟩ (MW.recv hK hW) rfl hl.1 rfl (Nat.le_of_ble_eq_true rfl) dX3_isWord_113 ⟨Nat.le_of_ble_eq_true rfl, Nat.le_of_ble_eq_true rfl⟩ ?_
                refine sm_topi (v := b2i (bA (f 5) T (pp.1 + 5) = 110)) (b2i_congr (or_iff_right (by decide))) ?_
                refine bi_eq (tgt := 134) hx hb dX3_isWord_116 (by decide) (fun c_274 => ?_) (fun c_274 => ?_)
                · refine lv_iconst (v := 0) hx hb dX3_isWord_134 (by decide) ?_
                  exact rz_R hx hb hr hlk ((b2i_f (fun h => c_274 (wdB_i7.mp h).2.2.2.2.2.2.2.1)).symm) dX3_isWord_135
                · refine lv_aload_n hx hb dX3_isWord_119 rfl (lv_at hl 1 rfl) ?_
                  refine lv_bipush (v := 6) hx hb dX3_isWord_120 (by decide) ?_
                  refine lv_iload hx hb dX3_isWord_122 (lv_at hl 8 rfl) ?_
                  refine cv_R1 (rest := []) hc (M_isAt l hW (T := T) hT hT1 hB 6 (by decide) 103) (lw_V q1197 q1199 qs43 q70 q1200) nd_X3_isAt ⟨Nat.le_of_ble_eq_true rfl, Nat.le_of_ble_eq_true rfl⟩ (MW.recv hK hW) rfl hl.1 rfl (Nat.le_of_ble_eq_true rfl) dX3_isWord_124 ⟨Nat.le_of_ble_eq_true rfl, Nat.le_of_ble_eq_true rfl⟩ ?_
                  refine sm_topi (v := b2i (bA (f 5) T (pp.1 + 6) = 103)) (b2i_congr (or_iff_right (by decide))) ?_
                  refine bi_eq (tgt := 134) hx hb dX3_isWord_127 (by decide) (fun c_275 => ?_) (fun c_275 => ?_)
                  · refine lv_iconst (v := 0) hx hb dX3_isWord_134 (by decide) ?_
                    exact rz_R hx hb hr hlk ((b2i_f (fun h => c_275 (wdB_i7.mp h).2.2.2.2.2.2.2.2)).symm) dX3_isWord_135
                  · refine lv_iconst (v := 1) hx hb dX3_isWord_130 (by decide) ?_
                    refine lv_goto (tgt := 135) hx hb dX3_isWord_131 (by decide) ?_
                    exact rz_R hx hb hr hlk ((b2i_t (wdB_i7.mpr ⟨c_267, (nI_eq (by omega) (by decide)).mp (show nI (pp.2.1 - pp.1) = nI 7 from c_268), c_269, c_270, c_271, c_272, c_273, c_274, c_275⟩)).symm) dX3_isWord_135
set_option maxHeartbeats 4000000 in
theorem M_w_chimney (l : Launch) {G : GD} {A : Nat → Prop} {f : Nat → Nat → Int32} {g : Nat → Nat → Int64} {ad : Nat → Nat} {H0 : Heap} {pp : PS} (hW : MW G A (psT f pp) g ad H0) {T : Nat} (hT : f 6 0 = nI T) (hT1 : T ≤ 120) (hB : PB T pp)  : MetR l G yX3_isWord cX3_isWord 9 (some .boolean) 2 [.ref (ad 23), .int 99, .int 104, .int 105, .int 109, .int 110, .int 101, .int 121] H0 (some (.int (b2i (wdB (f 5) T pp [99, 104, 105, 109, 110, 101, 121] = true)))) := by
  refine mx_of (by decide) (Nat.le_of_ble_eq_true rfl) ?_
  intro p e s m below meth c hx hb hr hc hlk hnm hs0 ls hl
  subst hs0
  have hown := hc.2.2.2.1
  have hts := hc.2.2.2.2.1
  have hK := hc.2.2.2.2.2
  have hl : lv_has ls 9 [(0, .ref (ad 23)), (1, .int 99), (2, .int 104), (3, .int 105), (4, .int 109), (5, .int 110), (6, .int 101), (7, .int 121)] := hl
  have hb1 := hB.1
  have hb2 := hB.2
  refine lv_iload hx hb dX3_isWord_0 (lv_at hl 4 rfl) ?_
  refine lv_if_ne (tgt := 9) hx hb dX3_isWord_2 (by decide) (fun _ => ?_) (fun h => absurd h (by decide))
  refine lv_iload hx hb dX3_isWord_9 (lv_at hl 5 rfl) ?_
  refine lv_if_ne (tgt := 18) hx hb dX3_isWord_11 (by decide) (fun _ => ?_) (fun h => absurd h (by decide))
  refine lv_iload hx hb dX3_isWord_18 (lv_at hl 6 rfl) ?_
  refine lv_if_ne (tgt := 27) hx hb dX3_isWord_20 (by decide) (fun _ => ?_) (fun h => absurd h (by decide))
  refine lv_iload hx hb dX3_isWord_27 (lv_at hl 7 rfl) ?_
  refine lv_if_ne (tgt := 37) hx hb dX3_isWord_29 (by decide) (fun _ => ?_) (fun h => absurd h (by decide))
  refine lv_bipush (v := 7) hx hb dX3_isWord_37 (by decide) ?_
  refine lv_istore (lv' := [(8, .int 7), (0, .ref (ad 23)), (1, .int 99), (2, .int 104), (3, .int 105), (4, .int 109), (5, .int 110), (6, .int 101), (7, .int 121)]) hx hb dX3_isWord_39 hl (by decide) rfl (fun ls hl => ?_)
  refine lv_aload_n hx hb dX3_isWord_41 rfl (lv_at hl 1 rfl) ?_
  refine m_get hc hW 10 (by decide) rfl q1010 rfl rfl dX3_isWord_42 ?_
  refine sm_topi (v := b2i (pp.2.2.2.1 = true)) rfl ?_
  refine bi_ne (tgt := 134) hx hb dX3_isWord_45 (by decide) (fun c_276 => ?_) (fun c_276 => ?_)
  · refine lv_iconst (v := 0) hx hb dX3_isWord_134 (by decide) ?_
    exact rz_R hx hb hr hlk ((b2i_f (fun h => absurd c_276 (wdB_i7.mp h).1)).symm) dX3_isWord_135
  · refine lv_aload_n hx hb dX3_isWord_48 rfl (lv_at hl 1 rfl) ?_
    refine m_get hc hW 8 (by decide) rfl q1008 rfl rfl dX3_isWord_49 ?_
    refine sm_topi (v := nI pp.2.1) rfl ?_
    refine lv_aload_n hx hb dX3_isWord_52 rfl (lv_at hl 1 rfl) ?_
    refine m_get hc hW 7 (by decide) rfl q1007 rfl rfl dX3_isWord_53 ?_
    refine sm_topi (v := nI pp.1) rfl ?_
    refine lv_isub hx hb dX3_isWord_56 ?_
    refine sm_topi (v := nI (pp.2.1 - pp.1)) (pk_sub hb1) ?_
    refine lv_iload hx hb dX3_isWord_57 (lv_at hl 0 rfl) ?_
    refine lv_icmp_ne (tgt := 134) hx hb dX3_isWord_59 (by decide) (fun c_277 => ?_) (fun c_277 => ?_)
    · refine lv_iconst (v := 0) hx hb dX3_isWord_134 (by decide) ?_
      exact rz_R hx hb hr hlk ((b2i_f (fun h => c_277 (by rw [(wdB_i7.mp h).2.1]; rfl))).symm) dX3_isWord_135
    · refine lv_aload_n hx hb dX3_isWord_62 rfl (lv_at hl 1 rfl) ?_
      refine lv_iconst (v := 0) hx hb dX3_isWord_63 (by decide) ?_
      refine lv_iload_n hx hb dX3_isWord_64 rfl (lv_at hl 2 rfl) ?_
      refine cv_R1 (rest := []) hc (M_isAt l hW (T := T) hT hT1 hB 0 (by decide) 99) (lw_V q1197 q1199 qs43 q70 q1200) nd_X3_isAt ⟨Nat.le_of_ble_eq_true rfl, Nat.le_of_ble_eq_true rfl⟩ (MW.recv hK hW) rfl hl.1 rfl (Nat.le_of_ble_eq_true rfl) dX3_isWord_65 ⟨Nat.le_of_ble_eq_true rfl, Nat.le_of_ble_eq_true rfl⟩ ?_
      refine sm_topi (v := b2i (bA (f 5) T (pp.1 + 0) = 99)) (b2i_congr (or_iff_right (by decide))) ?_
      refine bi_eq (tgt := 134) hx hb dX3_isWord_68 (by decide) (fun c_278 => ?_) (fun c_278 => ?_)
      · refine lv_iconst (v := 0) hx hb dX3_isWord_134 (by decide) ?_
        exact rz_R hx hb hr hlk ((b2i_f (fun h => c_278 (wdB_i7.mp h).2.2.1)).symm) dX3_isWord_135
      · refine lv_aload_n hx hb dX3_isWord_71 rfl (lv_at hl 1 rfl) ?_
        refine lv_iconst (v := 1) hx hb dX3_isWord_72 (by decide) ?_
        refine lv_iload_n hx hb dX3_isWord_73 rfl (lv_at hl 3 rfl) ?_
        refine cv_R1 (rest := []) hc (M_isAt l hW (T := T) hT hT1 hB 1 (by decide) 104) (lw_V q1197 q1199 qs43 q70 q1200) nd_X3_isAt ⟨Nat.le_of_ble_eq_true rfl, Nat.le_of_ble_eq_true rfl⟩ (MW.recv hK hW) rfl hl.1 rfl (Nat.le_of_ble_eq_true rfl) dX3_isWord_74 ⟨Nat.le_of_ble_eq_true rfl, Nat.le_of_ble_eq_true rfl⟩ ?_
        refine sm_topi (v := b2i (bA (f 5) T (pp.1 + 1) = 104)) (b2i_congr (or_iff_right (by decide))) ?_
        refine bi_eq (tgt := 134) hx hb dX3_isWord_77 (by decide) (fun c_279 => ?_) (fun c_279 => ?_)
        · refine lv_iconst (v := 0) hx hb dX3_isWord_134 (by decide) ?_
          exact rz_R hx hb hr hlk ((b2i_f (fun h => c_279 (wdB_i7.mp h).2.2.2.1)).symm) dX3_isWord_135
        · refine lv_aload_n hx hb dX3_isWord_80 rfl (lv_at hl 1 rfl) ?_
          refine lv_iconst (v := 2) hx hb dX3_isWord_81 (by decide) ?_
          refine lv_iload_n hx hb dX3_isWord_82 rfl (lv_at hl 4 rfl) ?_
          refine cv_R1 (rest := []) hc (M_isAt l hW (T := T) hT hT1 hB 2 (by decide) 105) (lw_V q1197 q1199 qs43 q70 q1200) nd_X3_isAt ⟨Nat.le_of_ble_eq_true rfl, Nat.le_of_ble_eq_true rfl⟩ (MW.recv hK hW) rfl hl.1 rfl (Nat.le_of_ble_eq_true rfl) dX3_isWord_83 ⟨Nat.le_of_ble_eq_true rfl, Nat.le_of_ble_eq_true rfl⟩ ?_
          refine sm_topi (v := b2i (bA (f 5) T (pp.1 + 2) = 105)) (b2i_congr (or_iff_right (by decide))) ?_
          refine bi_eq (tgt := 134) hx hb dX3_isWord_86 (by decide) (fun c_280 => ?_) (fun c_280 => ?_)
          · refine lv_iconst (v := 0) hx hb dX3_isWord_134 (by decide) ?_
            exact rz_R hx hb hr hlk ((b2i_f (fun h => c_280 (wdB_i7.mp h).2.2.2.2.1)).symm) dX3_isWord_135
          · refine lv_aload_n hx hb dX3_isWord_89 rfl (lv_at hl 1 rfl) ?_
            refine lv_iconst (v := 3) hx hb dX3_isWord_90 (by decide) ?_
            refine lv_iload hx hb dX3_isWord_91 (lv_at hl 5 rfl) ?_
            refine cv_R1 (rest := []) hc (M_isAt l hW (T := T) hT hT1 hB 3 (by decide) 109) (lw_V q1197 q1199 qs43 q70 q1200) nd_X3_isAt ⟨Nat.le_of_ble_eq_true rfl, Nat.le_of_ble_eq_true rfl⟩ (MW.recv hK hW) rfl hl.1 rfl (Nat.le_of_ble_eq_true rfl) dX3_isWord_93 ⟨Nat.le_of_ble_eq_true rfl, Nat.le_of_ble_eq_true rfl⟩ ?_
            refine sm_topi (v := b2i (bA (f 5) T (pp.1 + 3) = 109)) (b2i_congr (or_iff_right (by decide))) ?_
            refine bi_eq (tgt := 134) hx hb dX3_isWord_96 (by decide) (fun c_281 => ?_) (fun c_281 => ?_)
            · refine lv_iconst (v := 0) hx hb dX3_isWord_134 (by decide) ?_
              exact rz_R hx hb hr hlk ((b2i_f (fun h => c_281 (wdB_i7.mp h).2.2.2.2.2.1)).symm) dX3_isWord_135
            · refine lv_aload_n hx hb dX3_isWord_99 rfl (lv_at hl 1 rfl) ?_
              refine lv_iconst (v := 4) hx hb dX3_isWord_100 (by decide) ?_
              refine lv_iload hx hb dX3_isWord_101 (lv_at hl 6 rfl) ?_
              refine cv_R1 (rest := []) hc (M_isAt l hW (T := T) hT hT1 hB 4 (by decide) 110) (lw_V q1197 q1199 qs43 q70 q1200) nd_X3_isAt ⟨Nat.le_of_ble_eq_true rfl, Nat.le_of_ble_eq_true rfl⟩ (MW.recv hK hW) rfl hl.1 rfl (Nat.le_of_ble_eq_true rfl) dX3_isWord_103 ⟨Nat.le_of_ble_eq_true rfl, Nat.le_of_ble_eq_true rfl⟩ ?_
              refine sm_topi (v := b2i (bA (f 5) T (pp.1 + 4) = 110)) (b2i_congr (or_iff_right (by decide))) ?_
              refine bi_eq (tgt := 134) hx hb dX3_isWord_106 (by decide) (fun c_282 => ?_) (fun c_282 => ?_)
              · refine lv_iconst (v := 0) hx hb dX3_isWord_134 (by decide) ?_
                exact rz_R hx hb hr hlk ((b2i_f (fun h => c_282 (wdB_i7.mp h).2.2.2.2.2.2.1)).symm) dX3_isWord_135
              · refine lv_aload_n hx hb dX3_isWord_109 rfl (lv_at hl 1 rfl) ?_
                refine lv_iconst (v := 5) hx hb dX3_isWord_110 (by decide) ?_
                refine lv_iload hx hb dX3_isWord_111 (lv_at hl 7 rfl) ?_
                refine cv_R1 (rest := []) hc (M_isAt l hW (T := T) hT hT1 hB 5 (by decide) 101) (lw_V q1197 q1199 qs43 q70 q1200) nd_X3_isAt ⟨Nat.le_of_ble_eq_true rfl, Nat.le_of_ble_eq_true rfl⟩ (MW.recv hK hW) rfl hl.1 rfl (Nat.le_of_ble_eq_true rfl) dX3_isWord_113 ⟨Nat.le_of_ble_eq_true rfl, Nat.le_of_ble_eq_true rfl⟩ ?_
                refine sm_topi (v := b2i (bA (f 5) T (pp.1 + 5) = 101)) (b2i_congr (or_iff_right (by decide))) ?_
                refine bi_eq (tgt := 134) hx hb dX3_isWord_116 (by decide) (fun c_283 => ?_) (fun c_283 => ?_)
                · refine lv_iconst (v := 0) hx hb dX3_isWord_134 (by decide) ?_
                  exact rz_R hx hb hr hlk ((b2i_f (fun h => c_283 (wdB_i7.mp h).2.2.2.2.2.2.2.1)).symm) dX3_isWord_135
                · refine lv_aload_n hx hb dX3_isWord_119 rfl (lv_at hl 1 rfl) ?_
                  refine lv_bipush (v := 6) hx hb dX3_isWord_120 (by decide) ?_
                  refine lv_iload hx hb dX3_isWord_122 (lv_at hl 8 rfl) ?_
                  refine cv_R1 (rest := []) hc (M_isAt l hW (T := T) hT hT1 hB 6 (by decide) 121) (lw_V q1197 q1199 qs43 q70 q1200) nd_X3_isAt ⟨Nat.le_of_ble_eq_true rfl, Nat.le_of_ble_eq_true rfl⟩ (MW.recv hK hW) rfl hl.1 rfl (Nat.le_of_ble_eq_true rfl) dX3_isWord_124 ⟨Nat.le_of_ble_eq_true rfl, Nat.le_of_ble_eq_true rfl⟩ ?_
                  refine sm_topi (v := b2i (bA (f 5) T (pp.1 + 6) = 121)) (b2i_congr (or_iff_right (by decide))) ?_
                  refine bi_eq (tgt := 134) hx hb dX3_isWord_127 (by decide) (fun c_284 => ?_) (fun c_284 => ?_)
                  · refine lv_iconst (v := 0) hx hb dX3_isWord_134 (by decide) ?_
                    exact rz_R hx hb hr hlk ((b2i_f (fun h => c_284 (wdB_i7.mp h).2.2.2.2.2.2.2.2)).symm) dX3_isWord_135
                  · refine lv_iconst (v := 1) hx hb dX3_isWord_130 (by decide) ?_
                    refine lv_goto (tgt := 135) hx hb dX3_isWord_131 (by decide) ?_
                    exact rz_R hx hb hr hlk ((b2i_t (wdB_i7.mpr ⟨c_276, (nI_eq (by omega) (by decide)).mp (show nI (pp.2.1 - pp.1) = nI 7 from c_277), c_278, c_279, c_280, c_281, c_282, c_283, c_284⟩)).symm) dX3_isWord_135
set_option maxHeartbeats 4000000 in
theorem M_w_out (l : Launch) {G : GD} {A : Nat → Prop} {f : Nat → Nat → Int32} {g : Nat → Nat → Int64} {ad : Nat → Nat} {H0 : Heap} {pp : PS} (hW : MW G A (psT f pp) g ad H0) {T : Nat} (hT : f 6 0 = nI T) (hT1 : T ≤ 120) (hB : PB T pp)  : MetR l G yX3_isWord cX3_isWord 9 (some .boolean) 2 [.ref (ad 23), .int 111, .int 117, .int 116, .int 0, .int 0, .int 0, .int 0] H0 (some (.int (b2i (wdB (f 5) T pp [111, 117, 116] = true)))) := by
  refine mx_of (by decide) (Nat.le_of_ble_eq_true rfl) ?_
  intro p e s m below meth c hx hb hr hc hlk hnm hs0 ls hl
  subst hs0
  have hown := hc.2.2.2.1
  have hts := hc.2.2.2.2.1
  have hK := hc.2.2.2.2.2
  have hl : lv_has ls 9 [(0, .ref (ad 23)), (1, .int 111), (2, .int 117), (3, .int 116), (4, .int 0), (5, .int 0), (6, .int 0), (7, .int 0)] := hl
  have hb1 := hB.1
  have hb2 := hB.2
  refine lv_iload hx hb dX3_isWord_0 (lv_at hl 4 rfl) ?_
  refine lv_if_ne (tgt := 9) hx hb dX3_isWord_2 (by decide) (fun h => absurd (by decide) h) (fun _ => ?_)
  refine lv_iconst (v := 3) hx hb dX3_isWord_5 (by decide) ?_
  refine lv_goto (tgt := 39) hx hb dX3_isWord_6 (by decide) ?_
  refine lv_istore (lv' := [(8, .int 3), (0, .ref (ad 23)), (1, .int 111), (2, .int 117), (3, .int 116), (4, .int 0), (5, .int 0), (6, .int 0), (7, .int 0)]) hx hb dX3_isWord_39 hl (by decide) rfl (fun ls hl => ?_)
  refine lv_aload_n hx hb dX3_isWord_41 rfl (lv_at hl 1 rfl) ?_
  refine m_get hc hW 10 (by decide) rfl q1010 rfl rfl dX3_isWord_42 ?_
  refine sm_topi (v := b2i (pp.2.2.2.1 = true)) rfl ?_
  refine bi_ne (tgt := 134) hx hb dX3_isWord_45 (by decide) (fun c_285 => ?_) (fun c_285 => ?_)
  · refine lv_iconst (v := 0) hx hb dX3_isWord_134 (by decide) ?_
    exact rz_R hx hb hr hlk ((b2i_f (fun h => absurd c_285 (wdB_i3.mp h).1)).symm) dX3_isWord_135
  · refine lv_aload_n hx hb dX3_isWord_48 rfl (lv_at hl 1 rfl) ?_
    refine m_get hc hW 8 (by decide) rfl q1008 rfl rfl dX3_isWord_49 ?_
    refine sm_topi (v := nI pp.2.1) rfl ?_
    refine lv_aload_n hx hb dX3_isWord_52 rfl (lv_at hl 1 rfl) ?_
    refine m_get hc hW 7 (by decide) rfl q1007 rfl rfl dX3_isWord_53 ?_
    refine sm_topi (v := nI pp.1) rfl ?_
    refine lv_isub hx hb dX3_isWord_56 ?_
    refine sm_topi (v := nI (pp.2.1 - pp.1)) (pk_sub hb1) ?_
    refine lv_iload hx hb dX3_isWord_57 (lv_at hl 0 rfl) ?_
    refine lv_icmp_ne (tgt := 134) hx hb dX3_isWord_59 (by decide) (fun c_286 => ?_) (fun c_286 => ?_)
    · refine lv_iconst (v := 0) hx hb dX3_isWord_134 (by decide) ?_
      exact rz_R hx hb hr hlk ((b2i_f (fun h => c_286 (by rw [(wdB_i3.mp h).2.1]; rfl))).symm) dX3_isWord_135
    · refine lv_aload_n hx hb dX3_isWord_62 rfl (lv_at hl 1 rfl) ?_
      refine lv_iconst (v := 0) hx hb dX3_isWord_63 (by decide) ?_
      refine lv_iload_n hx hb dX3_isWord_64 rfl (lv_at hl 2 rfl) ?_
      refine cv_R1 (rest := []) hc (M_isAt l hW (T := T) hT hT1 hB 0 (by decide) 111) (lw_V q1197 q1199 qs43 q70 q1200) nd_X3_isAt ⟨Nat.le_of_ble_eq_true rfl, Nat.le_of_ble_eq_true rfl⟩ (MW.recv hK hW) rfl hl.1 rfl (Nat.le_of_ble_eq_true rfl) dX3_isWord_65 ⟨Nat.le_of_ble_eq_true rfl, Nat.le_of_ble_eq_true rfl⟩ ?_
      refine sm_topi (v := b2i (bA (f 5) T (pp.1 + 0) = 111)) (b2i_congr (or_iff_right (by decide))) ?_
      refine bi_eq (tgt := 134) hx hb dX3_isWord_68 (by decide) (fun c_287 => ?_) (fun c_287 => ?_)
      · refine lv_iconst (v := 0) hx hb dX3_isWord_134 (by decide) ?_
        exact rz_R hx hb hr hlk ((b2i_f (fun h => c_287 (wdB_i3.mp h).2.2.1)).symm) dX3_isWord_135
      · refine lv_aload_n hx hb dX3_isWord_71 rfl (lv_at hl 1 rfl) ?_
        refine lv_iconst (v := 1) hx hb dX3_isWord_72 (by decide) ?_
        refine lv_iload_n hx hb dX3_isWord_73 rfl (lv_at hl 3 rfl) ?_
        refine cv_R1 (rest := []) hc (M_isAt l hW (T := T) hT hT1 hB 1 (by decide) 117) (lw_V q1197 q1199 qs43 q70 q1200) nd_X3_isAt ⟨Nat.le_of_ble_eq_true rfl, Nat.le_of_ble_eq_true rfl⟩ (MW.recv hK hW) rfl hl.1 rfl (Nat.le_of_ble_eq_true rfl) dX3_isWord_74 ⟨Nat.le_of_ble_eq_true rfl, Nat.le_of_ble_eq_true rfl⟩ ?_
        refine sm_topi (v := b2i (bA (f 5) T (pp.1 + 1) = 117)) (b2i_congr (or_iff_right (by decide))) ?_
        refine bi_eq (tgt := 134) hx hb dX3_isWord_77 (by decide) (fun c_288 => ?_) (fun c_288 => ?_)
        · refine lv_iconst (v := 0) hx hb dX3_isWord_134 (by decide) ?_
          exact rz_R hx hb hr hlk ((b2i_f (fun h => c_288 (wdB_i3.mp h).2.2.2.1)).symm) dX3_isWord_135
        · refine lv_aload_n hx hb dX3_isWord_80 rfl (lv_at hl 1 rfl) ?_
          refine lv_iconst (v := 2) hx hb dX3_isWord_81 (by decide) ?_
          refine lv_iload_n hx hb dX3_isWord_82 rfl (lv_at hl 4 rfl) ?_
          refine cv_R1 (rest := []) hc (M_isAt l hW (T := T) hT hT1 hB 2 (by decide) 116) (lw_V q1197 q1199 qs43 q70 q1200) nd_X3_isAt ⟨Nat.le_of_ble_eq_true rfl, Nat.le_of_ble_eq_true rfl⟩ (MW.recv hK hW) rfl hl.1 rfl (Nat.le_of_ble_eq_true rfl) dX3_isWord_83 ⟨Nat.le_of_ble_eq_true rfl, Nat.le_of_ble_eq_true rfl⟩ ?_
          refine sm_topi (v := b2i (bA (f 5) T (pp.1 + 2) = 116)) (b2i_congr (or_iff_right (by decide))) ?_
          refine bi_eq (tgt := 134) hx hb dX3_isWord_86 (by decide) (fun c_289 => ?_) (fun c_289 => ?_)
          · refine lv_iconst (v := 0) hx hb dX3_isWord_134 (by decide) ?_
            exact rz_R hx hb hr hlk ((b2i_f (fun h => c_289 (wdB_i3.mp h).2.2.2.2)).symm) dX3_isWord_135
          · refine lv_aload_n hx hb dX3_isWord_89 rfl (lv_at hl 1 rfl) ?_
            refine lv_iconst (v := 3) hx hb dX3_isWord_90 (by decide) ?_
            refine lv_iload hx hb dX3_isWord_91 (lv_at hl 5 rfl) ?_
            refine cv_R1 (rest := []) hc (M_isAt l hW (T := T) hT hT1 hB 3 (by decide) 0) (lw_V q1197 q1199 qs43 q70 q1200) nd_X3_isAt ⟨Nat.le_of_ble_eq_true rfl, Nat.le_of_ble_eq_true rfl⟩ (MW.recv hK hW) rfl hl.1 rfl (Nat.le_of_ble_eq_true rfl) dX3_isWord_93 ⟨Nat.le_of_ble_eq_true rfl, Nat.le_of_ble_eq_true rfl⟩ ?_
            refine sm_topi (v := 1) (b2i_t (Or.inl rfl)) ?_
            refine lv_if_eq (tgt := 134) hx hb dX3_isWord_96 (by decide) (fun h => absurd h (by decide)) (fun _ => ?_)
            refine lv_aload_n hx hb dX3_isWord_99 rfl (lv_at hl 1 rfl) ?_
            refine lv_iconst (v := 4) hx hb dX3_isWord_100 (by decide) ?_
            refine lv_iload hx hb dX3_isWord_101 (lv_at hl 6 rfl) ?_
            refine cv_R1 (rest := []) hc (M_isAt l hW (T := T) hT hT1 hB 4 (by decide) 0) (lw_V q1197 q1199 qs43 q70 q1200) nd_X3_isAt ⟨Nat.le_of_ble_eq_true rfl, Nat.le_of_ble_eq_true rfl⟩ (MW.recv hK hW) rfl hl.1 rfl (Nat.le_of_ble_eq_true rfl) dX3_isWord_103 ⟨Nat.le_of_ble_eq_true rfl, Nat.le_of_ble_eq_true rfl⟩ ?_
            refine sm_topi (v := 1) (b2i_t (Or.inl rfl)) ?_
            refine lv_if_eq (tgt := 134) hx hb dX3_isWord_106 (by decide) (fun h => absurd h (by decide)) (fun _ => ?_)
            refine lv_aload_n hx hb dX3_isWord_109 rfl (lv_at hl 1 rfl) ?_
            refine lv_iconst (v := 5) hx hb dX3_isWord_110 (by decide) ?_
            refine lv_iload hx hb dX3_isWord_111 (lv_at hl 7 rfl) ?_
            refine cv_R1 (rest := []) hc (M_isAt l hW (T := T) hT hT1 hB 5 (by decide) 0) (lw_V q1197 q1199 qs43 q70 q1200) nd_X3_isAt ⟨Nat.le_of_ble_eq_true rfl, Nat.le_of_ble_eq_true rfl⟩ (MW.recv hK hW) rfl hl.1 rfl (Nat.le_of_ble_eq_true rfl) dX3_isWord_113 ⟨Nat.le_of_ble_eq_true rfl, Nat.le_of_ble_eq_true rfl⟩ ?_
            refine sm_topi (v := 1) (b2i_t (Or.inl rfl)) ?_
            refine lv_if_eq (tgt := 134) hx hb dX3_isWord_116 (by decide) (fun h => absurd h (by decide)) (fun _ => ?_)
            refine lv_aload_n hx hb dX3_isWord_119 rfl (lv_at hl 1 rfl) ?_
            refine lv_bipush (v := 6) hx hb dX3_isWord_120 (by decide) ?_
            refine lv_iload hx hb dX3_isWord_122 (lv_at hl 8 rfl) ?_
            refine cv_R1 (rest := []) hc (M_isAt l hW (T := T) hT hT1 hB 6 (by decide) 0) (lw_V q1197 q1199 qs43 q70 q1200) nd_X3_isAt ⟨Nat.le_of_ble_eq_true rfl, Nat.le_of_ble_eq_true rfl⟩ (MW.recv hK hW) rfl hl.1 rfl (Nat.le_of_ble_eq_true rfl) dX3_isWord_124 ⟨Nat.le_of_ble_eq_true rfl, Nat.le_of_ble_eq_true rfl⟩ ?_
            refine sm_topi (v := 1) (b2i_t (Or.inl rfl)) ?_
            refine lv_if_eq (tgt := 134) hx hb dX3_isWord_127 (by decide) (fun h => absurd h (by decide)) (fun _ => ?_)
            refine lv_iconst (v := 1) hx hb dX3_isWord_130 (by decide) ?_
            refine lv_goto (tgt := 135) hx hb dX3_isWord_131 (by decide) ?_
            exact rz_R hx hb hr hlk ((b2i_t (wdB_i3.mpr ⟨c_285, (nI_eq (by omega) (by decide)).mp (show nI (pp.2.1 - pp.1) = nI 3 from c_286), c_287, c_288, c_289⟩)).symm) dX3_isWord_135
set_option maxHeartbeats 4000000 in
theorem M_w_high (l : Launch) {G : GD} {A : Nat → Prop} {f : Nat → Nat → Int32} {g : Nat → Nat → Int64} {ad : Nat → Nat} {H0 : Heap} {pp : PS} (hW : MW G A (psT f pp) g ad H0) {T : Nat} (hT : f 6 0 = nI T) (hT1 : T ≤ 120) (hB : PB T pp)  : MetR l G yX3_isWord cX3_isWord 9 (some .boolean) 2 [.ref (ad 23), .int 104, .int 105, .int 103, .int 104, .int 0, .int 0, .int 0] H0 (some (.int (b2i (wdB (f 5) T pp [104, 105, 103, 104] = true)))) := by
  refine mx_of (by decide) (Nat.le_of_ble_eq_true rfl) ?_
  intro p e s m below meth c hx hb hr hc hlk hnm hs0 ls hl
  subst hs0
  have hown := hc.2.2.2.1
  have hts := hc.2.2.2.2.1
  have hK := hc.2.2.2.2.2
  have hl : lv_has ls 9 [(0, .ref (ad 23)), (1, .int 104), (2, .int 105), (3, .int 103), (4, .int 104), (5, .int 0), (6, .int 0), (7, .int 0)] := hl
  have hb1 := hB.1
  have hb2 := hB.2
  refine lv_iload hx hb dX3_isWord_0 (lv_at hl 4 rfl) ?_
  refine lv_if_ne (tgt := 9) hx hb dX3_isWord_2 (by decide) (fun _ => ?_) (fun h => absurd h (by decide))
  refine lv_iload hx hb dX3_isWord_9 (lv_at hl 5 rfl) ?_
  refine lv_if_ne (tgt := 18) hx hb dX3_isWord_11 (by decide) (fun h => absurd (by decide) h) (fun _ => ?_)
  refine lv_iconst (v := 4) hx hb dX3_isWord_14 (by decide) ?_
  refine lv_goto (tgt := 39) hx hb dX3_isWord_15 (by decide) ?_
  refine lv_istore (lv' := [(8, .int 4), (0, .ref (ad 23)), (1, .int 104), (2, .int 105), (3, .int 103), (4, .int 104), (5, .int 0), (6, .int 0), (7, .int 0)]) hx hb dX3_isWord_39 hl (by decide) rfl (fun ls hl => ?_)
  refine lv_aload_n hx hb dX3_isWord_41 rfl (lv_at hl 1 rfl) ?_
  refine m_get hc hW 10 (by decide) rfl q1010 rfl rfl dX3_isWord_42 ?_
  refine sm_topi (v := b2i (pp.2.2.2.1 = true)) rfl ?_
  refine bi_ne (tgt := 134) hx hb dX3_isWord_45 (by decide) (fun c_290 => ?_) (fun c_290 => ?_)
  · refine lv_iconst (v := 0) hx hb dX3_isWord_134 (by decide) ?_
    exact rz_R hx hb hr hlk ((b2i_f (fun h => absurd c_290 (wdB_i4.mp h).1)).symm) dX3_isWord_135
  · refine lv_aload_n hx hb dX3_isWord_48 rfl (lv_at hl 1 rfl) ?_
    refine m_get hc hW 8 (by decide) rfl q1008 rfl rfl dX3_isWord_49 ?_
    refine sm_topi (v := nI pp.2.1) rfl ?_
    refine lv_aload_n hx hb dX3_isWord_52 rfl (lv_at hl 1 rfl) ?_
    refine m_get hc hW 7 (by decide) rfl q1007 rfl rfl dX3_isWord_53 ?_
    refine sm_topi (v := nI pp.1) rfl ?_
    refine lv_isub hx hb dX3_isWord_56 ?_
    refine sm_topi (v := nI (pp.2.1 - pp.1)) (pk_sub hb1) ?_
    refine lv_iload hx hb dX3_isWord_57 (lv_at hl 0 rfl) ?_
    refine lv_icmp_ne (tgt := 134) hx hb dX3_isWord_59 (by decide) (fun c_291 => ?_) (fun c_291 => ?_)
    · refine lv_iconst (v := 0) hx hb dX3_isWord_134 (by decide) ?_
      exact rz_R hx hb hr hlk ((b2i_f (fun h => c_291 (by rw [(wdB_i4.mp h).2.1]; rfl))).symm) dX3_isWord_135
    · refine lv_aload_n hx hb dX3_isWord_62 rfl (lv_at hl 1 rfl) ?_
      refine lv_iconst (v := 0) hx hb dX3_isWord_63 (by decide) ?_
      refine lv_iload_n hx hb dX3_isWord_64 rfl (lv_at hl 2 rfl) ?_
      refine cv_R1 (rest := []) hc (M_isAt l hW (T := T) hT hT1 hB 0 (by decide) 104) (lw_V q1197 q1199 qs43 q70 q1200) nd_X3_isAt ⟨Nat.le_of_ble_eq_true rfl, Nat.le_of_ble_eq_true rfl⟩ (MW.recv hK hW) rfl hl.1 rfl (Nat.le_of_ble_eq_true rfl) dX3_isWord_65 ⟨Nat.le_of_ble_eq_true rfl, Nat.le_of_ble_eq_true rfl⟩ ?_
      refine sm_topi (v := b2i (bA (f 5) T (pp.1 + 0) = 104)) (b2i_congr (or_iff_right (by decide))) ?_
      refine bi_eq (tgt := 134) hx hb dX3_isWord_68 (by decide) (fun c_292 => ?_) (fun c_292 => ?_)
      · refine lv_iconst (v := 0) hx hb dX3_isWord_134 (by decide) ?_
        exact rz_R hx hb hr hlk ((b2i_f (fun h => c_292 (wdB_i4.mp h).2.2.1)).symm) dX3_isWord_135
      · refine lv_aload_n hx hb dX3_isWord_71 rfl (lv_at hl 1 rfl) ?_
        refine lv_iconst (v := 1) hx hb dX3_isWord_72 (by decide) ?_
        refine lv_iload_n hx hb dX3_isWord_73 rfl (lv_at hl 3 rfl) ?_
        refine cv_R1 (rest := []) hc (M_isAt l hW (T := T) hT hT1 hB 1 (by decide) 105) (lw_V q1197 q1199 qs43 q70 q1200) nd_X3_isAt ⟨Nat.le_of_ble_eq_true rfl, Nat.le_of_ble_eq_true rfl⟩ (MW.recv hK hW) rfl hl.1 rfl (Nat.le_of_ble_eq_true rfl) dX3_isWord_74 ⟨Nat.le_of_ble_eq_true rfl, Nat.le_of_ble_eq_true rfl⟩ ?_
        refine sm_topi (v := b2i (bA (f 5) T (pp.1 + 1) = 105)) (b2i_congr (or_iff_right (by decide))) ?_
        refine bi_eq (tgt := 134) hx hb dX3_isWord_77 (by decide) (fun c_293 => ?_) (fun c_293 => ?_)
        · refine lv_iconst (v := 0) hx hb dX3_isWord_134 (by decide) ?_
          exact rz_R hx hb hr hlk ((b2i_f (fun h => c_293 (wdB_i4.mp h).2.2.2.1)).symm) dX3_isWord_135
        · refine lv_aload_n hx hb dX3_isWord_80 rfl (lv_at hl 1 rfl) ?_
          refine lv_iconst (v := 2) hx hb dX3_isWord_81 (by decide) ?_
          refine lv_iload_n hx hb dX3_isWord_82 rfl (lv_at hl 4 rfl) ?_
          refine cv_R1 (rest := []) hc (M_isAt l hW (T := T) hT hT1 hB 2 (by decide) 103) (lw_V q1197 q1199 qs43 q70 q1200) nd_X3_isAt ⟨Nat.le_of_ble_eq_true rfl, Nat.le_of_ble_eq_true rfl⟩ (MW.recv hK hW) rfl hl.1 rfl (Nat.le_of_ble_eq_true rfl) dX3_isWord_83 ⟨Nat.le_of_ble_eq_true rfl, Nat.le_of_ble_eq_true rfl⟩ ?_
          refine sm_topi (v := b2i (bA (f 5) T (pp.1 + 2) = 103)) (b2i_congr (or_iff_right (by decide))) ?_
          refine bi_eq (tgt := 134) hx hb dX3_isWord_86 (by decide) (fun c_294 => ?_) (fun c_294 => ?_)
          · refine lv_iconst (v := 0) hx hb dX3_isWord_134 (by decide) ?_
            exact rz_R hx hb hr hlk ((b2i_f (fun h => c_294 (wdB_i4.mp h).2.2.2.2.1)).symm) dX3_isWord_135
          · refine lv_aload_n hx hb dX3_isWord_89 rfl (lv_at hl 1 rfl) ?_
            refine lv_iconst (v := 3) hx hb dX3_isWord_90 (by decide) ?_
            refine lv_iload hx hb dX3_isWord_91 (lv_at hl 5 rfl) ?_
            refine cv_R1 (rest := []) hc (M_isAt l hW (T := T) hT hT1 hB 3 (by decide) 104) (lw_V q1197 q1199 qs43 q70 q1200) nd_X3_isAt ⟨Nat.le_of_ble_eq_true rfl, Nat.le_of_ble_eq_true rfl⟩ (MW.recv hK hW) rfl hl.1 rfl (Nat.le_of_ble_eq_true rfl) dX3_isWord_93 ⟨Nat.le_of_ble_eq_true rfl, Nat.le_of_ble_eq_true rfl⟩ ?_
            refine sm_topi (v := b2i (bA (f 5) T (pp.1 + 3) = 104)) (b2i_congr (or_iff_right (by decide))) ?_
            refine bi_eq (tgt := 134) hx hb dX3_isWord_96 (by decide) (fun c_295 => ?_) (fun c_295 => ?_)
            · refine lv_iconst (v := 0) hx hb dX3_isWord_134 (by decide) ?_
              exact rz_R hx hb hr hlk ((b2i_f (fun h => c_295 (wdB_i4.mp h).2.2.2.2.2)).symm) dX3_isWord_135
            · refine lv_aload_n hx hb dX3_isWord_99 rfl (lv_at hl 1 rfl) ?_
              refine lv_iconst (v := 4) hx hb dX3_isWord_100 (by decide) ?_
              refine lv_iload hx hb dX3_isWord_101 (lv_at hl 6 rfl) ?_
              refine cv_R1 (rest := []) hc (M_isAt l hW (T := T) hT hT1 hB 4 (by decide) 0) (lw_V q1197 q1199 qs43 q70 q1200) nd_X3_isAt ⟨Nat.le_of_ble_eq_true rfl, Nat.le_of_ble_eq_true rfl⟩ (MW.recv hK hW) rfl hl.1 rfl (Nat.le_of_ble_eq_true rfl) dX3_isWord_103 ⟨Nat.le_of_ble_eq_true rfl, Nat.le_of_ble_eq_true rfl⟩ ?_
              refine sm_topi (v := 1) (b2i_t (Or.inl rfl)) ?_
              refine lv_if_eq (tgt := 134) hx hb dX3_isWord_106 (by decide) (fun h => absurd h (by decide)) (fun _ => ?_)
              refine lv_aload_n hx hb dX3_isWord_109 rfl (lv_at hl 1 rfl) ?_
              refine lv_iconst (v := 5) hx hb dX3_isWord_110 (by decide) ?_
              refine lv_iload hx hb dX3_isWord_111 (lv_at hl 7 rfl) ?_
              refine cv_R1 (rest := []) hc (M_isAt l hW (T := T) hT hT1 hB 5 (by decide) 0) (lw_V q1197 q1199 qs43 q70 q1200) nd_X3_isAt ⟨Nat.le_of_ble_eq_true rfl, Nat.le_of_ble_eq_true rfl⟩ (MW.recv hK hW) rfl hl.1 rfl (Nat.le_of_ble_eq_true rfl) dX3_isWord_113 ⟨Nat.le_of_ble_eq_true rfl, Nat.le_of_ble_eq_true rfl⟩ ?_
              refine sm_topi (v := 1) (b2i_t (Or.inl rfl)) ?_
              refine lv_if_eq (tgt := 134) hx hb dX3_isWord_116 (by decide) (fun h => absurd h (by decide)) (fun _ => ?_)
              refine lv_aload_n hx hb dX3_isWord_119 rfl (lv_at hl 1 rfl) ?_
              refine lv_bipush (v := 6) hx hb dX3_isWord_120 (by decide) ?_
              refine lv_iload hx hb dX3_isWord_122 (lv_at hl 8 rfl) ?_
              refine cv_R1 (rest := []) hc (M_isAt l hW (T := T) hT hT1 hB 6 (by decide) 0) (lw_V q1197 q1199 qs43 q70 q1200) nd_X3_isAt ⟨Nat.le_of_ble_eq_true rfl, Nat.le_of_ble_eq_true rfl⟩ (MW.recv hK hW) rfl hl.1 rfl (Nat.le_of_ble_eq_true rfl) dX3_isWord_124 ⟨Nat.le_of_ble_eq_true rfl, Nat.le_of_ble_eq_true rfl⟩ ?_
              refine sm_topi (v := 1) (b2i_t (Or.inl rfl)) ?_
              refine lv_if_eq (tgt := 134) hx hb dX3_isWord_127 (by decide) (fun h => absurd h (by decide)) (fun _ => ?_)
              refine lv_iconst (v := 1) hx hb dX3_isWord_130 (by decide) ?_
              refine lv_goto (tgt := 135) hx hb dX3_isWord_131 (by decide) ?_
              exact rz_R hx hb hr hlk ((b2i_t (wdB_i4.mpr ⟨c_290, (nI_eq (by omega) (by decide)).mp (show nI (pp.2.1 - pp.1) = nI 4 from c_291), c_292, c_293, c_294, c_295⟩)).symm) dX3_isWord_135
set_option maxHeartbeats 4000000 in
theorem M_w_side (l : Launch) {G : GD} {A : Nat → Prop} {f : Nat → Nat → Int32} {g : Nat → Nat → Int64} {ad : Nat → Nat} {H0 : Heap} {pp : PS} (hW : MW G A (psT f pp) g ad H0) {T : Nat} (hT : f 6 0 = nI T) (hT1 : T ≤ 120) (hB : PB T pp)  : MetR l G yX3_isWord cX3_isWord 9 (some .boolean) 2 [.ref (ad 23), .int 115, .int 105, .int 100, .int 101, .int 0, .int 0, .int 0] H0 (some (.int (b2i (wdB (f 5) T pp [115, 105, 100, 101] = true)))) := by
  refine mx_of (by decide) (Nat.le_of_ble_eq_true rfl) ?_
  intro p e s m below meth c hx hb hr hc hlk hnm hs0 ls hl
  subst hs0
  have hown := hc.2.2.2.1
  have hts := hc.2.2.2.2.1
  have hK := hc.2.2.2.2.2
  have hl : lv_has ls 9 [(0, .ref (ad 23)), (1, .int 115), (2, .int 105), (3, .int 100), (4, .int 101), (5, .int 0), (6, .int 0), (7, .int 0)] := hl
  have hb1 := hB.1
  have hb2 := hB.2
  refine lv_iload hx hb dX3_isWord_0 (lv_at hl 4 rfl) ?_
  refine lv_if_ne (tgt := 9) hx hb dX3_isWord_2 (by decide) (fun _ => ?_) (fun h => absurd h (by decide))
  refine lv_iload hx hb dX3_isWord_9 (lv_at hl 5 rfl) ?_
  refine lv_if_ne (tgt := 18) hx hb dX3_isWord_11 (by decide) (fun h => absurd (by decide) h) (fun _ => ?_)
  refine lv_iconst (v := 4) hx hb dX3_isWord_14 (by decide) ?_
  refine lv_goto (tgt := 39) hx hb dX3_isWord_15 (by decide) ?_
  refine lv_istore (lv' := [(8, .int 4), (0, .ref (ad 23)), (1, .int 115), (2, .int 105), (3, .int 100), (4, .int 101), (5, .int 0), (6, .int 0), (7, .int 0)]) hx hb dX3_isWord_39 hl (by decide) rfl (fun ls hl => ?_)
  refine lv_aload_n hx hb dX3_isWord_41 rfl (lv_at hl 1 rfl) ?_
  refine m_get hc hW 10 (by decide) rfl q1010 rfl rfl dX3_isWord_42 ?_
  refine sm_topi (v := b2i (pp.2.2.2.1 = true)) rfl ?_
  refine bi_ne (tgt := 134) hx hb dX3_isWord_45 (by decide) (fun c_296 => ?_) (fun c_296 => ?_)
  · refine lv_iconst (v := 0) hx hb dX3_isWord_134 (by decide) ?_
    exact rz_R hx hb hr hlk ((b2i_f (fun h => absurd c_296 (wdB_i4.mp h).1)).symm) dX3_isWord_135
  · refine lv_aload_n hx hb dX3_isWord_48 rfl (lv_at hl 1 rfl) ?_
    refine m_get hc hW 8 (by decide) rfl q1008 rfl rfl dX3_isWord_49 ?_
    refine sm_topi (v := nI pp.2.1) rfl ?_
    refine lv_aload_n hx hb dX3_isWord_52 rfl (lv_at hl 1 rfl) ?_
    refine m_get hc hW 7 (by decide) rfl q1007 rfl rfl dX3_isWord_53 ?_
    refine sm_topi (v := nI pp.1) rfl ?_
    refine lv_isub hx hb dX3_isWord_56 ?_
    refine sm_topi (v := nI (pp.2.1 - pp.1)) (pk_sub hb1) ?_
    refine lv_iload hx hb dX3_isWord_57 (lv_at hl 0 rfl) ?_
    refine lv_icmp_ne (tgt := 134) hx hb dX3_isWord_59 (by decide) (fun c_297 => ?_) (fun c_297 => ?_)
    · refine lv_iconst (v := 0) hx hb dX3_isWord_134 (by decide) ?_
      exact rz_R hx hb hr hlk ((b2i_f (fun h => c_297 (by rw [(wdB_i4.mp h).2.1]; rfl))).symm) dX3_isWord_135
    · refine lv_aload_n hx hb dX3_isWord_62 rfl (lv_at hl 1 rfl) ?_
      refine lv_iconst (v := 0) hx hb dX3_isWord_63 (by decide) ?_
      refine lv_iload_n hx hb dX3_isWord_64 rfl (lv_at hl 2 rfl) ?_
      refine cv_R1 (rest := []) hc (M_isAt l hW (T := T) hT hT1 hB 0 (by decide) 115) (lw_V q1197 q1199 qs43 q70 q1200) nd_X3_isAt ⟨Nat.le_of_ble_eq_true rfl, Nat.le_of_ble_eq_true rfl⟩ (MW.recv hK hW) rfl hl.1 rfl (Nat.le_of_ble_eq_true rfl) dX3_isWord_65 ⟨Nat.le_of_ble_eq_true rfl, Nat.le_of_ble_eq_true rfl⟩ ?_
      refine sm_topi (v := b2i (bA (f 5) T (pp.1 + 0) = 115)) (b2i_congr (or_iff_right (by decide))) ?_
      refine bi_eq (tgt := 134) hx hb dX3_isWord_68 (by decide) (fun c_298 => ?_) (fun c_298 => ?_)
      · refine lv_iconst (v := 0) hx hb dX3_isWord_134 (by decide) ?_
        exact rz_R hx hb hr hlk ((b2i_f (fun h => c_298 (wdB_i4.mp h).2.2.1)).symm) dX3_isWord_135
      · refine lv_aload_n hx hb dX3_isWord_71 rfl (lv_at hl 1 rfl) ?_
        refine lv_iconst (v := 1) hx hb dX3_isWord_72 (by decide) ?_
        refine lv_iload_n hx hb dX3_isWord_73 rfl (lv_at hl 3 rfl) ?_
        refine cv_R1 (rest := []) hc (M_isAt l hW (T := T) hT hT1 hB 1 (by decide) 105) (lw_V q1197 q1199 qs43 q70 q1200) nd_X3_isAt ⟨Nat.le_of_ble_eq_true rfl, Nat.le_of_ble_eq_true rfl⟩ (MW.recv hK hW) rfl hl.1 rfl (Nat.le_of_ble_eq_true rfl) dX3_isWord_74 ⟨Nat.le_of_ble_eq_true rfl, Nat.le_of_ble_eq_true rfl⟩ ?_
        refine sm_topi (v := b2i (bA (f 5) T (pp.1 + 1) = 105)) (b2i_congr (or_iff_right (by decide))) ?_
        refine bi_eq (tgt := 134) hx hb dX3_isWord_77 (by decide) (fun c_299 => ?_) (fun c_299 => ?_)
        · refine lv_iconst (v := 0) hx hb dX3_isWord_134 (by decide) ?_
          exact rz_R hx hb hr hlk ((b2i_f (fun h => c_299 (wdB_i4.mp h).2.2.2.1)).symm) dX3_isWord_135
        · refine lv_aload_n hx hb dX3_isWord_80 rfl (lv_at hl 1 rfl) ?_
          refine lv_iconst (v := 2) hx hb dX3_isWord_81 (by decide) ?_
          refine lv_iload_n hx hb dX3_isWord_82 rfl (lv_at hl 4 rfl) ?_
          refine cv_R1 (rest := []) hc (M_isAt l hW (T := T) hT hT1 hB 2 (by decide) 100) (lw_V q1197 q1199 qs43 q70 q1200) nd_X3_isAt ⟨Nat.le_of_ble_eq_true rfl, Nat.le_of_ble_eq_true rfl⟩ (MW.recv hK hW) rfl hl.1 rfl (Nat.le_of_ble_eq_true rfl) dX3_isWord_83 ⟨Nat.le_of_ble_eq_true rfl, Nat.le_of_ble_eq_true rfl⟩ ?_
          refine sm_topi (v := b2i (bA (f 5) T (pp.1 + 2) = 100)) (b2i_congr (or_iff_right (by decide))) ?_
          refine bi_eq (tgt := 134) hx hb dX3_isWord_86 (by decide) (fun c_300 => ?_) (fun c_300 => ?_)
          · refine lv_iconst (v := 0) hx hb dX3_isWord_134 (by decide) ?_
            exact rz_R hx hb hr hlk ((b2i_f (fun h => c_300 (wdB_i4.mp h).2.2.2.2.1)).symm) dX3_isWord_135
          · refine lv_aload_n hx hb dX3_isWord_89 rfl (lv_at hl 1 rfl) ?_
            refine lv_iconst (v := 3) hx hb dX3_isWord_90 (by decide) ?_
            refine lv_iload hx hb dX3_isWord_91 (lv_at hl 5 rfl) ?_
            refine cv_R1 (rest := []) hc (M_isAt l hW (T := T) hT hT1 hB 3 (by decide) 101) (lw_V q1197 q1199 qs43 q70 q1200) nd_X3_isAt ⟨Nat.le_of_ble_eq_true rfl, Nat.le_of_ble_eq_true rfl⟩ (MW.recv hK hW) rfl hl.1 rfl (Nat.le_of_ble_eq_true rfl) dX3_isWord_93 ⟨Nat.le_of_ble_eq_true rfl, Nat.le_of_ble_eq_true rfl⟩ ?_
            refine sm_topi (v := b2i (bA (f 5) T (pp.1 + 3) = 101)) (b2i_congr (or_iff_right (by decide))) ?_
            refine bi_eq (tgt := 134) hx hb dX3_isWord_96 (by decide) (fun c_301 => ?_) (fun c_301 => ?_)
            · refine lv_iconst (v := 0) hx hb dX3_isWord_134 (by decide) ?_
              exact rz_R hx hb hr hlk ((b2i_f (fun h => c_301 (wdB_i4.mp h).2.2.2.2.2)).symm) dX3_isWord_135
            · refine lv_aload_n hx hb dX3_isWord_99 rfl (lv_at hl 1 rfl) ?_
              refine lv_iconst (v := 4) hx hb dX3_isWord_100 (by decide) ?_
              refine lv_iload hx hb dX3_isWord_101 (lv_at hl 6 rfl) ?_
              refine cv_R1 (rest := []) hc (M_isAt l hW (T := T) hT hT1 hB 4 (by decide) 0) (lw_V q1197 q1199 qs43 q70 q1200) nd_X3_isAt ⟨Nat.le_of_ble_eq_true rfl, Nat.le_of_ble_eq_true rfl⟩ (MW.recv hK hW) rfl hl.1 rfl (Nat.le_of_ble_eq_true rfl) dX3_isWord_103 ⟨Nat.le_of_ble_eq_true rfl, Nat.le_of_ble_eq_true rfl⟩ ?_
              refine sm_topi (v := 1) (b2i_t (Or.inl rfl)) ?_
              refine lv_if_eq (tgt := 134) hx hb dX3_isWord_106 (by decide) (fun h => absurd h (by decide)) (fun _ => ?_)
              refine lv_aload_n hx hb dX3_isWord_109 rfl (lv_at hl 1 rfl) ?_
              refine lv_iconst (v := 5) hx hb dX3_isWord_110 (by decide) ?_
              refine lv_iload hx hb dX3_isWord_111 (lv_at hl 7 rfl) ?_
              refine cv_R1 (rest := []) hc (M_isAt l hW (T := T) hT hT1 hB 5 (by decide) 0) (lw_V q1197 q1199 qs43 q70 q1200) nd_X3_isAt ⟨Nat.le_of_ble_eq_true rfl, Nat.le_of_ble_eq_true rfl⟩ (MW.recv hK hW) rfl hl.1 rfl (Nat.le_of_ble_eq_true rfl) dX3_isWord_113 ⟨Nat.le_of_ble_eq_true rfl, Nat.le_of_ble_eq_true rfl⟩ ?_
              refine sm_topi (v := 1) (b2i_t (Or.inl rfl)) ?_
              refine lv_if_eq (tgt := 134) hx hb dX3_isWord_116 (by decide) (fun h => absurd h (by decide)) (fun _ => ?_)
              refine lv_aload_n hx hb dX3_isWord_119 rfl (lv_at hl 1 rfl) ?_
              refine lv_bipush (v := 6) hx hb dX3_isWord_120 (by decide) ?_
              refine lv_iload hx hb dX3_isWord_122 (lv_at hl 8 rfl) ?_
              refine cv_R1 (rest := []) hc (M_isAt l hW (T := T) hT hT1 hB 6 (by decide) 0) (lw_V q1197 q1199 qs43 q70 q1200) nd_X3_isAt ⟨Nat.le_of_ble_eq_true rfl, Nat.le_of_ble_eq_true rfl⟩ (MW.recv hK hW) rfl hl.1 rfl (Nat.le_of_ble_eq_true rfl) dX3_isWord_124 ⟨Nat.le_of_ble_eq_true rfl, Nat.le_of_ble_eq_true rfl⟩ ?_
              refine sm_topi (v := 1) (b2i_t (Or.inl rfl)) ?_
              refine lv_if_eq (tgt := 134) hx hb dX3_isWord_127 (by decide) (fun h => absurd h (by decide)) (fun _ => ?_)
              refine lv_iconst (v := 1) hx hb dX3_isWord_130 (by decide) ?_
              refine lv_goto (tgt := 135) hx hb dX3_isWord_131 (by decide) ?_
              exact rz_R hx hb hr hlk ((b2i_t (wdB_i4.mpr ⟨c_296, (nI_eq (by omega) (by decide)).mp (show nI (pp.2.1 - pp.1) = nI 4 from c_297), c_298, c_299, c_300, c_301⟩)).symm) dX3_isWord_135
set_option maxHeartbeats 4000000 in
theorem M_w_cost (l : Launch) {G : GD} {A : Nat → Prop} {f : Nat → Nat → Int32} {g : Nat → Nat → Int64} {ad : Nat → Nat} {H0 : Heap} {pp : PS} (hW : MW G A (psT f pp) g ad H0) {T : Nat} (hT : f 6 0 = nI T) (hT1 : T ≤ 120) (hB : PB T pp)  : MetR l G yX3_isWord cX3_isWord 9 (some .boolean) 2 [.ref (ad 23), .int 99, .int 111, .int 115, .int 116, .int 0, .int 0, .int 0] H0 (some (.int (b2i (wdB (f 5) T pp [99, 111, 115, 116] = true)))) := by
  refine mx_of (by decide) (Nat.le_of_ble_eq_true rfl) ?_
  intro p e s m below meth c hx hb hr hc hlk hnm hs0 ls hl
  subst hs0
  have hown := hc.2.2.2.1
  have hts := hc.2.2.2.2.1
  have hK := hc.2.2.2.2.2
  have hl : lv_has ls 9 [(0, .ref (ad 23)), (1, .int 99), (2, .int 111), (3, .int 115), (4, .int 116), (5, .int 0), (6, .int 0), (7, .int 0)] := hl
  have hb1 := hB.1
  have hb2 := hB.2
  refine lv_iload hx hb dX3_isWord_0 (lv_at hl 4 rfl) ?_
  refine lv_if_ne (tgt := 9) hx hb dX3_isWord_2 (by decide) (fun _ => ?_) (fun h => absurd h (by decide))
  refine lv_iload hx hb dX3_isWord_9 (lv_at hl 5 rfl) ?_
  refine lv_if_ne (tgt := 18) hx hb dX3_isWord_11 (by decide) (fun h => absurd (by decide) h) (fun _ => ?_)
  refine lv_iconst (v := 4) hx hb dX3_isWord_14 (by decide) ?_
  refine lv_goto (tgt := 39) hx hb dX3_isWord_15 (by decide) ?_
  refine lv_istore (lv' := [(8, .int 4), (0, .ref (ad 23)), (1, .int 99), (2, .int 111), (3, .int 115), (4, .int 116), (5, .int 0), (6, .int 0), (7, .int 0)]) hx hb dX3_isWord_39 hl (by decide) rfl (fun ls hl => ?_)
  refine lv_aload_n hx hb dX3_isWord_41 rfl (lv_at hl 1 rfl) ?_
  refine m_get hc hW 10 (by decide) rfl q1010 rfl rfl dX3_isWord_42 ?_
  refine sm_topi (v := b2i (pp.2.2.2.1 = true)) rfl ?_
  refine bi_ne (tgt := 134) hx hb dX3_isWord_45 (by decide) (fun c_302 => ?_) (fun c_302 => ?_)
  · refine lv_iconst (v := 0) hx hb dX3_isWord_134 (by decide) ?_
    exact rz_R hx hb hr hlk ((b2i_f (fun h => absurd c_302 (wdB_i4.mp h).1)).symm) dX3_isWord_135
  · refine lv_aload_n hx hb dX3_isWord_48 rfl (lv_at hl 1 rfl) ?_
    refine m_get hc hW 8 (by decide) rfl q1008 rfl rfl dX3_isWord_49 ?_
    refine sm_topi (v := nI pp.2.1) rfl ?_
    refine lv_aload_n hx hb dX3_isWord_52 rfl (lv_at hl 1 rfl) ?_
    refine m_get hc hW 7 (by decide) rfl q1007 rfl rfl dX3_isWord_53 ?_
    refine sm_topi (v := nI pp.1) rfl ?_
    refine lv_isub hx hb dX3_isWord_56 ?_
    refine sm_topi (v := nI (pp.2.1 - pp.1)) (pk_sub hb1) ?_
    refine lv_iload hx hb dX3_isWord_57 (lv_at hl 0 rfl) ?_
    refine lv_icmp_ne (tgt := 134) hx hb dX3_isWord_59 (by decide) (fun c_303 => ?_) (fun c_303 => ?_)
    · refine lv_iconst (v := 0) hx hb dX3_isWord_134 (by decide) ?_
      exact rz_R hx hb hr hlk ((b2i_f (fun h => c_303 (by rw [(wdB_i4.mp h).2.1]; rfl))).symm) dX3_isWord_135
    · refine lv_aload_n hx hb dX3_isWord_62 rfl (lv_at hl 1 rfl) ?_
      refine lv_iconst (v := 0) hx hb dX3_isWord_63 (by decide) ?_
      refine lv_iload_n hx hb dX3_isWord_64 rfl (lv_at hl 2 rfl) ?_
      refine cv_R1 (rest := []) hc (M_isAt l hW (T := T) hT hT1 hB 0 (by decide) 99) (lw_V q1197 q1199 qs43 q70 q1200) nd_X3_isAt ⟨Nat.le_of_ble_eq_true rfl, Nat.le_of_ble_eq_true rfl⟩ (MW.recv hK hW) rfl hl.1 rfl (Nat.le_of_ble_eq_true rfl) dX3_isWord_65 ⟨Nat.le_of_ble_eq_true rfl, Nat.le_of_ble_eq_true rfl⟩ ?_
      refine sm_topi (v := b2i (bA (f 5) T (pp.1 + 0) = 99)) (b2i_congr (or_iff_right (by decide))) ?_
      refine bi_eq (tgt := 134) hx hb dX3_isWord_68 (by decide) (fun c_304 => ?_) (fun c_304 => ?_)
      · refine lv_iconst (v := 0) hx hb dX3_isWord_134 (by decide) ?_
        exact rz_R hx hb hr hlk ((b2i_f (fun h => c_304 (wdB_i4.mp h).2.2.1)).symm) dX3_isWord_135
      · refine lv_aload_n hx hb dX3_isWord_71 rfl (lv_at hl 1 rfl) ?_
        refine lv_iconst (v := 1) hx hb dX3_isWord_72 (by decide) ?_
        refine lv_iload_n hx hb dX3_isWord_73 rfl (lv_at hl 3 rfl) ?_
        refine cv_R1 (rest := []) hc (M_isAt l hW (T := T) hT hT1 hB 1 (by decide) 111) (lw_V q1197 q1199 qs43 q70 q1200) nd_X3_isAt ⟨Nat.le_of_ble_eq_true rfl, Nat.le_of_ble_eq_true rfl⟩ (MW.recv hK hW) rfl hl.1 rfl (Nat.le_of_ble_eq_true rfl) dX3_isWord_74 ⟨Nat.le_of_ble_eq_true rfl, Nat.le_of_ble_eq_true rfl⟩ ?_
        refine sm_topi (v := b2i (bA (f 5) T (pp.1 + 1) = 111)) (b2i_congr (or_iff_right (by decide))) ?_
        refine bi_eq (tgt := 134) hx hb dX3_isWord_77 (by decide) (fun c_305 => ?_) (fun c_305 => ?_)
        · refine lv_iconst (v := 0) hx hb dX3_isWord_134 (by decide) ?_
          exact rz_R hx hb hr hlk ((b2i_f (fun h => c_305 (wdB_i4.mp h).2.2.2.1)).symm) dX3_isWord_135
        · refine lv_aload_n hx hb dX3_isWord_80 rfl (lv_at hl 1 rfl) ?_
          refine lv_iconst (v := 2) hx hb dX3_isWord_81 (by decide) ?_
          refine lv_iload_n hx hb dX3_isWord_82 rfl (lv_at hl 4 rfl) ?_
          refine cv_R1 (rest := []) hc (M_isAt l hW (T := T) hT hT1 hB 2 (by decide) 115) (lw_V q1197 q1199 qs43 q70 q1200) nd_X3_isAt ⟨Nat.le_of_ble_eq_true rfl, Nat.le_of_ble_eq_true rfl⟩ (MW.recv hK hW) rfl hl.1 rfl (Nat.le_of_ble_eq_true rfl) dX3_isWord_83 ⟨Nat.le_of_ble_eq_true rfl, Nat.le_of_ble_eq_true rfl⟩ ?_
          refine sm_topi (v := b2i (bA (f 5) T (pp.1 + 2) = 115)) (b2i_congr (or_iff_right (by decide))) ?_
          refine bi_eq (tgt := 134) hx hb dX3_isWord_86 (by decide) (fun c_306 => ?_) (fun c_306 => ?_)
          · refine lv_iconst (v := 0) hx hb dX3_isWord_134 (by decide) ?_
            exact rz_R hx hb hr hlk ((b2i_f (fun h => c_306 (wdB_i4.mp h).2.2.2.2.1)).symm) dX3_isWord_135
          · refine lv_aload_n hx hb dX3_isWord_89 rfl (lv_at hl 1 rfl) ?_
            refine lv_iconst (v := 3) hx hb dX3_isWord_90 (by decide) ?_
            refine lv_iload hx hb dX3_isWord_91 (lv_at hl 5 rfl) ?_
            refine cv_R1 (rest := []) hc (M_isAt l hW (T := T) hT hT1 hB 3 (by decide) 116) (lw_V q1197 q1199 qs43 q70 q1200) nd_X3_isAt ⟨Nat.le_of_ble_eq_true rfl, Nat.le_of_ble_eq_true rfl⟩ (MW.recv hK hW) rfl hl.1 rfl (Nat.le_of_ble_eq_true rfl) dX3_isWord_93 ⟨Nat.le_of_ble_eq_true rfl, Nat.le_of_ble_eq_true rfl⟩ ?_
            refine sm_topi (v := b2i (bA (f 5) T (pp.1 + 3) = 116)) (b2i_congr (or_iff_right (by decide))) ?_
            refine bi_eq (tgt := 134) hx hb dX3_isWord_96 (by decide) (fun c_307 => ?_) (fun c_307 => ?_)
            · refine lv_iconst (v := 0) hx hb dX3_isWord_134 (by decide) ?_
              exact rz_R hx hb hr hlk ((b2i_f (fun h => c_307 (wdB_i4.mp h).2.2.2.2.2)).symm) dX3_isWord_135
            · refine lv_aload_n hx hb dX3_isWord_99 rfl (lv_at hl 1 rfl) ?_
              refine lv_iconst (v := 4) hx hb dX3_isWord_100 (by decide) ?_
              refine lv_iload hx hb dX3_isWord_101 (lv_at hl 6 rfl) ?_
              refine cv_R1 (rest := []) hc (M_isAt l hW (T := T) hT hT1 hB 4 (by decide) 0) (lw_V q1197 q1199 qs43 q70 q1200) nd_X3_isAt ⟨Nat.le_of_ble_eq_true rfl, Nat.le_of_ble_eq_true rfl⟩ (MW.recv hK hW) rfl hl.1 rfl (Nat.le_of_ble_eq_true rfl) dX3_isWord_103 ⟨Nat.le_of_ble_eq_true rfl, Nat.le_of_ble_eq_true rfl⟩ ?_
              refine sm_topi (v := 1) (b2i_t (Or.inl rfl)) ?_
              refine lv_if_eq (tgt := 134) hx hb dX3_isWord_106 (by decide) (fun h => absurd h (by decide)) (fun _ => ?_)
              refine lv_aload_n hx hb dX3_isWord_109 rfl (lv_at hl 1 rfl) ?_
              refine lv_iconst (v := 5) hx hb dX3_isWord_110 (by decide) ?_
              refine lv_iload hx hb dX3_isWord_111 (lv_at hl 7 rfl) ?_
              refine cv_R1 (rest := []) hc (M_isAt l hW (T := T) hT hT1 hB 5 (by decide) 0) (lw_V q1197 q1199 qs43 q70 q1200) nd_X3_isAt ⟨Nat.le_of_ble_eq_true rfl, Nat.le_of_ble_eq_true rfl⟩ (MW.recv hK hW) rfl hl.1 rfl (Nat.le_of_ble_eq_true rfl) dX3_isWord_113 ⟨Nat.le_of_ble_eq_true rfl, Nat.le_of_ble_eq_true rfl⟩ ?_
              refine sm_topi (v := 1) (b2i_t (Or.inl rfl)) ?_
              refine lv_if_eq (tgt := 134) hx hb dX3_isWord_116 (by decide) (fun h => absurd h (by decide)) (fun _ => ?_)
              refine lv_aload_n hx hb dX3_isWord_119 rfl (lv_at hl 1 rfl) ?_
              refine lv_bipush (v := 6) hx hb dX3_isWord_120 (by decide) ?_
              refine lv_iload hx hb dX3_isWord_122 (lv_at hl 8 rfl) ?_
              refine cv_R1 (rest := []) hc (M_isAt l hW (T := T) hT hT1 hB 6 (by decide) 0) (lw_V q1197 q1199 qs43 q70 q1200) nd_X3_isAt ⟨Nat.le_of_ble_eq_true rfl, Nat.le_of_ble_eq_true rfl⟩ (MW.recv hK hW) rfl hl.1 rfl (Nat.le_of_ble_eq_true rfl) dX3_isWord_124 ⟨Nat.le_of_ble_eq_true rfl, Nat.le_of_ble_eq_true rfl⟩ ?_
              refine sm_topi (v := 1) (b2i_t (Or.inl rfl)) ?_
              refine lv_if_eq (tgt := 134) hx hb dX3_isWord_127 (by decide) (fun h => absurd h (by decide)) (fun _ => ?_)
              refine lv_iconst (v := 1) hx hb dX3_isWord_130 (by decide) ?_
              refine lv_goto (tgt := 135) hx hb dX3_isWord_131 (by decide) ?_
              exact rz_R hx hb hr hlk ((b2i_t (wdB_i4.mpr ⟨c_302, (nI_eq (by omega) (by decide)).mp (show nI (pp.2.1 - pp.1) = nI 4 from c_303), c_304, c_305, c_306, c_307⟩)).symm) dX3_isWord_135
set_option maxHeartbeats 4000000 in
theorem M_w_room (l : Launch) {G : GD} {A : Nat → Prop} {f : Nat → Nat → Int32} {g : Nat → Nat → Int64} {ad : Nat → Nat} {H0 : Heap} {pp : PS} (hW : MW G A (psT f pp) g ad H0) {T : Nat} (hT : f 6 0 = nI T) (hT1 : T ≤ 120) (hB : PB T pp)  : MetR l G yX3_isWord cX3_isWord 9 (some .boolean) 2 [.ref (ad 23), .int 114, .int 111, .int 111, .int 109, .int 0, .int 0, .int 0] H0 (some (.int (b2i (wdB (f 5) T pp [114, 111, 111, 109] = true)))) := by
  refine mx_of (by decide) (Nat.le_of_ble_eq_true rfl) ?_
  intro p e s m below meth c hx hb hr hc hlk hnm hs0 ls hl
  subst hs0
  have hown := hc.2.2.2.1
  have hts := hc.2.2.2.2.1
  have hK := hc.2.2.2.2.2
  have hl : lv_has ls 9 [(0, .ref (ad 23)), (1, .int 114), (2, .int 111), (3, .int 111), (4, .int 109), (5, .int 0), (6, .int 0), (7, .int 0)] := hl
  have hb1 := hB.1
  have hb2 := hB.2
  refine lv_iload hx hb dX3_isWord_0 (lv_at hl 4 rfl) ?_
  refine lv_if_ne (tgt := 9) hx hb dX3_isWord_2 (by decide) (fun _ => ?_) (fun h => absurd h (by decide))
  refine lv_iload hx hb dX3_isWord_9 (lv_at hl 5 rfl) ?_
  refine lv_if_ne (tgt := 18) hx hb dX3_isWord_11 (by decide) (fun h => absurd (by decide) h) (fun _ => ?_)
  refine lv_iconst (v := 4) hx hb dX3_isWord_14 (by decide) ?_
  refine lv_goto (tgt := 39) hx hb dX3_isWord_15 (by decide) ?_
  refine lv_istore (lv' := [(8, .int 4), (0, .ref (ad 23)), (1, .int 114), (2, .int 111), (3, .int 111), (4, .int 109), (5, .int 0), (6, .int 0), (7, .int 0)]) hx hb dX3_isWord_39 hl (by decide) rfl (fun ls hl => ?_)
  refine lv_aload_n hx hb dX3_isWord_41 rfl (lv_at hl 1 rfl) ?_
  refine m_get hc hW 10 (by decide) rfl q1010 rfl rfl dX3_isWord_42 ?_
  refine sm_topi (v := b2i (pp.2.2.2.1 = true)) rfl ?_
  refine bi_ne (tgt := 134) hx hb dX3_isWord_45 (by decide) (fun c_308 => ?_) (fun c_308 => ?_)
  · refine lv_iconst (v := 0) hx hb dX3_isWord_134 (by decide) ?_
    exact rz_R hx hb hr hlk ((b2i_f (fun h => absurd c_308 (wdB_i4.mp h).1)).symm) dX3_isWord_135
  · refine lv_aload_n hx hb dX3_isWord_48 rfl (lv_at hl 1 rfl) ?_
    refine m_get hc hW 8 (by decide) rfl q1008 rfl rfl dX3_isWord_49 ?_
    refine sm_topi (v := nI pp.2.1) rfl ?_
    refine lv_aload_n hx hb dX3_isWord_52 rfl (lv_at hl 1 rfl) ?_
    refine m_get hc hW 7 (by decide) rfl q1007 rfl rfl dX3_isWord_53 ?_
    refine sm_topi (v := nI pp.1) rfl ?_
    refine lv_isub hx hb dX3_isWord_56 ?_
    refine sm_topi (v := nI (pp.2.1 - pp.1)) (pk_sub hb1) ?_
    refine lv_iload hx hb dX3_isWord_57 (lv_at hl 0 rfl) ?_
    refine lv_icmp_ne (tgt := 134) hx hb dX3_isWord_59 (by decide) (fun c_309 => ?_) (fun c_309 => ?_)
    · refine lv_iconst (v := 0) hx hb dX3_isWord_134 (by decide) ?_
      exact rz_R hx hb hr hlk ((b2i_f (fun h => c_309 (by rw [(wdB_i4.mp h).2.1]; rfl))).symm) dX3_isWord_135
    · refine lv_aload_n hx hb dX3_isWord_62 rfl (lv_at hl 1 rfl) ?_
      refine lv_iconst (v := 0) hx hb dX3_isWord_63 (by decide) ?_
      refine lv_iload_n hx hb dX3_isWord_64 rfl (lv_at hl 2 rfl) ?_
      refine cv_R1 (rest := []) hc (M_isAt l hW (T := T) hT hT1 hB 0 (by decide) 114) (lw_V q1197 q1199 qs43 q70 q1200) nd_X3_isAt ⟨Nat.le_of_ble_eq_true rfl, Nat.le_of_ble_eq_true rfl⟩ (MW.recv hK hW) rfl hl.1 rfl (Nat.le_of_ble_eq_true rfl) dX3_isWord_65 ⟨Nat.le_of_ble_eq_true rfl, Nat.le_of_ble_eq_true rfl⟩ ?_
      refine sm_topi (v := b2i (bA (f 5) T (pp.1 + 0) = 114)) (b2i_congr (or_iff_right (by decide))) ?_
      refine bi_eq (tgt := 134) hx hb dX3_isWord_68 (by decide) (fun c_310 => ?_) (fun c_310 => ?_)
      · refine lv_iconst (v := 0) hx hb dX3_isWord_134 (by decide) ?_
        exact rz_R hx hb hr hlk ((b2i_f (fun h => c_310 (wdB_i4.mp h).2.2.1)).symm) dX3_isWord_135
      · refine lv_aload_n hx hb dX3_isWord_71 rfl (lv_at hl 1 rfl) ?_
        refine lv_iconst (v := 1) hx hb dX3_isWord_72 (by decide) ?_
        refine lv_iload_n hx hb dX3_isWord_73 rfl (lv_at hl 3 rfl) ?_
        refine cv_R1 (rest := []) hc (M_isAt l hW (T := T) hT hT1 hB 1 (by decide) 111) (lw_V q1197 q1199 qs43 q70 q1200) nd_X3_isAt ⟨Nat.le_of_ble_eq_true rfl, Nat.le_of_ble_eq_true rfl⟩ (MW.recv hK hW) rfl hl.1 rfl (Nat.le_of_ble_eq_true rfl) dX3_isWord_74 ⟨Nat.le_of_ble_eq_true rfl, Nat.le_of_ble_eq_true rfl⟩ ?_
        refine sm_topi (v := b2i (bA (f 5) T (pp.1 + 1) = 111)) (b2i_congr (or_iff_right (by decide))) ?_
        refine bi_eq (tgt := 134) hx hb dX3_isWord_77 (by decide) (fun c_311 => ?_) (fun c_311 => ?_)
        · refine lv_iconst (v := 0) hx hb dX3_isWord_134 (by decide) ?_
          exact rz_R hx hb hr hlk ((b2i_f (fun h => c_311 (wdB_i4.mp h).2.2.2.1)).symm) dX3_isWord_135
        · refine lv_aload_n hx hb dX3_isWord_80 rfl (lv_at hl 1 rfl) ?_
          refine lv_iconst (v := 2) hx hb dX3_isWord_81 (by decide) ?_
          refine lv_iload_n hx hb dX3_isWord_82 rfl (lv_at hl 4 rfl) ?_
          refine cv_R1 (rest := []) hc (M_isAt l hW (T := T) hT hT1 hB 2 (by decide) 111) (lw_V q1197 q1199 qs43 q70 q1200) nd_X3_isAt ⟨Nat.le_of_ble_eq_true rfl, Nat.le_of_ble_eq_true rfl⟩ (MW.recv hK hW) rfl hl.1 rfl (Nat.le_of_ble_eq_true rfl) dX3_isWord_83 ⟨Nat.le_of_ble_eq_true rfl, Nat.le_of_ble_eq_true rfl⟩ ?_
          refine sm_topi (v := b2i (bA (f 5) T (pp.1 + 2) = 111)) (b2i_congr (or_iff_right (by decide))) ?_
          refine bi_eq (tgt := 134) hx hb dX3_isWord_86 (by decide) (fun c_312 => ?_) (fun c_312 => ?_)
          · refine lv_iconst (v := 0) hx hb dX3_isWord_134 (by decide) ?_
            exact rz_R hx hb hr hlk ((b2i_f (fun h => c_312 (wdB_i4.mp h).2.2.2.2.1)).symm) dX3_isWord_135
          · refine lv_aload_n hx hb dX3_isWord_89 rfl (lv_at hl 1 rfl) ?_
            refine lv_iconst (v := 3) hx hb dX3_isWord_90 (by decide) ?_
            refine lv_iload hx hb dX3_isWord_91 (lv_at hl 5 rfl) ?_
            refine cv_R1 (rest := []) hc (M_isAt l hW (T := T) hT hT1 hB 3 (by decide) 109) (lw_V q1197 q1199 qs43 q70 q1200) nd_X3_isAt ⟨Nat.le_of_ble_eq_true rfl, Nat.le_of_ble_eq_true rfl⟩ (MW.recv hK hW) rfl hl.1 rfl (Nat.le_of_ble_eq_true rfl) dX3_isWord_93 ⟨Nat.le_of_ble_eq_true rfl, Nat.le_of_ble_eq_true rfl⟩ ?_
            refine sm_topi (v := b2i (bA (f 5) T (pp.1 + 3) = 109)) (b2i_congr (or_iff_right (by decide))) ?_
            refine bi_eq (tgt := 134) hx hb dX3_isWord_96 (by decide) (fun c_313 => ?_) (fun c_313 => ?_)
            · refine lv_iconst (v := 0) hx hb dX3_isWord_134 (by decide) ?_
              exact rz_R hx hb hr hlk ((b2i_f (fun h => c_313 (wdB_i4.mp h).2.2.2.2.2)).symm) dX3_isWord_135
            · refine lv_aload_n hx hb dX3_isWord_99 rfl (lv_at hl 1 rfl) ?_
              refine lv_iconst (v := 4) hx hb dX3_isWord_100 (by decide) ?_
              refine lv_iload hx hb dX3_isWord_101 (lv_at hl 6 rfl) ?_
              refine cv_R1 (rest := []) hc (M_isAt l hW (T := T) hT hT1 hB 4 (by decide) 0) (lw_V q1197 q1199 qs43 q70 q1200) nd_X3_isAt ⟨Nat.le_of_ble_eq_true rfl, Nat.le_of_ble_eq_true rfl⟩ (MW.recv hK hW) rfl hl.1 rfl (Nat.le_of_ble_eq_true rfl) dX3_isWord_103 ⟨Nat.le_of_ble_eq_true rfl, Nat.le_of_ble_eq_true rfl⟩ ?_
              refine sm_topi (v := 1) (b2i_t (Or.inl rfl)) ?_
              refine lv_if_eq (tgt := 134) hx hb dX3_isWord_106 (by decide) (fun h => absurd h (by decide)) (fun _ => ?_)
              refine lv_aload_n hx hb dX3_isWord_109 rfl (lv_at hl 1 rfl) ?_
              refine lv_iconst (v := 5) hx hb dX3_isWord_110 (by decide) ?_
              refine lv_iload hx hb dX3_isWord_111 (lv_at hl 7 rfl) ?_
              refine cv_R1 (rest := []) hc (M_isAt l hW (T := T) hT hT1 hB 5 (by decide) 0) (lw_V q1197 q1199 qs43 q70 q1200) nd_X3_isAt ⟨Nat.le_of_ble_eq_true rfl, Nat.le_of_ble_eq_true rfl⟩ (MW.recv hK hW) rfl hl.1 rfl (Nat.le_of_ble_eq_true rfl) dX3_isWord_113 ⟨Nat.le_of_ble_eq_true rfl, Nat.le_of_ble_eq_true rfl⟩ ?_
              refine sm_topi (v := 1) (b2i_t (Or.inl rfl)) ?_
              refine lv_if_eq (tgt := 134) hx hb dX3_isWord_116 (by decide) (fun h => absurd h (by decide)) (fun _ => ?_)
              refine lv_aload_n hx hb dX3_isWord_119 rfl (lv_at hl 1 rfl) ?_
              refine lv_bipush (v := 6) hx hb dX3_isWord_120 (by decide) ?_
              refine lv_iload hx hb dX3_isWord_122 (lv_at hl 8 rfl) ?_
              refine cv_R1 (rest := []) hc (M_isAt l hW (T := T) hT hT1 hB 6 (by decide) 0) (lw_V q1197 q1199 qs43 q70 q1200) nd_X3_isAt ⟨Nat.le_of_ble_eq_true rfl, Nat.le_of_ble_eq_true rfl⟩ (MW.recv hK hW) rfl hl.1 rfl (Nat.le_of_ble_eq_true rfl) dX3_isWord_124 ⟨Nat.le_of_ble_eq_true rfl, Nat.le_of_ble_eq_true rfl⟩ ?_
              refine sm_topi (v := 1) (b2i_t (Or.inl rfl)) ?_
              refine lv_if_eq (tgt := 134) hx hb dX3_isWord_127 (by decide) (fun h => absurd h (by decide)) (fun _ => ?_)
              refine lv_iconst (v := 1) hx hb dX3_isWord_130 (by decide) ?_
              refine lv_goto (tgt := 135) hx hb dX3_isWord_131 (by decide) ?_
              exact rz_R hx hb hr hlk ((b2i_t (wdB_i4.mpr ⟨c_308, (nI_eq (by omega) (by decide)).mp (show nI (pp.2.1 - pp.1) = nI 4 from c_309), c_310, c_311, c_312, c_313⟩)).symm) dX3_isWord_135
set_option maxHeartbeats 4000000 in
theorem M_w_cold (l : Launch) {G : GD} {A : Nat → Prop} {f : Nat → Nat → Int32} {g : Nat → Nat → Int64} {ad : Nat → Nat} {H0 : Heap} {pp : PS} (hW : MW G A (psT f pp) g ad H0) {T : Nat} (hT : f 6 0 = nI T) (hT1 : T ≤ 120) (hB : PB T pp)  : MetR l G yX3_isWord cX3_isWord 9 (some .boolean) 2 [.ref (ad 23), .int 99, .int 111, .int 108, .int 100, .int 0, .int 0, .int 0] H0 (some (.int (b2i (wdB (f 5) T pp [99, 111, 108, 100] = true)))) := by
  refine mx_of (by decide) (Nat.le_of_ble_eq_true rfl) ?_
  intro p e s m below meth c hx hb hr hc hlk hnm hs0 ls hl
  subst hs0
  have hown := hc.2.2.2.1
  have hts := hc.2.2.2.2.1
  have hK := hc.2.2.2.2.2
  have hl : lv_has ls 9 [(0, .ref (ad 23)), (1, .int 99), (2, .int 111), (3, .int 108), (4, .int 100), (5, .int 0), (6, .int 0), (7, .int 0)] := hl
  have hb1 := hB.1
  have hb2 := hB.2
  refine lv_iload hx hb dX3_isWord_0 (lv_at hl 4 rfl) ?_
  refine lv_if_ne (tgt := 9) hx hb dX3_isWord_2 (by decide) (fun _ => ?_) (fun h => absurd h (by decide))
  refine lv_iload hx hb dX3_isWord_9 (lv_at hl 5 rfl) ?_
  refine lv_if_ne (tgt := 18) hx hb dX3_isWord_11 (by decide) (fun h => absurd (by decide) h) (fun _ => ?_)
  refine lv_iconst (v := 4) hx hb dX3_isWord_14 (by decide) ?_
  refine lv_goto (tgt := 39) hx hb dX3_isWord_15 (by decide) ?_
  refine lv_istore (lv' := [(8, .int 4), (0, .ref (ad 23)), (1, .int 99), (2, .int 111), (3, .int 108), (4, .int 100), (5, .int 0), (6, .int 0), (7, .int 0)]) hx hb dX3_isWord_39 hl (by decide) rfl (fun ls hl => ?_)
  refine lv_aload_n hx hb dX3_isWord_41 rfl (lv_at hl 1 rfl) ?_
  refine m_get hc hW 10 (by decide) rfl q1010 rfl rfl dX3_isWord_42 ?_
  refine sm_topi (v := b2i (pp.2.2.2.1 = true)) rfl ?_
  refine bi_ne (tgt := 134) hx hb dX3_isWord_45 (by decide) (fun c_314 => ?_) (fun c_314 => ?_)
  · refine lv_iconst (v := 0) hx hb dX3_isWord_134 (by decide) ?_
    exact rz_R hx hb hr hlk ((b2i_f (fun h => absurd c_314 (wdB_i4.mp h).1)).symm) dX3_isWord_135
  · refine lv_aload_n hx hb dX3_isWord_48 rfl (lv_at hl 1 rfl) ?_
    refine m_get hc hW 8 (by decide) rfl q1008 rfl rfl dX3_isWord_49 ?_
    refine sm_topi (v := nI pp.2.1) rfl ?_
    refine lv_aload_n hx hb dX3_isWord_52 rfl (lv_at hl 1 rfl) ?_
    refine m_get hc hW 7 (by decide) rfl q1007 rfl rfl dX3_isWord_53 ?_
    refine sm_topi (v := nI pp.1) rfl ?_
    refine lv_isub hx hb dX3_isWord_56 ?_
    refine sm_topi (v := nI (pp.2.1 - pp.1)) (pk_sub hb1) ?_
    refine lv_iload hx hb dX3_isWord_57 (lv_at hl 0 rfl) ?_
    refine lv_icmp_ne (tgt := 134) hx hb dX3_isWord_59 (by decide) (fun c_315 => ?_) (fun c_315 => ?_)
    · refine lv_iconst (v := 0) hx hb dX3_isWord_134 (by decide) ?_
      exact rz_R hx hb hr hlk ((b2i_f (fun h => c_315 (by rw [(wdB_i4.mp h).2.1]; rfl))).symm) dX3_isWord_135
    · refine lv_aload_n hx hb dX3_isWord_62 rfl (lv_at hl 1 rfl) ?_
      refine lv_iconst (v := 0) hx hb dX3_isWord_63 (by decide) ?_
      refine lv_iload_n hx hb dX3_isWord_64 rfl (lv_at hl 2 rfl) ?_
      refine cv_R1 (rest := []) hc (M_isAt l hW (T := T) hT hT1 hB 0 (by decide) 99) (lw_V q1197 q1199 qs43 q70 q1200) nd_X3_isAt ⟨Nat.le_of_ble_eq_true rfl, Nat.le_of_ble_eq_true rfl⟩ (MW.recv hK hW) rfl hl.1 rfl (Nat.le_of_ble_eq_true rfl) dX3_isWord_65 ⟨Nat.le_of_ble_eq_true rfl, Nat.le_of_ble_eq_true rfl⟩ ?_
      refine sm_topi (v := b2i (bA (f 5) T (pp.1 + 0) = 99)) (b2i_congr (or_iff_right (by decide))) ?_
      refine bi_eq (tgt := 134) hx hb dX3_isWord_68 (by decide) (fun c_316 => ?_) (fun c_316 => ?_)
      · refine lv_iconst (v := 0) hx hb dX3_isWord_134 (by decide) ?_
        exact rz_R hx hb hr hlk ((b2i_f (fun h => c_316 (wdB_i4.mp h).2.2.1)).symm) dX3_isWord_135
      · refine lv_aload_n hx hb dX3_isWord_71 rfl (lv_at hl 1 rfl) ?_
        refine lv_iconst (v := 1) hx hb dX3_isWord_72 (by decide) ?_
        refine lv_iload_n hx hb dX3_isWord_73 rfl (lv_at hl 3 rfl) ?_
        refine cv_R1 (rest := []) hc (M_isAt l hW (T := T) hT hT1 hB 1 (by decide) 111) (lw_V q1197 q1199 qs43 q70 q1200) nd_X3_isAt ⟨Nat.le_of_ble_eq_true rfl, Nat.le_of_ble_eq_true rfl⟩ (MW.recv hK hW) rfl hl.1 rfl (Nat.le_of_ble_eq_true rfl) dX3_isWord_74 ⟨Nat.le_of_ble_eq_true rfl, Nat.le_of_ble_eq_true rfl⟩ ?_
        refine sm_topi (v := b2i (bA (f 5) T (pp.1 + 1) = 111)) (b2i_congr (or_iff_right (by decide))) ?_
        refine bi_eq (tgt := 134) hx hb dX3_isWord_77 (by decide) (fun c_317 => ?_) (fun c_317 => ?_)
        · refine lv_iconst (v := 0) hx hb dX3_isWord_134 (by decide) ?_
          exact rz_R hx hb hr hlk ((b2i_f (fun h => c_317 (wdB_i4.mp h).2.2.2.1)).symm) dX3_isWord_135
        · refine lv_aload_n hx hb dX3_isWord_80 rfl (lv_at hl 1 rfl) ?_
          refine lv_iconst (v := 2) hx hb dX3_isWord_81 (by decide) ?_
          refine lv_iload_n hx hb dX3_isWord_82 rfl (lv_at hl 4 rfl) ?_
          refine cv_R1 (rest := []) hc (M_isAt l hW (T := T) hT hT1 hB 2 (by decide) 108) (lw_V q1197 q1199 qs43 q70 q1200) nd_X3_isAt ⟨Nat.le_of_ble_eq_true rfl, Nat.le_of_ble_eq_true rfl⟩ (MW.recv hK hW) rfl hl.1 rfl (Nat.le_of_ble_eq_true rfl) dX3_isWord_83 ⟨Nat.le_of_ble_eq_true rfl, Nat.le_of_ble_eq_true rfl⟩ ?_
          refine sm_topi (v := b2i (bA (f 5) T (pp.1 + 2) = 108)) (b2i_congr (or_iff_right (by decide))) ?_
          refine bi_eq (tgt := 134) hx hb dX3_isWord_86 (by decide) (fun c_318 => ?_) (fun c_318 => ?_)
          · refine lv_iconst (v := 0) hx hb dX3_isWord_134 (by decide) ?_
            exact rz_R hx hb hr hlk ((b2i_f (fun h => c_318 (wdB_i4.mp h).2.2.2.2.1)).symm) dX3_isWord_135
          · refine lv_aload_n hx hb dX3_isWord_89 rfl (lv_at hl 1 rfl) ?_
            refine lv_iconst (v := 3) hx hb dX3_isWord_90 (by decide) ?_
            refine lv_iload hx hb dX3_isWord_91 (lv_at hl 5 rfl) ?_
            refine cv_R1 (rest := []) hc (M_isAt l hW (T := T) hT hT1 hB 3 (by decide) 100) (lw_V q1197 q1199 qs43 q70 q1200) nd_X3_isAt ⟨Nat.le_of_ble_eq_true rfl, Nat.le_of_ble_eq_true rfl⟩ (MW.recv hK hW) rfl hl.1 rfl (Nat.le_of_ble_eq_true rfl) dX3_isWord_93 ⟨Nat.le_of_ble_eq_true rfl, Nat.le_of_ble_eq_true rfl⟩ ?_
            refine sm_topi (v := b2i (bA (f 5) T (pp.1 + 3) = 100)) (b2i_congr (or_iff_right (by decide))) ?_
            refine bi_eq (tgt := 134) hx hb dX3_isWord_96 (by decide) (fun c_319 => ?_) (fun c_319 => ?_)
            · refine lv_iconst (v := 0) hx hb dX3_isWord_134 (by decide) ?_
              exact rz_R hx hb hr hlk ((b2i_f (fun h => c_319 (wdB_i4.mp h).2.2.2.2.2)).symm) dX3_isWord_135
            · refine lv_aload_n hx hb dX3_isWord_99 rfl (lv_at hl 1 rfl) ?_
              refine lv_iconst (v := 4) hx hb dX3_isWord_100 (by decide) ?_
              refine lv_iload hx hb dX3_isWord_101 (lv_at hl 6 rfl) ?_
              refine cv_R1 (rest := []) hc (M_isAt l hW (T := T) hT hT1 hB 4 (by decide) 0) (lw_V q1197 q1199 qs43 q70 q1200) nd_X3_isAt ⟨Nat.le_of_ble_eq_true rfl, Nat.le_of_ble_eq_true rfl⟩ (MW.recv hK hW) rfl hl.1 rfl (Nat.le_of_ble_eq_true rfl) dX3_isWord_103 ⟨Nat.le_of_ble_eq_true rfl, Nat.le_of_ble_eq_true rfl⟩ ?_
              refine sm_topi (v := 1) (b2i_t (Or.inl rfl)) ?_
              refine lv_if_eq (tgt := 134) hx hb dX3_isWord_106 (by decide) (fun h => absurd h (by decide)) (fun _ => ?_)
              refine lv_aload_n hx hb dX3_isWord_109 rfl (lv_at hl 1 rfl) ?_
              refine lv_iconst (v := 5) hx hb dX3_isWord_110 (by decide) ?_
              refine lv_iload hx hb dX3_isWord_111 (lv_at hl 7 rfl) ?_
              refine cv_R1 (rest := []) hc (M_isAt l hW (T := T) hT hT1 hB 5 (by decide) 0) (lw_V q1197 q1199 qs43 q70 q1200) nd_X3_isAt ⟨Nat.le_of_ble_eq_true rfl, Nat.le_of_ble_eq_true rfl⟩ (MW.recv hK hW) rfl hl.1 rfl (Nat.le_of_ble_eq_true rfl) dX3_isWord_113 ⟨Nat.le_of_ble_eq_true rfl, Nat.le_of_ble_eq_true rfl⟩ ?_
              refine sm_topi (v := 1) (b2i_t (Or.inl rfl)) ?_
              refine lv_if_eq (tgt := 134) hx hb dX3_isWord_116 (by decide) (fun h => absurd h (by decide)) (fun _ => ?_)
              refine lv_aload_n hx hb dX3_isWord_119 rfl (lv_at hl 1 rfl) ?_
              refine lv_bipush (v := 6) hx hb dX3_isWord_120 (by decide) ?_
              refine lv_iload hx hb dX3_isWord_122 (lv_at hl 8 rfl) ?_
              refine cv_R1 (rest := []) hc (M_isAt l hW (T := T) hT hT1 hB 6 (by decide) 0) (lw_V q1197 q1199 qs43 q70 q1200) nd_X3_isAt ⟨Nat.le_of_ble_eq_true rfl, Nat.le_of_ble_eq_true rfl⟩ (MW.recv hK hW) rfl hl.1 rfl (Nat.le_of_ble_eq_true rfl) dX3_isWord_124 ⟨Nat.le_of_ble_eq_true rfl, Nat.le_of_ble_eq_true rfl⟩ ?_
              refine sm_topi (v := 1) (b2i_t (Or.inl rfl)) ?_
              refine lv_if_eq (tgt := 134) hx hb dX3_isWord_127 (by decide) (fun h => absurd h (by decide)) (fun _ => ?_)
              refine lv_iconst (v := 1) hx hb dX3_isWord_130 (by decide) ?_
              refine lv_goto (tgt := 135) hx hb dX3_isWord_131 (by decide) ?_
              exact rz_R hx hb hr hlk ((b2i_t (wdB_i4.mpr ⟨c_314, (nI_eq (by omega) (by decide)).mp (show nI (pp.2.1 - pp.1) = nI 4 from c_315), c_316, c_317, c_318, c_319⟩)).symm) dX3_isWord_135
set_option maxHeartbeats 4000000 in
theorem M_w_wind (l : Launch) {G : GD} {A : Nat → Prop} {f : Nat → Nat → Int32} {g : Nat → Nat → Int64} {ad : Nat → Nat} {H0 : Heap} {pp : PS} (hW : MW G A (psT f pp) g ad H0) {T : Nat} (hT : f 6 0 = nI T) (hT1 : T ≤ 120) (hB : PB T pp)  : MetR l G yX3_isWord cX3_isWord 9 (some .boolean) 2 [.ref (ad 23), .int 119, .int 105, .int 110, .int 100, .int 0, .int 0, .int 0] H0 (some (.int (b2i (wdB (f 5) T pp [119, 105, 110, 100] = true)))) := by
  refine mx_of (by decide) (Nat.le_of_ble_eq_true rfl) ?_
  intro p e s m below meth c hx hb hr hc hlk hnm hs0 ls hl
  subst hs0
  have hown := hc.2.2.2.1
  have hts := hc.2.2.2.2.1
  have hK := hc.2.2.2.2.2
  have hl : lv_has ls 9 [(0, .ref (ad 23)), (1, .int 119), (2, .int 105), (3, .int 110), (4, .int 100), (5, .int 0), (6, .int 0), (7, .int 0)] := hl
  have hb1 := hB.1
  have hb2 := hB.2
  refine lv_iload hx hb dX3_isWord_0 (lv_at hl 4 rfl) ?_
  refine lv_if_ne (tgt := 9) hx hb dX3_isWord_2 (by decide) (fun _ => ?_) (fun h => absurd h (by decide))
  refine lv_iload hx hb dX3_isWord_9 (lv_at hl 5 rfl) ?_
  refine lv_if_ne (tgt := 18) hx hb dX3_isWord_11 (by decide) (fun h => absurd (by decide) h) (fun _ => ?_)
  refine lv_iconst (v := 4) hx hb dX3_isWord_14 (by decide) ?_
  refine lv_goto (tgt := 39) hx hb dX3_isWord_15 (by decide) ?_
  refine lv_istore (lv' := [(8, .int 4), (0, .ref (ad 23)), (1, .int 119), (2, .int 105), (3, .int 110), (4, .int 100), (5, .int 0), (6, .int 0), (7, .int 0)]) hx hb dX3_isWord_39 hl (by decide) rfl (fun ls hl => ?_)
  refine lv_aload_n hx hb dX3_isWord_41 rfl (lv_at hl 1 rfl) ?_
  refine m_get hc hW 10 (by decide) rfl q1010 rfl rfl dX3_isWord_42 ?_
  refine sm_topi (v := b2i (pp.2.2.2.1 = true)) rfl ?_
  refine bi_ne (tgt := 134) hx hb dX3_isWord_45 (by decide) (fun c_320 => ?_) (fun c_320 => ?_)
  · refine lv_iconst (v := 0) hx hb dX3_isWord_134 (by decide) ?_
    exact rz_R hx hb hr hlk ((b2i_f (fun h => absurd c_320 (wdB_i4.mp h).1)).symm) dX3_isWord_135
  · refine lv_aload_n hx hb dX3_isWord_48 rfl (lv_at hl 1 rfl) ?_
    refine m_get hc hW 8 (by decide) rfl q1008 rfl rfl dX3_isWord_49 ?_
    refine sm_topi (v := nI pp.2.1) rfl ?_
    refine lv_aload_n hx hb dX3_isWord_52 rfl (lv_at hl 1 rfl) ?_
    refine m_get hc hW 7 (by decide) rfl q1007 rfl rfl dX3_isWord_53 ?_
    refine sm_topi (v := nI pp.1) rfl ?_
    refine lv_isub hx hb dX3_isWord_56 ?_
    refine sm_topi (v := nI (pp.2.1 - pp.1)) (pk_sub hb1) ?_
    refine lv_iload hx hb dX3_isWord_57 (lv_at hl 0 rfl) ?_
    refine lv_icmp_ne (tgt := 134) hx hb dX3_isWord_59 (by decide) (fun c_321 => ?_) (fun c_321 => ?_)
    · refine lv_iconst (v := 0) hx hb dX3_isWord_134 (by decide) ?_
      exact rz_R hx hb hr hlk ((b2i_f (fun h => c_321 (by rw [(wdB_i4.mp h).2.1]; rfl))).symm) dX3_isWord_135
    · refine lv_aload_n hx hb dX3_isWord_62 rfl (lv_at hl 1 rfl) ?_
      refine lv_iconst (v := 0) hx hb dX3_isWord_63 (by decide) ?_
      refine lv_iload_n hx hb dX3_isWord_64 rfl (lv_at hl 2 rfl) ?_
      refine cv_R1 (rest := []) hc (M_isAt l hW (T := T) hT hT1 hB 0 (by decide) 119) (lw_V q1197 q1199 qs43 q70 q1200) nd_X3_isAt ⟨Nat.le_of_ble_eq_true rfl, Nat.le_of_ble_eq_true rfl⟩ (MW.recv hK hW) rfl hl.1 rfl (Nat.le_of_ble_eq_true rfl) dX3_isWord_65 ⟨Nat.le_of_ble_eq_true rfl, Nat.le_of_ble_eq_true rfl⟩ ?_
      refine sm_topi (v := b2i (bA (f 5) T (pp.1 + 0) = 119)) (b2i_congr (or_iff_right (by decide))) ?_
      refine bi_eq (tgt := 134) hx hb dX3_isWord_68 (by decide) (fun c_322 => ?_) (fun c_322 => ?_)
      · refine lv_iconst (v := 0) hx hb dX3_isWord_134 (by decide) ?_
        exact rz_R hx hb hr hlk ((b2i_f (fun h => c_322 (wdB_i4.mp h).2.2.1)).symm) dX3_isWord_135
      · refine lv_aload_n hx hb dX3_isWord_71 rfl (lv_at hl 1 rfl) ?_
        refine lv_iconst (v := 1) hx hb dX3_isWord_72 (by decide) ?_
        refine lv_iload_n hx hb dX3_isWord_73 rfl (lv_at hl 3 rfl) ?_
        refine cv_R1 (rest := []) hc (M_isAt l hW (T := T) hT hT1 hB 1 (by decide) 105) (lw_V q1197 q1199 qs43 q70 q1200) nd_X3_isAt ⟨Nat.le_of_ble_eq_true rfl, Nat.le_of_ble_eq_true rfl⟩ (MW.recv hK hW) rfl hl.1 rfl (Nat.le_of_ble_eq_true rfl) dX3_isWord_74 ⟨Nat.le_of_ble_eq_true rfl, Nat.le_of_ble_eq_true rfl⟩ ?_
        refine sm_topi (v := b2i (bA (f 5) T (pp.1 + 1) = 105)) (b2i_congr (or_iff_right (by decide))) ?_
        refine bi_eq (tgt := 134) hx hb dX3_isWord_77 (by decide) (fun c_323 => ?_) (fun c_323 => ?_)
        · refine lv_iconst (v := 0) hx hb dX3_isWord_134 (by decide) ?_
          exact rz_R hx hb hr hlk ((b2i_f (fun h => c_323 (wdB_i4.mp h).2.2.2.1)).symm) dX3_isWord_135
        · refine lv_aload_n hx hb dX3_isWord_80 rfl (lv_at hl 1 rfl) ?_
          refine lv_iconst (v := 2) hx hb dX3_isWord_81 (by decide) ?_
          refine lv_iload_n hx hb dX3_isWord_82 rfl (lv_at hl 4 rfl) ?_
          refine cv_R1 (rest := []) hc (M_isAt l hW (T := T) hT hT1 hB 2 (by decide) 110) (lw_V q1197 q1199 qs43 q70 q1200) nd_X3_isAt ⟨Nat.le_of_ble_eq_true rfl, Nat.le_of_ble_eq_true rfl⟩ (MW.recv hK hW) rfl hl.1 rfl (Nat.le_of_ble_eq_true rfl) dX3_isWord_83 ⟨Nat.le_of_ble_eq_true rfl, Nat.le_of_ble_eq_true rfl⟩ ?_
          refine sm_topi (v := b2i (bA (f 5) T (pp.1 + 2) = 110)) (b2i_congr (or_iff_right (by decide))) ?_
          refine bi_eq (tgt := 134) hx hb dX3_isWord_86 (by decide) (fun c_324 => ?_) (fun c_324 => ?_)
          · refine lv_iconst (v := 0) hx hb dX3_isWord_134 (by decide) ?_
            exact rz_R hx hb hr hlk ((b2i_f (fun h => c_324 (wdB_i4.mp h).2.2.2.2.1)).symm) dX3_isWord_135
          · refine lv_aload_n hx hb dX3_isWord_89 rfl (lv_at hl 1 rfl) ?_
            refine lv_iconst (v := 3) hx hb dX3_isWord_90 (by decide) ?_
            refine lv_iload hx hb dX3_isWord_91 (lv_at hl 5 rfl) ?_
            refine cv_R1 (rest := []) hc (M_isAt l hW (T := T) hT hT1 hB 3 (by decide) 100) (lw_V q1197 q1199 qs43 q70 q1200) nd_X3_isAt ⟨Nat.le_of_ble_eq_true rfl, Nat.le_of_ble_eq_true rfl⟩ (MW.recv hK hW) rfl hl.1 rfl (Nat.le_of_ble_eq_true rfl) dX3_isWord_93 ⟨Nat.le_of_ble_eq_true rfl, Nat.le_of_ble_eq_true rfl⟩ ?_
            refine sm_topi (v := b2i (bA (f 5) T (pp.1 + 3) = 100)) (b2i_congr (or_iff_right (by decide))) ?_
            refine bi_eq (tgt := 134) hx hb dX3_isWord_96 (by decide) (fun c_325 => ?_) (fun c_325 => ?_)
            · refine lv_iconst (v := 0) hx hb dX3_isWord_134 (by decide) ?_
              exact rz_R hx hb hr hlk ((b2i_f (fun h => c_325 (wdB_i4.mp h).2.2.2.2.2)).symm) dX3_isWord_135
            · refine lv_aload_n hx hb dX3_isWord_99 rfl (lv_at hl 1 rfl) ?_
              refine lv_iconst (v := 4) hx hb dX3_isWord_100 (by decide) ?_
              refine lv_iload hx hb dX3_isWord_101 (lv_at hl 6 rfl) ?_
              refine cv_R1 (rest := []) hc (M_isAt l hW (T := T) hT hT1 hB 4 (by decide) 0) (lw_V q1197 q1199 qs43 q70 q1200) nd_X3_isAt ⟨Nat.le_of_ble_eq_true rfl, Nat.le_of_ble_eq_true rfl⟩ (MW.recv hK hW) rfl hl.1 rfl (Nat.le_of_ble_eq_true rfl) dX3_isWord_103 ⟨Nat.le_of_ble_eq_true rfl, Nat.le_of_ble_eq_true rfl⟩ ?_
              refine sm_topi (v := 1) (b2i_t (Or.inl rfl)) ?_
              refine lv_if_eq (tgt := 134) hx hb dX3_isWord_106 (by decide) (fun h => absurd h (by decide)) (fun _ => ?_)
              refine lv_aload_n hx hb dX3_isWord_109 rfl (lv_at hl 1 rfl) ?_
              refine lv_iconst (v := 5) hx hb dX3_isWord_110 (by decide) ?_
              refine lv_iload hx hb dX3_isWord_111 (lv_at hl 7 rfl) ?_
              refine cv_R1 (rest := []) hc (M_isAt l hW (T := T) hT hT1 hB 5 (by decide) 0) (lw_V q1197 q1199 qs43 q70 q1200) nd_X3_isAt ⟨Nat.le_of_ble_eq_true rfl, Nat.le_of_ble_eq_true rfl⟩ (MW.recv hK hW) rfl hl.1 rfl (Nat.le_of_ble_eq_true rfl) dX3_isWord_113 ⟨Nat.le_of_ble_eq_true rfl, Nat.le_of_ble_eq_true rfl⟩ ?_
              refine sm_topi (v := 1) (b2i_t (Or.inl rfl)) ?_
              refine lv_if_eq (tgt := 134) hx hb dX3_isWord_116 (by decide) (fun h => absurd h (by decide)) (fun _ => ?_)
              refine lv_aload_n hx hb dX3_isWord_119 rfl (lv_at hl 1 rfl) ?_
              refine lv_bipush (v := 6) hx hb dX3_isWord_120 (by decide) ?_
              refine lv_iload hx hb dX3_isWord_122 (lv_at hl 8 rfl) ?_
              refine cv_R1 (rest := []) hc (M_isAt l hW (T := T) hT hT1 hB 6 (by decide) 0) (lw_V q1197 q1199 qs43 q70 q1200) nd_X3_isAt ⟨Nat.le_of_ble_eq_true rfl, Nat.le_of_ble_eq_true rfl⟩ (MW.recv hK hW) rfl hl.1 rfl (Nat.le_of_ble_eq_true rfl) dX3_isWord_124 ⟨Nat.le_of_ble_eq_true rfl, Nat.le_of_ble_eq_true rfl⟩ ?_
              refine sm_topi (v := 1) (b2i_t (Or.inl rfl)) ?_
              refine lv_if_eq (tgt := 134) hx hb dX3_isWord_127 (by decide) (fun h => absurd h (by decide)) (fun _ => ?_)
              refine lv_iconst (v := 1) hx hb dX3_isWord_130 (by decide) ?_
              refine lv_goto (tgt := 135) hx hb dX3_isWord_131 (by decide) ?_
              exact rz_R hx hb hr hlk ((b2i_t (wdB_i4.mpr ⟨c_320, (nI_eq (by omega) (by decide)).mp (show nI (pp.2.1 - pp.1) = nI 4 from c_321), c_322, c_323, c_324, c_325⟩)).symm) dX3_isWord_135
set_option maxHeartbeats 4000000 in
theorem M_w_thumb (l : Launch) {G : GD} {A : Nat → Prop} {f : Nat → Nat → Int32} {g : Nat → Nat → Int64} {ad : Nat → Nat} {H0 : Heap} {pp : PS} (hW : MW G A (psT f pp) g ad H0) {T : Nat} (hT : f 6 0 = nI T) (hT1 : T ≤ 120) (hB : PB T pp)  : MetR l G yX3_isWord cX3_isWord 9 (some .boolean) 2 [.ref (ad 23), .int 116, .int 104, .int 117, .int 109, .int 98, .int 0, .int 0] H0 (some (.int (b2i (wdB (f 5) T pp [116, 104, 117, 109, 98] = true)))) := by
  refine mx_of (by decide) (Nat.le_of_ble_eq_true rfl) ?_
  intro p e s m below meth c hx hb hr hc hlk hnm hs0 ls hl
  subst hs0
  have hown := hc.2.2.2.1
  have hts := hc.2.2.2.2.1
  have hK := hc.2.2.2.2.2
  have hl : lv_has ls 9 [(0, .ref (ad 23)), (1, .int 116), (2, .int 104), (3, .int 117), (4, .int 109), (5, .int 98), (6, .int 0), (7, .int 0)] := hl
  have hb1 := hB.1
  have hb2 := hB.2
  refine lv_iload hx hb dX3_isWord_0 (lv_at hl 4 rfl) ?_
  refine lv_if_ne (tgt := 9) hx hb dX3_isWord_2 (by decide) (fun _ => ?_) (fun h => absurd h (by decide))
  refine lv_iload hx hb dX3_isWord_9 (lv_at hl 5 rfl) ?_
  refine lv_if_ne (tgt := 18) hx hb dX3_isWord_11 (by decide) (fun _ => ?_) (fun h => absurd h (by decide))
  refine lv_iload hx hb dX3_isWord_18 (lv_at hl 6 rfl) ?_
  refine lv_if_ne (tgt := 27) hx hb dX3_isWord_20 (by decide) (fun h => absurd (by decide) h) (fun _ => ?_)
  refine lv_iconst (v := 5) hx hb dX3_isWord_23 (by decide) ?_
  refine lv_goto (tgt := 39) hx hb dX3_isWord_24 (by decide) ?_
  refine lv_istore (lv' := [(8, .int 5), (0, .ref (ad 23)), (1, .int 116), (2, .int 104), (3, .int 117), (4, .int 109), (5, .int 98), (6, .int 0), (7, .int 0)]) hx hb dX3_isWord_39 hl (by decide) rfl (fun ls hl => ?_)
  refine lv_aload_n hx hb dX3_isWord_41 rfl (lv_at hl 1 rfl) ?_
  refine m_get hc hW 10 (by decide) rfl q1010 rfl rfl dX3_isWord_42 ?_
  refine sm_topi (v := b2i (pp.2.2.2.1 = true)) rfl ?_
  refine bi_ne (tgt := 134) hx hb dX3_isWord_45 (by decide) (fun c_326 => ?_) (fun c_326 => ?_)
  · refine lv_iconst (v := 0) hx hb dX3_isWord_134 (by decide) ?_
    exact rz_R hx hb hr hlk ((b2i_f (fun h => absurd c_326 (wdB_i5.mp h).1)).symm) dX3_isWord_135
  · refine lv_aload_n hx hb dX3_isWord_48 rfl (lv_at hl 1 rfl) ?_
    refine m_get hc hW 8 (by decide) rfl q1008 rfl rfl dX3_isWord_49 ?_
    refine sm_topi (v := nI pp.2.1) rfl ?_
    refine lv_aload_n hx hb dX3_isWord_52 rfl (lv_at hl 1 rfl) ?_
    refine m_get hc hW 7 (by decide) rfl q1007 rfl rfl dX3_isWord_53 ?_
    refine sm_topi (v := nI pp.1) rfl ?_
    refine lv_isub hx hb dX3_isWord_56 ?_
    refine sm_topi (v := nI (pp.2.1 - pp.1)) (pk_sub hb1) ?_
    refine lv_iload hx hb dX3_isWord_57 (lv_at hl 0 rfl) ?_
    refine lv_icmp_ne (tgt := 134) hx hb dX3_isWord_59 (by decide) (fun c_327 => ?_) (fun c_327 => ?_)
    · refine lv_iconst (v := 0) hx hb dX3_isWord_134 (by decide) ?_
      exact rz_R hx hb hr hlk ((b2i_f (fun h => c_327 (by rw [(wdB_i5.mp h).2.1]; rfl))).symm) dX3_isWord_135
    · refine lv_aload_n hx hb dX3_isWord_62 rfl (lv_at hl 1 rfl) ?_
      refine lv_iconst (v := 0) hx hb dX3_isWord_63 (by decide) ?_
      refine lv_iload_n hx hb dX3_isWord_64 rfl (lv_at hl 2 rfl) ?_
      refine cv_R1 (rest := []) hc (M_isAt l hW (T := T) hT hT1 hB 0 (by decide) 116) (lw_V q1197 q1199 qs43 q70 q1200) nd_X3_isAt ⟨Nat.le_of_ble_eq_true rfl, Nat.le_of_ble_eq_true rfl⟩ (MW.recv hK hW) rfl hl.1 rfl (Nat.le_of_ble_eq_true rfl) dX3_isWord_65 ⟨Nat.le_of_ble_eq_true rfl, Nat.le_of_ble_eq_true rfl⟩ ?_
      refine sm_topi (v := b2i (bA (f 5) T (pp.1 + 0) = 116)) (b2i_congr (or_iff_right (by decide))) ?_
      refine bi_eq (tgt := 134) hx hb dX3_isWord_68 (by decide) (fun c_328 => ?_) (fun c_328 => ?_)
      · refine lv_iconst (v := 0) hx hb dX3_isWord_134 (by decide) ?_
        exact rz_R hx hb hr hlk ((b2i_f (fun h => c_328 (wdB_i5.mp h).2.2.1)).symm) dX3_isWord_135
      · refine lv_aload_n hx hb dX3_isWord_71 rfl (lv_at hl 1 rfl) ?_
        refine lv_iconst (v := 1) hx hb dX3_isWord_72 (by decide) ?_
        refine lv_iload_n hx hb dX3_isWord_73 rfl (lv_at hl 3 rfl) ?_
        refine cv_R1 (rest := []) hc (M_isAt l hW (T := T) hT hT1 hB 1 (by decide) 104) (lw_V q1197 q1199 qs43 q70 q1200) nd_X3_isAt ⟨Nat.le_of_ble_eq_true rfl, Nat.le_of_ble_eq_true rfl⟩ (MW.recv hK hW) rfl hl.1 rfl (Nat.le_of_ble_eq_true rfl) dX3_isWord_74 ⟨Nat.le_of_ble_eq_true rfl, Nat.le_of_ble_eq_true rfl⟩ ?_
        refine sm_topi (v := b2i (bA (f 5) T (pp.1 + 1) = 104)) (b2i_congr (or_iff_right (by decide))) ?_
        refine bi_eq (tgt := 134) hx hb dX3_isWord_77 (by decide) (fun c_329 => ?_) (fun c_329 => ?_)
        · refine lv_iconst (v := 0) hx hb dX3_isWord_134 (by decide) ?_
          exact rz_R hx hb hr hlk ((b2i_f (fun h => c_329 (wdB_i5.mp h).2.2.2.1)).symm) dX3_isWord_135
        · refine lv_aload_n hx hb dX3_isWord_80 rfl (lv_at hl 1 rfl) ?_
          refine lv_iconst (v := 2) hx hb dX3_isWord_81 (by decide) ?_
          refine lv_iload_n hx hb dX3_isWord_82 rfl (lv_at hl 4 rfl) ?_
          refine cv_R1 (rest := []) hc (M_isAt l hW (T := T) hT hT1 hB 2 (by decide) 117) (lw_V q1197 q1199 qs43 q70 q1200) nd_X3_isAt ⟨Nat.le_of_ble_eq_true rfl, Nat.le_of_ble_eq_true rfl⟩ (MW.recv hK hW) rfl hl.1 rfl (Nat.le_of_ble_eq_true rfl) dX3_isWord_83 ⟨Nat.le_of_ble_eq_true rfl, Nat.le_of_ble_eq_true rfl⟩ ?_
          refine sm_topi (v := b2i (bA (f 5) T (pp.1 + 2) = 117)) (b2i_congr (or_iff_right (by decide))) ?_
          refine bi_eq (tgt := 134) hx hb dX3_isWord_86 (by decide) (fun c_330 => ?_) (fun c_330 => ?_)
          · refine lv_iconst (v := 0) hx hb dX3_isWord_134 (by decide) ?_
            exact rz_R hx hb hr hlk ((b2i_f (fun h => c_330 (wdB_i5.mp h).2.2.2.2.1)).symm) dX3_isWord_135
          · refine lv_aload_n hx hb dX3_isWord_89 rfl (lv_at hl 1 rfl) ?_
            refine lv_iconst (v := 3) hx hb dX3_isWord_90 (by decide) ?_
            refine lv_iload hx hb dX3_isWord_91 (lv_at hl 5 rfl) ?_
            refine cv_R1 (rest := []) hc (M_isAt l hW (T := T) hT hT1 hB 3 (by decide) 109) (lw_V q1197 q1199 qs43 q70 q1200) nd_X3_isAt ⟨Nat.le_of_ble_eq_true rfl, Nat.le_of_ble_eq_true rfl⟩ (MW.recv hK hW) rfl hl.1 rfl (Nat.le_of_ble_eq_true rfl) dX3_isWord_93 ⟨Nat.le_of_ble_eq_true rfl, Nat.le_of_ble_eq_true rfl⟩ ?_
            refine sm_topi (v := b2i (bA (f 5) T (pp.1 + 3) = 109)) (b2i_congr (or_iff_right (by decide))) ?_
            refine bi_eq (tgt := 134) hx hb dX3_isWord_96 (by decide) (fun c_331 => ?_) (fun c_331 => ?_)
            · refine lv_iconst (v := 0) hx hb dX3_isWord_134 (by decide) ?_
              exact rz_R hx hb hr hlk ((b2i_f (fun h => c_331 (wdB_i5.mp h).2.2.2.2.2.1)).symm) dX3_isWord_135
            · refine lv_aload_n hx hb dX3_isWord_99 rfl (lv_at hl 1 rfl) ?_
              refine lv_iconst (v := 4) hx hb dX3_isWord_100 (by decide) ?_
              refine lv_iload hx hb dX3_isWord_101 (lv_at hl 6 rfl) ?_
              refine cv_R1 (rest := []) hc (M_isAt l hW (T := T) hT hT1 hB 4 (by decide) 98) (lw_V q1197 q1199 qs43 q70 q1200) nd_X3_isAt ⟨Nat.le_of_ble_eq_true rfl, Nat.le_of_ble_eq_true rfl⟩ (MW.recv hK hW) rfl hl.1 rfl (Nat.le_of_ble_eq_true rfl) dX3_isWord_103 ⟨Nat.le_of_ble_eq_true rfl, Nat.le_of_ble_eq_true rfl⟩ ?_
              refine sm_topi (v := b2i (bA (f 5) T (pp.1 + 4) = 98)) (b2i_congr (or_iff_right (by decide))) ?_
              refine bi_eq (tgt := 134) hx hb dX3_isWord_106 (by decide) (fun c_332 => ?_) (fun c_332 => ?_)
              · refine lv_iconst (v := 0) hx hb dX3_isWord_134 (by decide) ?_
                exact rz_R hx hb hr hlk ((b2i_f (fun h => c_332 (wdB_i5.mp h).2.2.2.2.2.2)).symm) dX3_isWord_135
              · refine lv_aload_n hx hb dX3_isWord_109 rfl (lv_at hl 1 rfl) ?_
                refine lv_iconst (v := 5) hx hb dX3_isWord_110 (by decide) ?_
                refine lv_iload hx hb dX3_isWord_111 (lv_at hl 7 rfl) ?_
                refine cv_R1 (rest := []) hc (M_isAt l hW (T := T) hT hT1 hB 5 (by decide) 0) (lw_V q1197 q1199 qs43 q70 q1200) nd_X3_isAt ⟨Nat.le_of_ble_eq_true rfl, Nat.le_of_ble_eq_true rfl⟩ (MW.recv hK hW) rfl hl.1 rfl (Nat.le_of_ble_eq_true rfl) dX3_isWord_113 ⟨Nat.le_of_ble_eq_true rfl, Nat.le_of_ble_eq_true rfl⟩ ?_
                refine sm_topi (v := 1) (b2i_t (Or.inl rfl)) ?_
                refine lv_if_eq (tgt := 134) hx hb dX3_isWord_116 (by decide) (fun h => absurd h (by decide)) (fun _ => ?_)
                refine lv_aload_n hx hb dX3_isWord_119 rfl (lv_at hl 1 rfl) ?_
                refine lv_bipush (v := 6) hx hb dX3_isWord_120 (by decide) ?_
                refine lv_iload hx hb dX3_isWord_122 (lv_at hl 8 rfl) ?_
                refine cv_R1 (rest := []) hc (M_isAt l hW (T := T) hT hT1 hB 6 (by decide) 0) (lw_V q1197 q1199 qs43 q70 q1200) nd_X3_isAt ⟨Nat.le_of_ble_eq_true rfl, Nat.le_of_ble_eq_true rfl⟩ (MW.recv hK hW) rfl hl.1 rfl (Nat.le_of_ble_eq_true rfl) dX3_isWord_124 ⟨Nat.le_of_ble_eq_true rfl, Nat.le_of_ble_eq_true rfl⟩ ?_
                refine sm_topi (v := 1) (b2i_t (Or.inl rfl)) ?_
                refine lv_if_eq (tgt := 134) hx hb dX3_isWord_127 (by decide) (fun h => absurd h (by decide)) (fun _ => ?_)
                refine lv_iconst (v := 1) hx hb dX3_isWord_130 (by decide) ?_
                refine lv_goto (tgt := 135) hx hb dX3_isWord_131 (by decide) ?_
                exact rz_R hx hb hr hlk ((b2i_t (wdB_i5.mpr ⟨c_326, (nI_eq (by omega) (by decide)).mp (show nI (pp.2.1 - pp.1) = nI 5 from c_327), c_328, c_329, c_330, c_331, c_332⟩)).symm) dX3_isWord_135
def kdP (t : Nat → Int32) (T : Nat) (p : PS) : Int32 := if wdB t T p [103, 97, 112] = true then 0 else if wdB t T p [104, 105, 100, 100, 101, 110] = true then 1 else if wdB t T p [110, 101, 101, 100, 101, 100] = true then 2 else if wdB t T p [107, 110, 111, 119, 110] = true then 3 else if wdB t T p [116, 117, 114, 110, 105, 110, 103] = true then 4 else if wdB t T p [99, 104, 105, 109, 110, 101, 121] = true then 5 else -1
theorem nd_X3_kindHere : yX3_kindHere.cls = "SmokeLeansModel" ∧ yX3_kindHere.cls ≠ "java/lang/invoke/MethodHandle" ∧ yX3_kindHere.cls ≠ "java/lang/invoke/VarHandle" ∧ (parseMethodDescriptor yX3_kindHere.desc).map (fun d => d.parameters.length) = some 0 := by decide +kernel
set_option maxHeartbeats 4000000 in
theorem M_kindHere (l : Launch) {G : GD} {A : Nat → Prop} {f : Nat → Nat → Int32} {g : Nat → Nat → Int64} {ad : Nat → Nat} {H0 : Heap} {pp : PS} (hW : MW G A (psT f pp) g ad H0) {T : Nat} (hT : f 6 0 = nI T) (hT1 : T ≤ 120) (hB : PB T pp)  : MetR l G yX3_kindHere cX3_kindHere 1 (some .int) 3 [.ref (ad 23)] H0 (some (.int (kdP (f 5) T pp))) := by
  refine mx_of (by decide) (Nat.le_of_ble_eq_true rfl) ?_
  intro p e s m below meth c hx hb hr hc hlk hnm hs0 ls hl
  subst hs0
  have hown := hc.2.2.2.1
  have hts := hc.2.2.2.2.1
  have hK := hc.2.2.2.2.2
  have hl : lv_has ls 1 [(0, .ref (ad 23))] := hl
  refine lv_aload_n hx hb dX3_kindHere_0 rfl (lv_at hl 0 rfl) ?_
  refine lv_bipush (v := 103) hx hb dX3_kindHere_1 (by decide) ?_
  refine lv_bipush (v := 97) hx hb dX3_kindHere_3 (by decide) ?_
  refine lv_bipush (v := 112) hx hb dX3_kindHere_5 (by decide) ?_
  refine lv_iconst (v := 0) hx hb dX3_kindHere_7 (by decide) ?_
  refine lv_iconst (v := 0) hx hb dX3_kindHere_8 (by decide) ?_
  refine lv_iconst (v := 0) hx hb dX3_kindHere_9 (by decide) ?_
  refine lv_iconst (v := 0) hx hb dX3_kindHere_10 (by decide) ?_
  refine cv_R1 (rest := []) hc (M_w_gap l hW (T := T) hT hT1 hB) (lw_V q1193 q1195 qs42 q70 q1196) nd_X3_isWord ⟨Nat.le_of_ble_eq_true rfl, Nat.le_of_ble_eq_true rfl⟩ (MW.recv hK hW) rfl hl.1 rfl (Nat.le_of_ble_eq_true rfl) dX3_kindHere_11 ⟨Nat.le_of_ble_eq_true rfl, Nat.le_of_ble_eq_true rfl⟩ ?_
  refine bi_eq (tgt := 19) hx hb dX3_kindHere_14 (by decide) (fun c_333 => ?_) (fun c_333 => ?_)
  · refine lv_aload_n hx hb dX3_kindHere_19 rfl (lv_at hl 0 rfl) ?_
    refine lv_bipush (v := 104) hx hb dX3_kindHere_20 (by decide) ?_
    refine lv_bipush (v := 105) hx hb dX3_kindHere_22 (by decide) ?_
    refine lv_bipush (v := 100) hx hb dX3_kindHere_24 (by decide) ?_
    refine lv_bipush (v := 100) hx hb dX3_kindHere_26 (by decide) ?_
    refine lv_bipush (v := 101) hx hb dX3_kindHere_28 (by decide) ?_
    refine lv_bipush (v := 110) hx hb dX3_kindHere_30 (by decide) ?_
    refine lv_iconst (v := 0) hx hb dX3_kindHere_32 (by decide) ?_
    refine cv_R1 (rest := []) hc (M_w_hidden l hW (T := T) hT hT1 hB) (lw_V q1193 q1195 qs42 q70 q1196) nd_X3_isWord ⟨Nat.le_of_ble_eq_true rfl, Nat.le_of_ble_eq_true rfl⟩ (MW.recv hK hW) rfl hl.1 rfl (Nat.le_of_ble_eq_true rfl) dX3_kindHere_33 ⟨Nat.le_of_ble_eq_true rfl, Nat.le_of_ble_eq_true rfl⟩ ?_
    refine bi_eq (tgt := 43) hx hb dX3_kindHere_36 (by decide) (fun c_334 => ?_) (fun c_334 => ?_)
    · refine lv_aload_n hx hb dX3_kindHere_43 rfl (lv_at hl 0 rfl) ?_
      refine lv_bipush (v := 110) hx hb dX3_kindHere_44 (by decide) ?_
      refine lv_bipush (v := 101) hx hb dX3_kindHere_46 (by decide) ?_
      refine lv_bipush (v := 101) hx hb dX3_kindHere_48 (by decide) ?_
      refine lv_bipush (v := 100) hx hb dX3_kindHere_50 (by decide) ?_
      refine lv_bipush (v := 101) hx hb dX3_kindHere_52 (by decide) ?_
      refine lv_bipush (v := 100) hx hb dX3_kindHere_54 (by decide) ?_
      refine lv_iconst (v := 0) hx hb dX3_kindHere_56 (by decide) ?_
      refine cv_R1 (rest := []) hc (M_w_needed l hW (T := T) hT hT1 hB) (lw_V q1193 q1195 qs42 q70 q1196) nd_X3_isWord ⟨Nat.le_of_ble_eq_true rfl, Nat.le_of_ble_eq_true rfl⟩ (MW.recv hK hW) rfl hl.1 rfl (Nat.le_of_ble_eq_true rfl) dX3_kindHere_57 ⟨Nat.le_of_ble_eq_true rfl, Nat.le_of_ble_eq_true rfl⟩ ?_
      refine bi_eq (tgt := 67) hx hb dX3_kindHere_60 (by decide) (fun c_335 => ?_) (fun c_335 => ?_)
      · refine lv_aload_n hx hb dX3_kindHere_67 rfl (lv_at hl 0 rfl) ?_
        refine lv_bipush (v := 107) hx hb dX3_kindHere_68 (by decide) ?_
        refine lv_bipush (v := 110) hx hb dX3_kindHere_70 (by decide) ?_
        refine lv_bipush (v := 111) hx hb dX3_kindHere_72 (by decide) ?_
        refine lv_bipush (v := 119) hx hb dX3_kindHere_74 (by decide) ?_
        refine lv_bipush (v := 110) hx hb dX3_kindHere_76 (by decide) ?_
        refine lv_iconst (v := 0) hx hb dX3_kindHere_78 (by decide) ?_
        refine lv_iconst (v := 0) hx hb dX3_kindHere_79 (by decide) ?_
        refine cv_R1 (rest := []) hc (M_w_known l hW (T := T) hT hT1 hB) (lw_V q1193 q1195 qs42 q70 q1196) nd_X3_isWord ⟨Nat.le_of_ble_eq_true rfl, Nat.le_of_ble_eq_true rfl⟩ (MW.recv hK hW) rfl hl.1 rfl (Nat.le_of_ble_eq_true rfl) dX3_kindHere_80 ⟨Nat.le_of_ble_eq_true rfl, Nat.le_of_ble_eq_true rfl⟩ ?_
        refine bi_eq (tgt := 90) hx hb dX3_kindHere_83 (by decide) (fun c_336 => ?_) (fun c_336 => ?_)
        · refine lv_aload_n hx hb dX3_kindHere_90 rfl (lv_at hl 0 rfl) ?_
          refine lv_bipush (v := 116) hx hb dX3_kindHere_91 (by decide) ?_
          refine lv_bipush (v := 117) hx hb dX3_kindHere_93 (by decide) ?_
          refine lv_bipush (v := 114) hx hb dX3_kindHere_95 (by decide) ?_
          refine lv_bipush (v := 110) hx hb dX3_kindHere_97 (by decide) ?_
          refine lv_bipush (v := 105) hx hb dX3_kindHere_99 (by decide) ?_
          refine lv_bipush (v := 110) hx hb dX3_kindHere_101 (by decide) ?_
          refine lv_bipush (v := 103) hx hb dX3_kindHere_103 (by decide) ?_
          refine cv_R1 (rest := []) hc (M_w_turning l hW (T := T) hT hT1 hB) (lw_V q1193 q1195 qs42 q70 q1196) nd_X3_isWord ⟨Nat.le_of_ble_eq_true rfl, Nat.le_of_ble_eq_true rfl⟩ (MW.recv hK hW) rfl hl.1 rfl (Nat.le_of_ble_eq_true rfl) dX3_kindHere_105 ⟨Nat.le_of_ble_eq_true rfl, Nat.le_of_ble_eq_true rfl⟩ ?_
          refine bi_eq (tgt := 115) hx hb dX3_kindHere_108 (by decide) (fun c_337 => ?_) (fun c_337 => ?_)
          · refine lv_aload_n hx hb dX3_kindHere_115 rfl (lv_at hl 0 rfl) ?_
            refine lv_bipush (v := 99) hx hb dX3_kindHere_116 (by decide) ?_
            refine lv_bipush (v := 104) hx hb dX3_kindHere_118 (by decide) ?_
            refine lv_bipush (v := 105) hx hb dX3_kindHere_120 (by decide) ?_
            refine lv_bipush (v := 109) hx hb dX3_kindHere_122 (by decide) ?_
            refine lv_bipush (v := 110) hx hb dX3_kindHere_124 (by decide) ?_
            refine lv_bipush (v := 101) hx hb dX3_kindHere_126 (by decide) ?_
            refine lv_bipush (v := 121) hx hb dX3_kindHere_128 (by decide) ?_
            refine cv_R1 (rest := []) hc (M_w_chimney l hW (T := T) hT hT1 hB) (lw_V q1193 q1195 qs42 q70 q1196) nd_X3_isWord ⟨Nat.le_of_ble_eq_true rfl, Nat.le_of_ble_eq_true rfl⟩ (MW.recv hK hW) rfl hl.1 rfl (Nat.le_of_ble_eq_true rfl) dX3_kindHere_130 ⟨Nat.le_of_ble_eq_true rfl, Nat.le_of_ble_eq_true rfl⟩ ?_
            refine bi_eq (tgt := 140) hx hb dX3_kindHere_133 (by decide) (fun c_338 => ?_) (fun c_338 => ?_)
            · refine lv_iconst (v := (-1)) hx hb dX3_kindHere_140 (by decide) ?_
              exact ri_R hx hb hr hlk (by simp only [kdP, if_neg c_333, if_neg c_334, if_neg c_335, if_neg c_336, if_neg c_337, if_neg c_338]) dX3_kindHere_141
            · refine lv_iconst (v := 5) hx hb dX3_kindHere_136 (by decide) ?_
              refine lv_goto (tgt := 141) hx hb dX3_kindHere_137 (by decide) ?_
              exact ri_R hx hb hr hlk (by simp only [kdP, if_neg c_333, if_neg c_334, if_neg c_335, if_neg c_336, if_neg c_337, if_pos c_338]) dX3_kindHere_141
          · refine lv_iconst (v := 4) hx hb dX3_kindHere_111 (by decide) ?_
            refine lv_goto (tgt := 141) hx hb dX3_kindHere_112 (by decide) ?_
            exact ri_R hx hb hr hlk (by simp only [kdP, if_neg c_333, if_neg c_334, if_neg c_335, if_neg c_336, if_pos c_337]) dX3_kindHere_141
        · refine lv_iconst (v := 3) hx hb dX3_kindHere_86 (by decide) ?_
          refine lv_goto (tgt := 141) hx hb dX3_kindHere_87 (by decide) ?_
          exact ri_R hx hb hr hlk (by simp only [kdP, if_neg c_333, if_neg c_334, if_neg c_335, if_pos c_336]) dX3_kindHere_141
      · refine lv_iconst (v := 2) hx hb dX3_kindHere_63 (by decide) ?_
        refine lv_goto (tgt := 141) hx hb dX3_kindHere_64 (by decide) ?_
        exact ri_R hx hb hr hlk (by simp only [kdP, if_neg c_333, if_neg c_334, if_pos c_335]) dX3_kindHere_141
    · refine lv_iconst (v := 1) hx hb dX3_kindHere_39 (by decide) ?_
      refine lv_goto (tgt := 141) hx hb dX3_kindHere_40 (by decide) ?_
      exact ri_R hx hb hr hlk (by simp only [kdP, if_neg c_333, if_pos c_334]) dX3_kindHere_141
  · refine lv_iconst (v := 0) hx hb dX3_kindHere_17 (by decide) ?_
    exact ri_R hx hb hr hlk (by simp only [kdP, if_pos c_333]) dX3_kindHere_18
theorem nd_X3_sameNumber : yX3_sameNumber.cls = "SmokeLeansModel" ∧ yX3_sameNumber.cls ≠ "java/lang/invoke/MethodHandle" ∧ yX3_sameNumber.cls ≠ "java/lang/invoke/VarHandle" ∧ (parseMethodDescriptor yX3_sameNumber.desc).map (fun d => d.parameters.length) = some 1 := by decide +kernel
set_option maxHeartbeats 4000000 in
theorem M_sameNumber (l : Launch) {G : GD} {A : Nat → Prop} {f : Nat → Nat → Int32} {g : Nat → Nat → Int64} {ad : Nat → Nat} {H0 : Heap} {pp : PS} (hW : MW G A (psT f pp) g ad H0) {T : Nat} (hT : f 6 0 = nI T) (hT1 : T ≤ 120) (hB : PB T pp) (v : Int32) : MetR l G yX3_sameNumber cX3_sameNumber 4 (some .boolean) 0 [.ref (ad 23), .int v] H0 (some (.int (b2i (nuV (f 5) pp.1 pp.2.1 = v)))) := by
  refine mx_of (by decide) (Nat.le_of_ble_eq_true rfl) ?_
  intro p e s m below meth c hx hb hr hc hlk hnm hs0 ls hl
  subst hs0
  have hown := hc.2.2.2.1
  have hts := hc.2.2.2.2.1
  have hK := hc.2.2.2.2.2
  have hl : lv_has ls 4 [(0, .ref (ad 23)), (1, .int v)] := hl
  have hb1 := hB.1
  have hb2 := hB.2
  refine lv_iconst (v := 0) hx hb dX3_sameNumber_0 (by decide) ?_
  refine lv_istore_n (lv' := [(2, .int 0), (0, .ref (ad 23)), (1, .int v)]) hx hb dX3_sameNumber_1 rfl hl (by decide) rfl (fun ls hl => ?_)
  refine lv_aload_n hx hb dX3_sameNumber_2 rfl (lv_at hl 1 rfl) ?_
  refine m_get hc hW 7 (by decide) rfl q1007 rfl rfl dX3_sameNumber_3 ?_
  refine sm_topi (v := nI pp.1) rfl ?_
  refine lv_istore_n (lv' := [(3, .int (nI pp.1)), (2, .int 0), (0, .ref (ad 23)), (1, .int v)]) hx hb dX3_sameNumber_6 rfl hl (by decide) rfl (fun ls hl => ?_)
  refine w_loop (σ := Nat × Int32) (fun x fr => ∃ ls, fr = F0 m 7 ls [] ∧ lv_has ls 4 [(3, .int (nI x.1)), (2, .int x.2), (0, .ref (ad 23)), (1, .int v)] ∧ x.1 ≤ pp.2.1 ∧ nuF (f 5) (pp.2.1 - x.1) x.1 x.2 = nuV (f 5) pp.1 pp.2.1) (fun x => pp.2.1 - x.1) (pp.1, 0) ⟨ls, rfl, lv_sub hl [0, 1, 2, 3] rfl, hb1, rfl⟩ ?_
  rintro ⟨k, u⟩ fr ⟨ls, rfl, hl, hkb, hnu⟩ ih
  have hl : lv_has ls 4 [(3, .int (nI k)), (2, .int u), (0, .ref (ad 23)), (1, .int v)] := hl
  have hkb : k ≤ pp.2.1 := hkb
  have hnu : nuF (f 5) (pp.2.1 - k) k u = nuV (f 5) pp.1 pp.2.1 := hnu
  by_cases hki : k < pp.2.1
  · rw [show pp.2.1 - k = (pp.2.1 - (k + 1)) + 1 by omega, nuF] at hnu
    refine lv_iload_n hx hb dX3_sameNumber_7 rfl (lv_at hl 0 rfl) ?_
    refine lv_aload_n hx hb dX3_sameNumber_8 rfl (lv_at hl 2 rfl) ?_
    refine m_get hc hW 8 (by decide) rfl q1008 rfl rfl dX3_sameNumber_9 ?_
    refine sm_topi (v := nI pp.2.1) rfl ?_
    refine lv_icmp_ge (tgt := 47) hx hb dX3_sameNumber_12 (by decide) (fun h => absurd h (nI_ge hki (by omega))) (fun _ => ?_)
    refine lv_iload_n hx hb dX3_sameNumber_15 rfl (lv_at hl 1 rfl) ?_
    refine lv_sipush (v := 999) hx hb dX3_sameNumber_16 (by decide) ?_
    refine lv_icmp_le (tgt := 26) hx hb dX3_sameNumber_19 (by decide) (fun c_339 => ?_) (fun c_339 => ?_)
    · refine lv_bipush (v := 10) hx hb dX3_sameNumber_26 (by decide) ?_
      refine lv_iload_n hx hb dX3_sameNumber_28 rfl (lv_at hl 1 rfl) ?_
      refine lv_imul hx hb dX3_sameNumber_29 ?_
      refine lv_aload_n hx hb dX3_sameNumber_30 rfl (lv_at hl 2 rfl) ?_
      refine m_get hc hW 5 (by decide) rfl q1005 rfl rfl dX3_sameNumber_31 ?_
      refine lv_iload_n hx hb dX3_sameNumber_34 rfl (lv_at hl 0 rfl) ?_
      refine m_ild hc hW 5 rfl (n := 120) rfl (ix_nI (by omega) (by decide)) dX3_sameNumber_35 ?_
      refine sm_topi (v := f 5 k) rfl ?_
      refine lv_iadd hx hb dX3_sameNumber_36 ?_
      refine lv_bipush (v := 48) hx hb dX3_sameNumber_37 (by decide) ?_
      refine lv_isub hx hb dX3_sameNumber_39 ?_
      refine lv_istore_n (lv' := [(2, .int (((10 * u) + (f 5 k)) - 48)), (3, .int (nI k)), (0, .ref (ad 23)), (1, .int v)]) hx hb dX3_sameNumber_40 rfl hl (by decide) rfl (fun ls hl => ?_)
      refine lv_iinc (v := nI (k + 1)) (lv' := [(3, .int (nI (k + 1))), (2, .int (((10 * u) + (f 5 k)) - 48)), (0, .ref (ad 23)), (1, .int v)]) hx hb dX3_sameNumber_41 hl (k := 1) rfl (nI_1 _) (by decide) rfl (fun ls hl => ?_)
      refine lv_goto (tgt := 7) hx hb dX3_sameNumber_44 (by decide) ?_
      rw [if_pos c_339] at hnu
      exact ih (k + 1, _) _ ⟨ls, rfl, lv_sub hl [0, 1, 2, 3] rfl, hki, hnu⟩ (by show pp.2.1 - (k + 1) < pp.2.1 - k; omega)
    · refine lv_iload_n hx hb dX3_sameNumber_22 rfl (lv_at hl 1 rfl) ?_
      refine lv_goto (tgt := 40) hx hb dX3_sameNumber_23 (by decide) ?_
      refine lv_istore_n (lv' := [(2, .int u), (3, .int (nI k)), (0, .ref (ad 23)), (1, .int v)]) hx hb dX3_sameNumber_40 rfl hl (by decide) rfl (fun ls hl => ?_)
      refine lv_iinc (v := nI (k + 1)) (lv' := [(3, .int (nI (k + 1))), (2, .int u), (0, .ref (ad 23)), (1, .int v)]) hx hb dX3_sameNumber_41 hl (k := 1) rfl (nI_1 _) (by decide) rfl (fun ls hl => ?_)
      refine lv_goto (tgt := 7) hx hb dX3_sameNumber_44 (by decide) ?_
      rw [if_neg c_339] at hnu
      exact ih (k + 1, _) _ ⟨ls, rfl, lv_sub hl [0, 1, 2, 3] rfl, hki, hnu⟩ (by show pp.2.1 - (k + 1) < pp.2.1 - k; omega)
  · rw [show pp.2.1 - k = 0 by omega, nuF] at hnu
    refine lv_iload_n hx hb dX3_sameNumber_7 rfl (lv_at hl 0 rfl) ?_
    refine lv_aload_n hx hb dX3_sameNumber_8 rfl (lv_at hl 2 rfl) ?_
    refine m_get hc hW 8 (by decide) rfl q1008 rfl rfl dX3_sameNumber_9 ?_
    refine sm_topi (v := nI pp.2.1) rfl ?_
    refine lv_icmp_ge (tgt := 47) hx hb dX3_sameNumber_12 (by decide) (fun _ => ?_) (fun h => absurd (nI_le (by omega) (by omega)) h)
    refine lv_iload_n hx hb dX3_sameNumber_47 rfl (lv_at hl 1 rfl) ?_
    refine lv_iload_n hx hb dX3_sameNumber_48 rfl (lv_at hl 3 rfl) ?_
    refine lv_icmp_ne (tgt := 56) hx hb dX3_sameNumber_49 (by decide) (fun c_340 => ?_) (fun c_340 => ?_)
    · refine lv_iconst (v := 0) hx hb dX3_sameNumber_56 (by decide) ?_
      exact rz_R hx hb hr hlk ((b2i_f (fun h => c_340 (hnu.trans h))).symm) dX3_sameNumber_57
    · refine lv_iconst (v := 1) hx hb dX3_sameNumber_52 (by decide) ?_
      refine lv_goto (tgt := 57) hx hb dX3_sameNumber_53 (by decide) ?_
      exact rz_R hx hb hr hlk ((b2i_t (hnu.symm.trans c_340)).symm) dX3_sameNumber_57
theorem nd_X3_number : yX3_number.cls = "SmokeLeansModel" ∧ yX3_number.cls ≠ "java/lang/invoke/MethodHandle" ∧ yX3_number.cls ≠ "java/lang/invoke/VarHandle" ∧ (parseMethodDescriptor yX3_number.desc).map (fun d => d.parameters.length) = some 2 := by decide +kernel
set_option maxHeartbeats 8000000 in
theorem M_number (l : Launch) {G : GD} {A : Nat → Prop} {f : Nat → Nat → Int32} {g : Nat → Nat → Int64} {ad : Nat → Nat} {H0 : Heap} {pp : PS} (hW : MW G A (psT f pp) g ad H0) {T : Nat} (hT : f 6 0 = nI T) (hT1 : T ≤ 120) (hB : PB T pp) (lo hi : Int32) : MetW l G yX3_number cX3_number 6 none 4 0 0 A [.ref (ad 23), .int lo, .int hi] H0 none (fun H => MW G A (psT f (nmP (f 5) T lo hi pp)) g ad H) := by
  refine mx_of (by decide) (Nat.le_of_ble_eq_true rfl) ?_
  intro p e s m below meth c hx hb hr hc hlk hnm hs0 ls hl
  subst hs0
  have hown := hc.2.2.2.1
  have hts := hc.2.2.2.2.1
  have hK := hc.2.2.2.2.2
  have hl : lv_has ls 6 [(0, .ref (ad 23)), (1, .int lo), (2, .int hi)] := hl
  have hS : va_S A s.heap s.heap [] := va_S.rf
  have hb1 := hB.1
  have hb2 := hB.2
  refine lv_aload_n hx hb dX3_number_0 rfl (lv_at hl 0 rfl) ?_
  refine m_get hc hW 10 (by decide) rfl q1010 rfl rfl dX3_number_1 ?_
  refine sm_topi (v := b2i (pp.2.2.2.1 = true)) rfl ?_
  refine bi_eq (tgt := 8) hx hb dX3_number_4 (by decide) (fun c_341 => ?_) (fun c_341 => ?_)
  · refine lv_aload_n hx hb dX3_number_8 rfl (lv_at hl 0 rfl) ?_
    refine lv_aload_n hx hb dX3_number_9 rfl (lv_at hl 0 rfl) ?_
    refine m_get hc hW 7 (by decide) rfl q1007 rfl rfl dX3_number_10 ?_
    refine sm_topi (v := nI pp.1) rfl ?_
    refine cv_R1 (rest := []) hc (M_byteAt l hW (T := T) hT hT1 pp.1 (by omega)) (lw_V q1171 q1173 qs39 q70 q1174) nd_X3_byteAt ⟨Nat.le_of_ble_eq_true rfl, Nat.le_of_ble_eq_true rfl⟩ (MW.recv hK hW) rfl hl.1 rfl (Nat.le_of_ble_eq_true rfl) dX3_number_13 ⟨Nat.le_of_ble_eq_true rfl, Nat.le_of_ble_eq_true rfl⟩ ?_
    refine sm_topi (v := bA (f 5) T pp.1) rfl ?_
    refine cs_R1 (rest := []) hc (M_isDigit l (bA (f 5) T pp.1)) (lw_S q1180 q1181 q70 q1182) nd_X3_isDigit ⟨Nat.le_of_ble_eq_true rfl, Nat.le_of_ble_eq_true rfl⟩ rfl hl.1 rfl (Nat.le_of_ble_eq_true rfl) dX3_number_16 ⟨Nat.le_of_ble_eq_true rfl, Nat.le_of_ble_eq_true rfl⟩ ?_
    refine lv_istore_n (lv' := [(3, .int (b2i (isD (bA (f 5) T pp.1)))), (0, .ref (ad 23)), (1, .int lo), (2, .int hi)]) hx hb dX3_number_19 rfl hl (by decide) rfl (fun ls hl => ?_)
    refine lv_iconst (v := 0) hx hb dX3_number_20 (by decide) ?_
    refine lv_istore (lv' := [(4, .int 0), (3, .int (b2i (isD (bA (f 5) T pp.1)))), (0, .ref (ad 23)), (1, .int lo), (2, .int hi)]) hx hb dX3_number_21 hl (by decide) rfl (fun ls hl => ?_)
    refine lv_aload_n hx hb dX3_number_23 rfl (lv_at hl 2 rfl) ?_
    refine m_get hc hW 7 (by decide) rfl q1007 rfl rfl dX3_number_24 ?_
    refine sm_topi (v := nI pp.1) rfl ?_
    refine lv_istore (lv' := [(5, .int (nI pp.1)), (4, .int 0), (3, .int (b2i (isD (bA (f 5) T pp.1)))), (0, .ref (ad 23)), (1, .int lo), (2, .int hi)]) hx hb dX3_number_27 hl (by decide) rfl (fun ls hl => ?_)
    by_cases hd : isD (bA (f 5) T pp.1)
    · refine w_loop (σ := Nat × Int32) (fun x fr => ∃ ls, fr = F0 m 29 ls [] ∧ lv_has ls 6 [(5, .int (nI x.1)), (4, .int x.2), (3, .int (b2i (isD (bA (f 5) T pp.1)))), (0, .ref (ad 23)), (1, .int lo), (2, .int hi)] ∧ x.1 ≤ pp.2.1 ∧ nuF (f 5) (pp.2.1 - x.1) x.1 x.2 = nuV (f 5) pp.1 pp.2.1) (fun x => pp.2.1 - x.1) (pp.1, 0) ⟨ls, rfl, lv_sub hl [0, 1, 2, 3, 4, 5] rfl, hb1, rfl⟩ ?_
      rintro ⟨k, u⟩ fr ⟨ls, rfl, hl, hkb, hnu⟩ ih
      have hl : lv_has ls 6 [(5, .int (nI k)), (4, .int u), (3, .int (b2i (isD (bA (f 5) T pp.1)))), (0, .ref (ad 23)), (1, .int lo), (2, .int hi)] := hl
      have hkb : k ≤ pp.2.1 := hkb
      have hnu : nuF (f 5) (pp.2.1 - k) k u = nuV (f 5) pp.1 pp.2.1 := hnu
      by_cases hki : k < pp.2.1
      · rw [show pp.2.1 - k = (pp.2.1 - (k + 1)) + 1 by omega, nuF] at hnu
        refine lv_iload hx hb dX3_number_29 (lv_at hl 0 rfl) ?_
        refine lv_aload_n hx hb dX3_number_31 rfl (lv_at hl 3 rfl) ?_
        refine m_get hc hW 8 (by decide) rfl q1008 rfl rfl dX3_number_32 ?_
        refine sm_topi (v := nI pp.2.1) rfl ?_
        refine lv_icmp_ge (tgt := 79) hx hb dX3_number_35 (by decide) (fun h => absurd h (nI_ge hki (by omega))) (fun _ => ?_)
        refine lv_iload_n hx hb dX3_number_38 rfl (lv_at hl 2 rfl) ?_
        refine bi_eq (tgt := 79) hx hb dX3_number_39 (by decide) (fun h => absurd hd h) (fun _ => ?_)
        refine lv_iload hx hb dX3_number_42 (lv_at hl 1 rfl) ?_
        refine lv_sipush (v := 999) hx hb dX3_number_44 (by decide) ?_
        refine lv_icmp_le (tgt := 55) hx hb dX3_number_47 (by decide) (fun c_342 => ?_) (fun c_342 => ?_)
        · refine lv_bipush (v := 10) hx hb dX3_number_55 (by decide) ?_
          refine lv_iload hx hb dX3_number_57 (lv_at hl 1 rfl) ?_
          refine lv_imul hx hb dX3_number_59 ?_
          refine lv_aload_n hx hb dX3_number_60 rfl (lv_at hl 3 rfl) ?_
          refine m_get hc hW 5 (by decide) rfl q1005 rfl rfl dX3_number_61 ?_
          refine lv_iload hx hb dX3_number_64 (lv_at hl 0 rfl) ?_
          refine m_ild hc hW 5 rfl (n := 120) rfl (ix_nI (by omega) (by decide)) dX3_number_66 ?_
          refine sm_topi (v := f 5 k) rfl ?_
          refine lv_iadd hx hb dX3_number_67 ?_
          refine lv_bipush (v := 48) hx hb dX3_number_68 (by decide) ?_
          refine lv_isub hx hb dX3_number_70 ?_
          refine lv_istore (lv' := [(4, .int (((10 * u) + (f 5 k)) - 48)), (5, .int (nI k)), (3, .int (b2i (isD (bA (f 5) T pp.1)))), (0, .ref (ad 23)), (1, .int lo), (2, .int hi)]) hx hb dX3_number_71 hl (by decide) rfl (fun ls hl => ?_)
          refine lv_iinc (v := nI (k + 1)) (lv' := [(5, .int (nI (k + 1))), (4, .int (((10 * u) + (f 5 k)) - 48)), (3, .int (b2i (isD (bA (f 5) T pp.1)))), (0, .ref (ad 23)), (1, .int lo), (2, .int hi)]) hx hb dX3_number_73 hl (k := 1) rfl (nI_1 _) (by decide) rfl (fun ls hl => ?_)
          refine lv_goto (tgt := 29) hx hb dX3_number_76 (by decide) ?_
          rw [if_pos c_342] at hnu
          exact ih (k + 1, _) _ ⟨ls, rfl, lv_sub hl [0, 1, 2, 3, 4, 5] rfl, hki, hnu⟩ (by show pp.2.1 - (k + 1) < pp.2.1 - k; omega)
        · refine lv_iload hx hb dX3_number_50 (lv_at hl 1 rfl) ?_
          refine lv_goto (tgt := 71) hx hb dX3_number_52 (by decide) ?_
          refine lv_istore (lv' := [(4, .int u), (5, .int (nI k)), (3, .int (b2i (isD (bA (f 5) T pp.1)))), (0, .ref (ad 23)), (1, .int lo), (2, .int hi)]) hx hb dX3_number_71 hl (by decide) rfl (fun ls hl => ?_)
          refine lv_iinc (v := nI (k + 1)) (lv' := [(5, .int (nI (k + 1))), (4, .int u), (3, .int (b2i (isD (bA (f 5) T pp.1)))), (0, .ref (ad 23)), (1, .int lo), (2, .int hi)]) hx hb dX3_number_73 hl (k := 1) rfl (nI_1 _) (by decide) rfl (fun ls hl => ?_)
          refine lv_goto (tgt := 29) hx hb dX3_number_76 (by decide) ?_
          rw [if_neg c_342] at hnu
          exact ih (k + 1, _) _ ⟨ls, rfl, lv_sub hl [0, 1, 2, 3, 4, 5] rfl, hki, hnu⟩ (by show pp.2.1 - (k + 1) < pp.2.1 - k; omega)
      · rw [show pp.2.1 - k = 0 by omega, nuF] at hnu
        have hnv : nmV (f 5) T pp = u := by rw [nmV, if_pos hd]; exact hnu.symm
        rw [← hnv] at hl
        have hnv : nmV (f 5) T pp = nmV (f 5) T pp := rfl
        refine lv_iload hx hb dX3_number_29 (lv_at hl 0 rfl) ?_
        refine lv_aload_n hx hb dX3_number_31 rfl (lv_at hl 3 rfl) ?_
        refine m_get hc hW 8 (by decide) rfl q1008 rfl rfl dX3_number_32 ?_
        refine sm_topi (v := nI pp.2.1) rfl ?_
        refine lv_icmp_ge (tgt := 79) hx hb dX3_number_35 (by decide) (fun _ => ?_) (fun h => absurd (nI_le (by omega) (by omega)) h)
        refine lv_aload_n hx hb dX3_number_79 rfl (lv_at hl 3 rfl) ?_
        refine lv_iload hx hb dX3_number_80 (lv_at hl 1 rfl) ?_
        refine m_putS hc hW hS 9 (by decide) rfl rfl q1009 rfl rfl rfl rfl rfl rfl dX3_number_82 (fun H locs hW hS hz => ?_)
        have hW := psT_9 hW
        refine lv_aload_n hx hb dX3_number_85 rfl (lv_at hl 3 rfl) ?_
        refine lv_iload_n hx hb dX3_number_86 rfl (lv_at hl 2 rfl) ?_
        refine w_join (fun y => y = b2i (decide (isD (bA (f 5) T pp.1) ∧ lo ≤ nmV (f 5) T pp ∧ nmV (f 5) T pp ≤ hi) = true)) 108 [.ref (ad 23)] (fun y hy => ?_) (fun jn => ?_)
        · subst hy
          refine cv_W0 (rest := []) hc (M_needs l hW (T := T) hT hT1 (show PB T (pp.1, pp.2.1, nmV (f 5) T pp, pp.2.2.2.1, pp.2.2.2.2) from hB) (decide (isD (bA (f 5) T pp.1) ∧ lo ≤ nmV (f 5) T pp ∧ nmV (f 5) T pp ≤ hi))) (lw_V q1205 q1207 qs45 q70 q1208) nd_X3_needs ⟨Nat.le_of_ble_eq_true rfl, Nat.le_of_ble_eq_true rfl⟩ (MW.recv hK hW) rfl hl.1 rfl (Nat.le_of_ble_eq_true rfl) dX3_number_108 ⟨Nat.le_of_ble_eq_true rfl, Nat.le_of_ble_eq_true rfl⟩ hS (fun _ h => h) (fun H locs hW hS hz hk => ?_)
          exact rv_W hx hb hr hlk hS (by rw [nmP, if_neg c_341]; exact hW) dX3_number_111
        · refine bi_eq (tgt := 107) hx hb dX3_number_87 (by decide) (fun h => absurd hd h) (fun _ => ?_)
          refine lv_iload hx hb dX3_number_90 (lv_at hl 1 rfl) ?_
          refine lv_i2l hx hb dX3_number_92 rfl ?_
          refine lv_iload_n hx hb dX3_number_93 rfl (lv_at hl 4 rfl) ?_
          refine lv_i2l hx hb dX3_number_94 rfl ?_
          refine lv_iload_n hx hb dX3_number_95 rfl (lv_at hl 5 rfl) ?_
          refine lv_i2l hx hb dX3_number_96 rfl ?_
          refine cs_R1 (rest := [.ref (ad 23)]) hc (M_in32 l (nmV (f 5) T pp) lo hi) (lw_S q1089 q1090 q70 q1091) nd_X3_in ⟨Nat.le_of_ble_eq_true rfl, Nat.le_of_ble_eq_true rfl⟩ rfl hl.1 rfl (Nat.le_of_ble_eq_true rfl) dX3_number_97 ⟨Nat.le_of_ble_eq_true rfl, Nat.le_of_ble_eq_true rfl⟩ ?_
          refine bi_eq (tgt := 107) hx hb dX3_number_100 (by decide) (fun c_343 => ?_) (fun c_343 => ?_)
          · refine lv_iconst (v := 0) hx hb dX3_number_107 (by decide) ?_
            exact jn _ ((b2i_f (fun h => c_343 (hnv ▸ (of_decide_eq_true h).2))).symm)
          · refine lv_iconst (v := 1) hx hb dX3_number_103 (by decide) ?_
            refine lv_goto (tgt := 108) hx hb dX3_number_104 (by decide) ?_
            exact jn _ ((b2i_t (decide_eq_true ⟨hd, hnv ▸ c_343⟩)).symm)
    · have hnv : nmV (f 5) T pp = 0 := by rw [nmV, if_neg hd]
      rw [show lv_has ls 6 [(5, .int (nI pp.1)), (4, .int 0), (3, .int (b2i (isD (bA (f 5) T pp.1)))), (0, .ref (ad 23)), (1, .int lo), (2, .int hi)] = lv_has ls 6 [(5, .int (nI pp.1)), (4, .int (nmV (f 5) T pp)), (3, .int (b2i (isD (bA (f 5) T pp.1)))), (0, .ref (ad 23)), (1, .int lo), (2, .int hi)] from by rw [hnv]] at hl
      by_cases hab : pp.1 < pp.2.1
      · refine lv_iload hx hb dX3_number_29 (lv_at hl 0 rfl) ?_
        refine lv_aload_n hx hb dX3_number_31 rfl (lv_at hl 3 rfl) ?_
        refine m_get hc hW 8 (by decide) rfl q1008 rfl rfl dX3_number_32 ?_
        refine sm_topi (v := nI pp.2.1) rfl ?_
        refine lv_icmp_ge (tgt := 79) hx hb dX3_number_35 (by decide) (fun h => absurd h (nI_ge hab (by omega))) (fun _ => ?_)
        refine lv_iload_n hx hb dX3_number_38 rfl (lv_at hl 2 rfl) ?_
        refine bi_eq (tgt := 79) hx hb dX3_number_39 (by decide) (fun _ => ?_) (fun h => absurd h hd)
        refine lv_aload_n hx hb dX3_number_79 rfl (lv_at hl 3 rfl) ?_
        refine lv_iload hx hb dX3_number_80 (lv_at hl 1 rfl) ?_
        refine m_putS hc hW hS 9 (by decide) rfl rfl q1009 rfl rfl rfl rfl rfl rfl dX3_number_82 (fun H locs hW hS hz => ?_)
        have hW := psT_9 hW
        refine lv_aload_n hx hb dX3_number_85 rfl (lv_at hl 3 rfl) ?_
        refine lv_iload_n hx hb dX3_number_86 rfl (lv_at hl 2 rfl) ?_
        refine w_join (fun y => y = b2i (decide (isD (bA (f 5) T pp.1) ∧ lo ≤ nmV (f 5) T pp ∧ nmV (f 5) T pp ≤ hi) = true)) 108 [.ref (ad 23)] (fun y hy => ?_) (fun jn => ?_)
        · subst hy
          refine cv_W0 (rest := []) hc (M_needs l hW (T := T) hT hT1 (show PB T (pp.1, pp.2.1, nmV (f 5) T pp, pp.2.2.2.1, pp.2.2.2.2) from hB) (decide (isD (bA (f 5) T pp.1) ∧ lo ≤ nmV (f 5) T pp ∧ nmV (f 5) T pp ≤ hi))) (lw_V q1205 q1207 qs45 q70 q1208) nd_X3_needs ⟨Nat.le_of_ble_eq_true rfl, Nat.le_of_ble_eq_true rfl⟩ (MW.recv hK hW) rfl hl.1 rfl (Nat.le_of_ble_eq_true rfl) dX3_number_108 ⟨Nat.le_of_ble_eq_true rfl, Nat.le_of_ble_eq_true rfl⟩ hS (fun _ h => h) (fun H locs hW hS hz hk => ?_)
          exact rv_W hx hb hr hlk hS (by rw [nmP, if_neg c_341]; exact hW) dX3_number_111
        · refine bi_eq (tgt := 107) hx hb dX3_number_87 (by decide) (fun _ => ?_) (fun h => absurd h hd)
          refine lv_iconst (v := 0) hx hb dX3_number_107 (by decide) ?_
          exact jn _ ((b2i_f (fun h => hd (of_decide_eq_true h).1)).symm)
      · refine lv_iload hx hb dX3_number_29 (lv_at hl 0 rfl) ?_
        refine lv_aload_n hx hb dX3_number_31 rfl (lv_at hl 3 rfl) ?_
        refine m_get hc hW 8 (by decide) rfl q1008 rfl rfl dX3_number_32 ?_
        refine sm_topi (v := nI pp.2.1) rfl ?_
        refine lv_icmp_ge (tgt := 79) hx hb dX3_number_35 (by decide) (fun _ => ?_) (fun h => absurd (nI_le (by omega) (by omega)) h)
        refine lv_aload_n hx hb dX3_number_79 rfl (lv_at hl 3 rfl) ?_
        refine lv_iload hx hb dX3_number_80 (lv_at hl 1 rfl) ?_
        refine m_putS hc hW hS 9 (by decide) rfl rfl q1009 rfl rfl rfl rfl rfl rfl dX3_number_82 (fun H locs hW hS hz => ?_)
        have hW := psT_9 hW
        refine lv_aload_n hx hb dX3_number_85 rfl (lv_at hl 3 rfl) ?_
        refine lv_iload_n hx hb dX3_number_86 rfl (lv_at hl 2 rfl) ?_
        refine w_join (fun y => y = b2i (decide (isD (bA (f 5) T pp.1) ∧ lo ≤ nmV (f 5) T pp ∧ nmV (f 5) T pp ≤ hi) = true)) 108 [.ref (ad 23)] (fun y hy => ?_) (fun jn => ?_)
        · subst hy
          refine cv_W0 (rest := []) hc (M_needs l hW (T := T) hT hT1 (show PB T (pp.1, pp.2.1, nmV (f 5) T pp, pp.2.2.2.1, pp.2.2.2.2) from hB) (decide (isD (bA (f 5) T pp.1) ∧ lo ≤ nmV (f 5) T pp ∧ nmV (f 5) T pp ≤ hi))) (lw_V q1205 q1207 qs45 q70 q1208) nd_X3_needs ⟨Nat.le_of_ble_eq_true rfl, Nat.le_of_ble_eq_true rfl⟩ (MW.recv hK hW) rfl hl.1 rfl (Nat.le_of_ble_eq_true rfl) dX3_number_108 ⟨Nat.le_of_ble_eq_true rfl, Nat.le_of_ble_eq_true rfl⟩ hS (fun _ h => h) (fun H locs hW hS hz hk => ?_)
          exact rv_W hx hb hr hlk hS (by rw [nmP, if_neg c_341]; exact hW) dX3_number_111
        · refine bi_eq (tgt := 107) hx hb dX3_number_87 (by decide) (fun _ => ?_) (fun h => absurd h hd)
          refine lv_iconst (v := 0) hx hb dX3_number_107 (by decide) ?_
          exact jn _ ((b2i_f (fun h => hd (of_decide_eq_true h).1)).symm)
  · exact rv_W hx hb hr hlk hS (by rw [nmP, if_pos c_341]; exact hW) dX3_number_7
theorem nd_X3_perhaps : yX3_perhaps.cls = "SmokeLeansModel" ∧ yX3_perhaps.cls ≠ "java/lang/invoke/MethodHandle" ∧ yX3_perhaps.cls ≠ "java/lang/invoke/VarHandle" ∧ (parseMethodDescriptor yX3_perhaps.desc).map (fun d => d.parameters.length) = some 2 := by decide +kernel
set_option maxHeartbeats 4000000 in
theorem M_perhaps (l : Launch) {G : GD} {A : Nat → Prop} {f : Nat → Nat → Int32} {g : Nat → Nat → Int64} {ad : Nat → Nat} {H0 : Heap} {pp : PS} (hW : MW G A (psT f pp) g ad H0) {T : Nat} (hT : f 6 0 = nI T) (hT1 : T ≤ 120) (hB : PB T pp) (q : Bool) (most : Int32) : MetW l G yX3_perhaps cX3_perhaps 3 (some .int) 5 0 0 A [.ref (ad 23), .int (b2i (q = true)), .int most] H0 (some (.int ((phP (f 5) T q most pp).1))) (fun H => MW G A (psT f (phP (f 5) T q most pp).2) g ad H) := by
  refine mx_of (by decide) (Nat.le_of_ble_eq_true rfl) ?_
  intro p e s m below meth c hx hb hr hc hlk hnm hs0 ls hl
  subst hs0
  have hown := hc.2.2.2.1
  have hts := hc.2.2.2.2.1
  have hK := hc.2.2.2.2.2
  have hl : lv_has ls 3 [(0, .ref (ad 23)), (1, .int (b2i (q = true))), (2, .int most)] := hl
  have hS : va_S A s.heap s.heap [] := va_S.rf
  have hb1 := hB.1
  refine lv_aload_n hx hb dX3_perhaps_0 rfl (lv_at hl 0 rfl) ?_
  refine m_get hc hW 10 (by decide) rfl q1010 rfl rfl dX3_perhaps_1 ?_
  refine sm_topi (v := b2i (pp.2.2.2.1 = true)) rfl ?_
  refine bi_ne (tgt := 11) hx hb dX3_perhaps_4 (by decide) (fun c_344 => ?_) (fun c_344 => ?_)
  · refine lv_iconst (v := 0) hx hb dX3_perhaps_11 (by decide) ?_
    exact ri_W hx hb hr hlk hS (by rw [phP, if_pos c_344]) (by rw [phP, if_pos c_344]; exact hW) dX3_perhaps_12
  · refine lv_iload_n hx hb dX3_perhaps_7 rfl (lv_at hl 1 rfl) ?_
    refine bi_ne (tgt := 13) hx hb dX3_perhaps_8 (by decide) (fun c_345 => ?_) (fun c_345 => ?_)
    · refine lv_aload_n hx hb dX3_perhaps_13 rfl (lv_at hl 0 rfl) ?_
      refine lv_iconst (v := 1) hx hb dX3_perhaps_14 (by decide) ?_
      refine cv_W0 (rest := []) hc (M_needs l hW (T := T) hT hT1 hB true) (lw_V q1205 q1207 qs45 q70 q1208) nd_X3_needs ⟨Nat.le_of_ble_eq_true rfl, Nat.le_of_ble_eq_true rfl⟩ (MW.recv hK hW) rfl hl.1 rfl (Nat.le_of_ble_eq_true rfl) dX3_perhaps_15 ⟨Nat.le_of_ble_eq_true rfl, Nat.le_of_ble_eq_true rfl⟩ hS (fun _ h => h) (fun H locs hW hS hz hk => ?_)
      obtain ⟨pq_346, epq_346⟩ : ∃ q, q = ndP (f 5) T true pp := ⟨_, rfl⟩
      rw [← epq_346] at hW
      have hBpq_346 := ndP_B (t := f 5) (q := true) (p := pp) hB
      rw [← epq_346] at hBpq_346
      have hMpq_346 := hBpq_346.2
      have hBpq_346 := hBpq_346.1
      refine lv_aload_n hx hb dX3_perhaps_18 rfl (lv_at hl 0 rfl) ?_
      refine lv_iconst (v := 0) hx hb dX3_perhaps_19 (by decide) ?_
      refine lv_iload_n hx hb dX3_perhaps_20 rfl (lv_at hl 2 rfl) ?_
      refine cv_W0 (rest := []) hc (M_number l hW (T := T) hT hT1 hBpq_346 0 most) (lw_V q1209 q1211 qs46 q70 q1212) nd_X3_number ⟨Nat.le_of_ble_eq_true rfl, Nat.le_of_ble_eq_true rfl⟩ (MW.recv hK hW) rfl hl.1 rfl (Nat.le_of_ble_eq_true rfl) dX3_perhaps_21 ⟨Nat.le_of_ble_eq_true rfl, Nat.le_of_ble_eq_true rfl⟩ hS (fun _ h => h) (fun H locs hW hS hz hk => ?_)
      obtain ⟨pq_347, epq_347⟩ : ∃ q, q = nmP (f 5) T 0 most pq_346 := ⟨_, rfl⟩
      rw [← epq_347] at hW
      have hBpq_347 := nmP_B (t := f 5) (lo := 0) (hi := most) (p := pq_346) hBpq_346
      rw [← epq_347] at hBpq_347
      have hMpq_347 := hBpq_347.2
      have hBpq_347 := hBpq_347.1
      refine lv_aload_n hx hb dX3_perhaps_24 rfl (lv_at hl 0 rfl) ?_
      refine m_get hc hW 9 (by decide) rfl q1009 rfl rfl dX3_perhaps_25 ?_
      refine sm_topi (v := pq_347.2.2.1) rfl ?_
      exact ri_W hx hb hr hlk hS (by rw [phP, if_neg c_344, if_pos c_345, epq_347, epq_346]) (by rw [phP, if_neg c_344, if_pos c_345, ← epq_346, ← epq_347]; exact hW) dX3_perhaps_28
    · refine lv_iconst (v := 0) hx hb dX3_perhaps_11 (by decide) ?_
      exact ri_W hx hb hr hlk hS (by rw [phP, if_neg c_344, if_neg c_345]) (by rw [phP, if_neg c_344, if_neg c_345]; exact hW) dX3_perhaps_12
