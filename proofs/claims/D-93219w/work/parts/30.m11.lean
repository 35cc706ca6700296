/-! the reference's methods, 11: sheets -/
set_option maxRecDepth 100000
/-- sizes of sheets -/
def OkZ (f : Nat → Nat → Int32) : Prop := ∀ k, k < 4 → ∃ n, n ≤ 40 ∧ f 20 k = nI n
abbrev ST3 : Type := Int32 × (Nat → Nat → Int32) × (Nat → Nat → Int64)
abbrev BEY3 (f : Nat → Nat → Int32) (g : Nat → Nat → Int64) : ST3 := (-1000000001, cntP f 0, g)
abbrev MIS3 (f : Nat → Nat → Int32) (g : Nat → Nat → Int64) : ST3 := (-1000000006, cntP f 5, g)
def narP (b : Int32) (v : Int64) : Int64 := if b = 8 then v.toInt32.toInt8.toInt32.toInt64 else if b = 16 then v.toInt32.toInt16.toInt32.toInt64 else v
def wrongP (f : Nat → Nat → Int32) (x : Int32) : Int32 := if 0 ≤ x ∧ x ≤ 3 then (if f 19 x.toNatClampNeg = 0 then -1000000006 else 0) else -1000000001
/-- a stretch of the numbers replaced -/
def upR (g : Nat → Nat → Int64) (k a n : Nat) (c : Nat → Int64) : Nat → Nat → Int64 := fun q j => if q = k ∧ a ≤ j ∧ j < a + n then c (j - a) else g q j
theorem upR_0 {g : Nat → Nat → Int64} {k a : Nat} {c : Nat → Int64} : upR g k a 0 c = g := by
  funext q j
  unfold upR
  rw [if_neg (fun h => by omega)]
theorem upR_s {g : Nat → Nat → Int64} {k a n : Nat} {c : Nat → Int64} {x : Int64} (h : x = c n) : up2L (upR g k a n c) k (a + n) x = upR g k a (n + 1) c := by
  subst h
  funext q j
  unfold up2L upR
  by_cases h : q = k ∧ j = a + n
  · obtain ⟨rfl, rfl⟩ := h
    rw [if_pos ⟨rfl, rfl⟩, if_pos ⟨rfl, by omega, by omega⟩, show a + n - a = n by omega]
  · rw [if_neg h]
    by_cases h2 : q = k ∧ a ≤ j ∧ j < a + n
    · rw [if_pos h2, if_pos ⟨h2.1, h2.2.1, by omega⟩]
    · rw [if_neg h2, if_neg (fun h3 => by
        by_cases h4 : j = a + n
        · exact h ⟨h3.1, h4⟩
        · exact h2 ⟨h3.1, h3.2.1, by omega⟩)]
theorem upR_ne {g : Nat → Nat → Int64} {k a n q : Nat} {c : Nat → Int64} (h : q ≠ k) : upR g k a n c q = g q := by
  funext j
  unfold upR
  rw [if_neg (fun e => h e.1)]
theorem MW.gExt {G : GD} {A : Nat → Prop} {f : Nat → Nat → Int32} {g g' : Nat → Nat → Int64} {ad : Nat → Nat} {H : Heap} (h : MW G A f g ad H) (hg : g' = g) : MW G A f g' ad H := by rw [hg]; exact h
theorem nd_X3_isOne : yX3_isOne.cls ≠ "java/lang/invoke/MethodHandle" ∧ yX3_isOne.cls ≠ "java/lang/invoke/VarHandle" ∧ (parseMethodDescriptor yX3_isOne.desc).map (fun d => d.parameters.length) = some 1 := by decide +kernel
set_option maxHeartbeats 4000000 in
theorem M_isOne (l : Launch) {G : GD} {H0 : Heap} (x : Int32) : MetR l G yX3_isOne cX3_isOne 1 (some .boolean) 1 [.int x] H0 (some (.int (b2i (0 ≤ x ∧ x ≤ 3)))) := by
  refine mx_of (by decide) (Nat.le_of_ble_eq_true rfl) ?_
  intro p e s m below meth c hx hb hr hc hlk hnm hs0 ls hl
  subst hs0
  have hown := hc.2.2.2.1
  have hts := hc.2.2.2.2.1
  have hK := hc.2.2.2.2.2
  have hl : lv_has ls 1 [(0, .int x)] := hl
  refine lv_iload_n hx hb dX3_isOne_0 rfl (lv_at hl 0 rfl) ?_
  refine lv_i2l hx hb dX3_isOne_1 rfl ?_
  refine lv_lconst (v := (0 : Int32).toInt64) hx hb dX3_isOne_2 (by decide) ?_
  refine lv_ldc2 (v := 3) hx hb hown (hts _ q1276) dX3_isOne_3 (sm_topl (v := (3 : Int32).toInt64) (by decide) ?_)
  refine cs_R1 (rest := []) hc (M_in32 l x 0 3) (lw_S q1089 q1090 q70 q1091) nd_X3_in ⟨Nat.le_of_ble_eq_true rfl, Nat.le_of_ble_eq_true rfl⟩ rfl hl.1 rfl (Nat.le_of_ble_eq_true rfl) dX3_isOne_6 ⟨Nat.le_of_ble_eq_true rfl, Nat.le_of_ble_eq_true rfl⟩ ?_
  exact rz_R hx hb hr hlk (rfl) dX3_isOne_9
theorem nd_X3_narrowed : yX3_narrowed.cls ≠ "java/lang/invoke/MethodHandle" ∧ yX3_narrowed.cls ≠ "java/lang/invoke/VarHandle" ∧ (parseMethodDescriptor yX3_narrowed.desc).map (fun d => d.parameters.length) = some 2 := by decide +kernel
set_option maxHeartbeats 4000000 in
theorem M_narrowed (l : Launch) {G : GD} {H0 : Heap} (b : Int32) (v : Int64) : MetR l G yX3_narrowed cX3_narrowed 3 (some .long) 0 [.int b, .long v] H0 (some (.long (narP b v))) := by
  refine mx_of (by decide) (Nat.le_of_ble_eq_true rfl) ?_
  intro p e s m below meth c hx hb hr hc hlk hnm hs0 ls hl
  subst hs0
  have hown := hc.2.2.2.1
  have hts := hc.2.2.2.2.1
  have hK := hc.2.2.2.2.2
  have hl : lv_has ls 3 [(0, .int b), (1, .long v)] := hl
  refine lv_iload_n hx hb dX3_narrowed_0 rfl (lv_at hl 0 rfl) ?_
  refine lv_bipush (v := 8) hx hb dX3_narrowed_1 (by decide) ?_
  refine lv_icmp_ne (tgt := 13) hx hb dX3_narrowed_3 (by decide) (fun c_199 => ?_) (fun c_199 => ?_)
  · refine lv_iload_n hx hb dX3_narrowed_13 rfl (lv_at hl 0 rfl) ?_
    refine lv_bipush (v := 16) hx hb dX3_narrowed_14 (by decide) ?_
    refine lv_icmp_ne (tgt := 26) hx hb dX3_narrowed_16 (by decide) (fun c_200 => ?_) (fun c_200 => ?_)
    · refine lv_lload_n hx hb dX3_narrowed_26 rfl (lv_at hl 1 rfl) ?_
      exact rl_R hx hb hr hlk (by simp only [narP, if_neg c_199, if_neg c_200]) dX3_narrowed_27
    · refine lv_lload_n hx hb dX3_narrowed_19 rfl (lv_at hl 1 rfl) ?_
      refine lv_l2i hx hb dX3_narrowed_20 rfl ?_
      refine lv_i2s hx hb dX3_narrowed_21 rfl ?_
      refine lv_i2l hx hb dX3_narrowed_22 rfl ?_
      refine lv_goto (tgt := 27) hx hb dX3_narrowed_23 (by decide) ?_
      exact rl_R hx hb hr hlk (by simp only [narP, if_neg c_199, if_pos c_200]) dX3_narrowed_27
  · refine lv_lload_n hx hb dX3_narrowed_6 rfl (lv_at hl 1 rfl) ?_
    refine lv_l2i hx hb dX3_narrowed_7 rfl ?_
    refine lv_i2b hx hb dX3_narrowed_8 rfl ?_
    refine lv_i2l hx hb dX3_narrowed_9 rfl ?_
    refine lv_goto (tgt := 27) hx hb dX3_narrowed_10 (by decide) ?_
    exact rl_R hx hb hr hlk (by simp only [narP, if_pos c_199]) dX3_narrowed_27
theorem nd_X3_wrong : yX3_wrong.cls = "SmokeLeansModel" ∧ yX3_wrong.cls ≠ "java/lang/invoke/MethodHandle" ∧ yX3_wrong.cls ≠ "java/lang/invoke/VarHandle" ∧ (parseMethodDescriptor yX3_wrong.desc).map (fun d => d.parameters.length) = some 1 := by decide +kernel
set_option maxHeartbeats 4000000 in
theorem M_wrong (l : Launch) {G : GD} {A : Nat → Prop} {f : Nat → Nat → Int32} {g : Nat → Nat → Int64} {ad : Nat → Nat} {H0 : Heap} (hW : MW G A f g ad H0) (x : Int32) : MetR l G yX3_wrong cX3_wrong 2 (some .int) 2 [.ref (ad 23), .int x] H0 (some (.int (wrongP f x))) := by
  refine mx_of (by decide) (Nat.le_of_ble_eq_true rfl) ?_
  intro p e s m below meth c hx hb hr hc hlk hnm hs0 ls hl
  subst hs0
  have hown := hc.2.2.2.1
  have hts := hc.2.2.2.2.1
  have hK := hc.2.2.2.2.2
  have hl : lv_has ls 2 [(0, .ref (ad 23)), (1, .int x)] := hl
  refine lv_iload_n hx hb dX3_wrong_0 rfl (lv_at hl 1 rfl) ?_
  refine cs_R1 (rest := []) hc (M_isOne l x) (lw_S q1372 q1373 q70 q1374) nd_X3_isOne ⟨Nat.le_of_ble_eq_true rfl, Nat.le_of_ble_eq_true rfl⟩ rfl hl.1 rfl (Nat.le_of_ble_eq_true rfl) dX3_wrong_1 ⟨Nat.le_of_ble_eq_true rfl, Nat.le_of_ble_eq_true rfl⟩ ?_
  refine bi_ne (tgt := 12) hx hb dX3_wrong_4 (by decide) (fun c_201 => ?_) (fun c_201 => ?_)
  · obtain ⟨k, hk, rfl⟩ := ex_le 3 (hi := 3) rfl (by decide) c_201.1 c_201.2
    have hclk : (nI k).toNatClampNeg = k := nI_clamp (by omega)
    refine lv_aload_n hx hb dX3_wrong_12 rfl (lv_at hl 0 rfl) ?_
    refine m_get hc hW 19 (by decide) rfl q1019 rfl rfl dX3_wrong_13 ?_
    refine lv_iload_n hx hb dX3_wrong_16 rfl (lv_at hl 1 rfl) ?_
    refine m_ild hc hW 19 rfl (n := 4) rfl (ix_nI (by omega) (by decide)) dX3_wrong_17 ?_
    refine lv_if_ne (tgt := 27) hx hb dX3_wrong_18 (by decide) (fun c_202 => ?_) (fun c_202 => ?_)
    · refine lv_iconst (v := 0) hx hb dX3_wrong_27 (by decide) ?_
      exact ri_R hx hb hr hlk (by simp only [wrongP, hclk, if_pos c_201, if_neg c_202]) dX3_wrong_28
    · refine lv_ldcw (v := (-1000000006)) hx hb hown (hts _ q1384) dX3_wrong_21 ?_
      refine lv_goto (tgt := 28) hx hb dX3_wrong_24 (by decide) ?_
      exact ri_R hx hb hr hlk (by simp only [wrongP, hclk, if_pos c_201, if_pos c_202]) dX3_wrong_28
  · refine lv_ldc (v := (-1000000001)) hx hb hown (hts _ q1079) dX3_wrong_7 ?_
    refine lv_goto (tgt := 28) hx hb dX3_wrong_9 (by decide) ?_
    exact ri_R hx hb hr hlk (by simp only [wrongP, if_neg c_201]) dX3_wrong_28
def sheetM (f : Nat → Nat → Int32) (g : Nat → Nat → Int64) (x b n : Int32) : ST3 :=
  if 0 ≤ x ∧ x ≤ 3 then
    if b = 0 ∨ b = 8 ∨ b = 16 ∨ b = 64 then
      if 0 ≤ n then
        if n ≤ 40 then (if b = 0 then 0 else n, up2 (up2 f 19 x.toNatClampNeg b) 20 x.toNatClampNeg (if b = 0 then 0 else n), upR g 21 (40 * x.toNatClampNeg) 40 (fun _ => (0 : Int32).toInt64))
        else BEY3 f g
      else (-1000000007, cntP f 6, g)
    else BEY3 f g
  else BEY3 f g
theorem nd_X3_sheet : yX3_sheet.cls = "SmokeLeansModel" ∧ yX3_sheet.cls ≠ "java/lang/invoke/MethodHandle" ∧ yX3_sheet.cls ≠ "java/lang/invoke/VarHandle" ∧ (parseMethodDescriptor yX3_sheet.desc).map (fun d => d.parameters.length) = some 3 := by decide +kernel
set_option maxHeartbeats 4000000 in
theorem M_sheet (l : Launch) {G : GD} {A : Nat → Prop} {f : Nat → Nat → Int32} {g : Nat → Nat → Int64} {ad : Nat → Nat} {H0 : Heap} (hW : MW G A f g ad H0) (x b n : Int32) : MetW l G yX3_sheet cX3_sheet 5 (some .int) 2 0 0 A [.ref (ad 23), .int x, .int b, .int n] H0 (some (.int ((sheetM f g x b n).1))) (fun H => MW G A (sheetM f g x b n).2.1 (sheetM f g x b n).2.2 ad H) := by
  refine mx_of (by decide) (Nat.le_of_ble_eq_true rfl) ?_
  intro p e s m below meth c hx hb hr hc hlk hnm hs0 ls hl
  subst hs0
  have hown := hc.2.2.2.1
  have hts := hc.2.2.2.2.1
  have hK := hc.2.2.2.2.2
  have hl : lv_has ls 5 [(0, .ref (ad 23)), (1, .int x), (2, .int b), (3, .int n)] := hl
  have hS : va_S A s.heap s.heap [] := va_S.rf
  refine lv_iload_n hx hb dX3_sheet_0 rfl (lv_at hl 1 rfl) ?_
  refine cs_R1 (rest := []) hc (M_isOne l x) (lw_S q1372 q1373 q70 q1374) nd_X3_isOne ⟨Nat.le_of_ble_eq_true rfl, Nat.le_of_ble_eq_true rfl⟩ rfl hl.1 rfl (Nat.le_of_ble_eq_true rfl) dX3_sheet_1 ⟨Nat.le_of_ble_eq_true rfl, Nat.le_of_ble_eq_true rfl⟩ ?_
  refine bi_eq (tgt := 29) hx hb dX3_sheet_4 (by decide) (fun c_203 => ?_) (fun c_203 => ?_)
  · refine lv_aload_n hx hb dX3_sheet_29 rfl (lv_at hl 0 rfl) ?_
    refine lv_ldc (v := (-1000000001)) hx hb hown (hts _ q1079) dX3_sheet_30 ?_
    refine cv_W1 (rest := []) hc (M_finds l hW (-1000000001) 0 (ix_eq (k := 0) (by decide) (by decide) (by decide))) (lw_V q1075 q1077 qs28 q70 q1078) nd_X3_finds ⟨Nat.le_of_ble_eq_true rfl, Nat.le_of_ble_eq_true rfl⟩ (MW.recv hK hW) rfl hl.1 rfl (Nat.le_of_ble_eq_true rfl) dX3_sheet_32 ⟨Nat.le_of_ble_eq_true rfl, Nat.le_of_ble_eq_true rfl⟩ hS (fun _ h => h) (fun H locs hW hS hz hk => ?_)
    exact ri_W hx hb hr hlk hS (by simp only [sheetM, if_neg c_203]) (by simp only [sheetM, if_neg c_203]; exact hW) dX3_sheet_35
  · obtain ⟨k, hk3, rfl⟩ := ex_le 3 (hi := 3) rfl (by decide) c_203.1 c_203.2
    have hclk : (nI k).toNatClampNeg = k := nI_clamp (by omega)
    refine w_lab (b = 0 ∨ b = 8 ∨ b = 16 ∨ b = 64) 36 [] (fun hb4 => ?_) (fun jn => ?_)
    · refine lv_iload_n hx hb dX3_sheet_36 rfl (lv_at hl 3 rfl) ?_
      refine lv_if_ge (tgt := 48) hx hb dX3_sheet_37 (by decide) (fun c_204 => ?_) (fun c_204 => ?_)
      · refine lv_iload_n hx hb dX3_sheet_48 rfl (lv_at hl 3 rfl) ?_
        refine lv_bipush (v := 40) hx hb dX3_sheet_49 (by decide) ?_
        refine lv_icmp_le (tgt := 61) hx hb dX3_sheet_51 (by decide) (fun c_205 => ?_) (fun c_205 => ?_)
        · refine lv_aload_n hx hb dX3_sheet_61 rfl (lv_at hl 0 rfl) ?_
          refine m_get hc hW 19 (by decide) rfl q1019 rfl rfl dX3_sheet_62 ?_
          refine lv_iload_n hx hb dX3_sheet_65 rfl (lv_at hl 1 rfl) ?_
          refine lv_iload_n hx hb dX3_sheet_66 rfl (lv_at hl 2 rfl) ?_
          refine m_ist hc hW hS 19 rfl (n := 4) rfl (ix_nI (by omega) (by decide)) dX3_sheet_67 (fun H locs hW hS hz => ?_)
          refine lv_aload_n hx hb dX3_sheet_68 rfl (lv_at hl 0 rfl) ?_
          refine m_get hc hW 20 (by decide) rfl q1020 rfl rfl dX3_sheet_69 ?_
          refine lv_iload_n hx hb dX3_sheet_72 rfl (lv_at hl 1 rfl) ?_
          refine w_join (fun y => y = if b = 0 then 0 else n) 82 [.int (nI k), .ref (ad 20)] (fun y hy => ?_) (fun jn => ?_)
          · subst hy
            refine m_ist hc hW hS 20 rfl (n := 4) rfl (ix_nI (by omega) (by decide)) dX3_sheet_82 (fun H locs hW hS hz => ?_)
            refine lv_iconst (v := 0) hx hb dX3_sheet_83 (by decide) ?_
            refine lv_istore (lv' := [(4, .int 0), (0, .ref (ad 23)), (1, .int (nI k)), (2, .int b), (3, .int n)]) hx hb dX3_sheet_84 hl (by decide) rfl (fun ls hl => ?_)
            refine w_loopH (σ := Nat) (fun i H locs cells slots fr => cells = 0 ∧ slots = 0 ∧ (∃ ls, fr = F0 m 86 ls [] ∧ lv_has ls 5 [(4, .int (nI i)), (0, .ref (ad 23)), (1, .int (nI k)), (2, .int b), (3, .int n)]) ∧ va_S A s.heap H locs ∧ (i ≤ 40 ∧ MW G A (up2 (up2 f 19 k b) 20 k (if b = 0 then 0 else n)) (upR g 21 (40 * k) i (fun _ => (0 : Int32).toInt64)) ad H)) (fun i => 40 - i) 0 ⟨rfl, rfl, ⟨ls, rfl, lv_sub hl [0, 1, 2, 3, 4] rfl⟩, hS, ⟨Nat.zero_le _, by rw [upR_0]; exact hW⟩⟩ ?_
            intro i H locs cells slots fr hI ih
            obtain ⟨rfl, rfl, ⟨ls, rfl, hl⟩, hS, ⟨hle, hW⟩⟩ := hI
            by_cases hi : i < 40
            · refine lv_iload hx hb dX3_sheet_86 (lv_at hl 0 rfl) ?_
              refine lv_bipush (v := 40) hx hb dX3_sheet_88 (by decide) ?_
              refine lv_icmp_ge (tgt := 112) hx hb dX3_sheet_90 (by decide) (fun h => absurd h (nI_ge (b := 40) hi (by decide))) (fun _ => ?_)
              refine lv_aload_n hx hb dX3_sheet_93 rfl (lv_at hl 1 rfl) ?_
              refine m_get hc hW 21 (by decide) rfl q1021 rfl rfl dX3_sheet_94 ?_
              refine lv_bipush (v := 40) hx hb dX3_sheet_97 (by decide) ?_
              refine lv_iload_n hx hb dX3_sheet_99 rfl (lv_at hl 2 rfl) ?_
              refine lv_imul hx hb dX3_sheet_100 (sm_topi (v := nI (40 * k)) (pk_mul _ _) ?_)
              refine lv_iload hx hb dX3_sheet_101 (lv_at hl 0 rfl) ?_
              refine lv_iadd hx hb dX3_sheet_103 (sm_topi (v := nI (40 * k + i)) (nI_add _ _) ?_)
              refine lv_lconst (v := (0 : Int32).toInt64) hx hb dX3_sheet_104 (by decide) ?_
              refine m_lst hc hW hS 21 rfl (n := 160) rfl (ix_nI (by omega) (by decide)) dX3_sheet_105 (fun H locs hW hS hz => ?_)
              refine lv_iinc (v := nI (i + 1)) (lv' := [(4, .int (nI (i + 1))), (0, .ref (ad 23)), (1, .int (nI k)), (2, .int b), (3, .int n)]) hx hb dX3_sheet_106 hl (k := 0) rfl (nI_1 _) (by decide) rfl (fun ls hl => ?_)
              refine lv_goto (tgt := 86) hx hb dX3_sheet_109 (by decide) ?_
              rw [upR_s rfl] at hW
              exact ih (i + 1) _ _ _ _ _ ⟨rfl, rfl, ⟨ls, rfl, lv_sub hl [0, 1, 2, 3, 4] rfl⟩, hS, hi, hW⟩ (by omega)
            · have hi40 : i = 40 := by omega
              subst hi40
              refine lv_iload hx hb dX3_sheet_86 (lv_at hl 0 rfl) ?_
              refine lv_bipush (v := 40) hx hb dX3_sheet_88 (by decide) ?_
              refine lv_icmp_ge (tgt := 112) hx hb dX3_sheet_90 (by decide) (fun _ => ?_) (fun h => absurd (nI_le (a := 40) (by omega) (by omega)) h)
              refine lv_aload_n hx hb dX3_sheet_112 rfl (lv_at hl 1 rfl) ?_
              refine m_get hc hW 20 (by decide) rfl q1020 rfl rfl dX3_sheet_113 ?_
              refine lv_iload_n hx hb dX3_sheet_116 rfl (lv_at hl 2 rfl) ?_
              refine m_ild hc hW 20 rfl (n := 4) rfl (ix_nI (by omega) (by decide)) dX3_sheet_117 ?_
              refine sm_topi (v := if b = 0 then 0 else n) (up2_at) ?_
              exact ri_W hx hb hr hlk hS (by simp only [sheetM, hclk, if_pos c_203, if_pos hb4, if_pos c_204, if_pos c_205]) (by simp only [sheetM, hclk, if_pos c_203, if_pos hb4, if_pos c_204, if_pos c_205]; exact hW) dX3_sheet_118
          · refine lv_iload_n hx hb dX3_sheet_73 rfl (lv_at hl 2 rfl) ?_
            refine lv_if_ne (tgt := 81) hx hb dX3_sheet_74 (by decide) (fun c_206 => ?_) (fun c_206 => ?_)
            · refine lv_iload_n hx hb dX3_sheet_81 rfl (lv_at hl 3 rfl) ?_
              exact jn _ (by simp only [if_neg c_206])
            · refine lv_iconst (v := 0) hx hb dX3_sheet_77 (by decide) ?_
              refine lv_goto (tgt := 82) hx hb dX3_sheet_78 (by decide) ?_
              exact jn _ (by simp only [if_pos c_206])
        · refine lv_aload_n hx hb dX3_sheet_54 rfl (lv_at hl 0 rfl) ?_
          refine lv_ldc (v := (-1000000001)) hx hb hown (hts _ q1079) dX3_sheet_55 ?_
          refine cv_W1 (rest := []) hc (M_finds l hW (-1000000001) 0 (ix_eq (k := 0) (by decide) (by decide) (by decide))) (lw_V q1075 q1077 qs28 q70 q1078) nd_X3_finds ⟨Nat.le_of_ble_eq_true rfl, Nat.le_of_ble_eq_true rfl⟩ (MW.recv hK hW) rfl hl.1 rfl (Nat.le_of_ble_eq_true rfl) dX3_sheet_57 ⟨Nat.le_of_ble_eq_true rfl, Nat.le_of_ble_eq_true rfl⟩ hS (fun _ h => h) (fun H locs hW hS hz hk => ?_)
          exact ri_W hx hb hr hlk hS (by simp only [sheetM, hclk, if_pos c_203, if_pos hb4, if_pos c_204, if_neg c_205]) (by simp only [sheetM, hclk, if_pos c_203, if_pos hb4, if_pos c_204, if_neg c_205]; exact hW) dX3_sheet_60
      · refine lv_aload_n hx hb dX3_sheet_40 rfl (lv_at hl 0 rfl) ?_
        refine lv_ldcw (v := (-1000000007)) hx hb hown (hts _ q1375) dX3_sheet_41 ?_
        refine cv_W1 (rest := []) hc (M_finds l hW (-1000000007) 6 (ix_eq (k := 6) (by decide) (by decide) (by decide))) (lw_V q1075 q1077 qs28 q70 q1078) nd_X3_finds ⟨Nat.le_of_ble_eq_true rfl, Nat.le_of_ble_eq_true rfl⟩ (MW.recv hK hW) rfl hl.1 rfl (Nat.le_of_ble_eq_true rfl) dX3_sheet_44 ⟨Nat.le_of_ble_eq_true rfl, Nat.le_of_ble_eq_true rfl⟩ hS (fun _ h => h) (fun H locs hW hS hz hk => ?_)
        exact ri_W hx hb hr hlk hS (by simp only [sheetM, hclk, if_pos c_203, if_pos hb4, if_neg c_204]) (by simp only [sheetM, hclk, if_pos c_203, if_pos hb4, if_neg c_204]; exact hW) dX3_sheet_47
    · refine lv_iload_n hx hb dX3_sheet_7 rfl (lv_at hl 2 rfl) ?_
      refine lv_if_eq (tgt := 36) hx hb dX3_sheet_8 (by decide) (fun c_207 => ?_) (fun c_207 => ?_)
      · exact jn (Or.inl c_207)
      · refine lv_iload_n hx hb dX3_sheet_11 rfl (lv_at hl 2 rfl) ?_
        refine lv_bipush (v := 8) hx hb dX3_sheet_12 (by decide) ?_
        refine lv_icmp_eq (tgt := 36) hx hb dX3_sheet_14 (by decide) (fun c_208 => ?_) (fun c_208 => ?_)
        · exact jn (Or.inr (Or.inl c_208))
        · refine lv_iload_n hx hb dX3_sheet_17 rfl (lv_at hl 2 rfl) ?_
          refine lv_bipush (v := 16) hx hb dX3_sheet_18 (by decide) ?_
          refine lv_icmp_eq (tgt := 36) hx hb dX3_sheet_20 (by decide) (fun c_209 => ?_) (fun c_209 => ?_)
          · exact jn (Or.inr (Or.inr (Or.inl c_209)))
          · refine lv_iload_n hx hb dX3_sheet_23 rfl (lv_at hl 2 rfl) ?_
            refine lv_bipush (v := 64) hx hb dX3_sheet_24 (by decide) ?_
            refine lv_icmp_eq (tgt := 36) hx hb dX3_sheet_26 (by decide) (fun c_210 => ?_) (fun c_210 => ?_)
            · exact jn (Or.inr (Or.inr (Or.inr c_210)))
            · refine lv_aload_n hx hb dX3_sheet_29 rfl (lv_at hl 0 rfl) ?_
              refine lv_ldc (v := (-1000000001)) hx hb hown (hts _ q1079) dX3_sheet_30 ?_
              refine cv_W1 (rest := []) hc (M_finds l hW (-1000000001) 0 (ix_eq (k := 0) (by decide) (by decide) (by decide))) (lw_V q1075 q1077 qs28 q70 q1078) nd_X3_finds ⟨Nat.le_of_ble_eq_true rfl, Nat.le_of_ble_eq_true rfl⟩ (MW.recv hK hW) rfl hl.1 rfl (Nat.le_of_ble_eq_true rfl) dX3_sheet_32 ⟨Nat.le_of_ble_eq_true rfl, Nat.le_of_ble_eq_true rfl⟩ hS (fun _ h => h) (fun H locs hW hS hz hk => ?_)
              exact ri_W hx hb hr hlk hS (by simp only [sheetM, if_pos c_203, if_neg (not_or.mpr ⟨c_207, not_or.mpr ⟨c_208, not_or.mpr ⟨c_209, c_210⟩⟩⟩)]) (by simp only [sheetM, if_pos c_203, if_neg (not_or.mpr ⟨c_207, not_or.mpr ⟨c_208, not_or.mpr ⟨c_209, c_210⟩⟩⟩)]; exact hW) dX3_sheet_35
def writeM (f : Nat → Nat → Int32) (g : Nat → Nat → Int64) (x i : Int32) (v : Int64) : Int64 × (Nat → Nat → Int32) × (Nat → Nat → Int64) :=
  if 0 ≤ x ∧ x ≤ 3 then
    if f 19 x.toNatClampNeg = 0 then ((-1000000006 : Int32).toInt64, cntP f 5, g)
    else if 0 ≤ i ∧ i ≤ f 20 x.toNatClampNeg - 1 then (g 21 (40 * x.toNatClampNeg + i.toNatClampNeg), f, up2L g 21 (40 * x.toNatClampNeg + i.toNatClampNeg) (narP (f 19 x.toNatClampNeg) v))
    else ((-1000000001 : Int32).toInt64, cntP f 0, g)
  else ((-1000000001 : Int32).toInt64, cntP f 0, g)
theorem nd_X3_write : yX3_write.cls = "SmokeLeansModel" ∧ yX3_write.cls ≠ "java/lang/invoke/MethodHandle" ∧ yX3_write.cls ≠ "java/lang/invoke/VarHandle" ∧ (parseMethodDescriptor yX3_write.desc).map (fun d => d.parameters.length) = some 3 := by decide +kernel
set_option maxHeartbeats 4000000 in
theorem M_write (l : Launch) {G : GD} {A : Nat → Prop} {f : Nat → Nat → Int32} {g : Nat → Nat → Int64} {ad : Nat → Nat} {H0 : Heap} (hW : MW G A f g ad H0) (hz : OkZ f) (x i : Int32) (v : Int64) : MetW l G yX3_write cX3_write 8 (some .long) 3 0 0 A [.ref (ad 23), .int x, .int i, .long v] H0 (some (.long ((writeM f g x i v).1))) (fun H => MW G A (writeM f g x i v).2.1 (writeM f g x i v).2.2 ad H) := by
  refine mx_of (by decide) (Nat.le_of_ble_eq_true rfl) ?_
  intro p e s m below meth c hx hb hr hc hlk hnm hs0 ls hl
  subst hs0
  have hown := hc.2.2.2.1
  have hts := hc.2.2.2.2.1
  have hK := hc.2.2.2.2.2
  have hl : lv_has ls 8 [(0, .ref (ad 23)), (1, .int x), (2, .int i), (3, .long v)] := hl
  have hS : va_S A s.heap s.heap [] := va_S.rf
  refine lv_aload_n hx hb dX3_write_0 rfl (lv_at hl 0 rfl) ?_
  refine lv_iload_n hx hb dX3_write_1 rfl (lv_at hl 1 rfl) ?_
  refine cv_R1 (rest := []) hc (M_wrong l hW x) (lw_V q1380 q1382 qs65 q70 q1383) nd_X3_wrong ⟨Nat.le_of_ble_eq_true rfl, Nat.le_of_ble_eq_true rfl⟩ (MW.recv hK hW) rfl hl.1 rfl (Nat.le_of_ble_eq_true rfl) dX3_write_2 ⟨Nat.le_of_ble_eq_true rfl, Nat.le_of_ble_eq_true rfl⟩ ?_
  by_cases hA : 0 ≤ x ∧ x ≤ 3
  · obtain ⟨k, hk3, rfl⟩ := ex_le 3 (hi := 3) rfl (by decide) hA.1 hA.2
    have hclk : (nI k).toNatClampNeg = k := nI_clamp (by omega)
    obtain ⟨n, hn40, hnk⟩ := hz k (by omega)
    by_cases hB : f 19 k = 0
    · refine sm_topi (v := -1000000006) (by simp only [wrongP, hclk, if_pos hA, if_pos hB]) ?_
      refine lv_istore (lv' := [(5, .int (-1000000006)), (0, .ref (ad 23)), (1, .int (nI k)), (2, .int i), (3, .long v)]) hx hb dX3_write_5 hl (by decide) rfl (fun ls hl => ?_)
      refine lv_iload hx hb dX3_write_7 (lv_at hl 0 rfl) ?_
      refine lv_if_eq (tgt := 20) hx hb dX3_write_9 (by decide) (fun h => absurd h (by decide)) (fun _ => ?_)
      refine lv_aload_n hx hb dX3_write_12 rfl (lv_at hl 1 rfl) ?_
      refine lv_iload hx hb dX3_write_13 (lv_at hl 0 rfl) ?_
      refine cv_W1 (rest := []) hc (M_finds l hW (-1000000006) 5 (ix_eq (k := 5) (by decide) (by decide) (by decide))) (lw_V q1075 q1077 qs28 q70 q1078) nd_X3_finds ⟨Nat.le_of_ble_eq_true rfl, Nat.le_of_ble_eq_true rfl⟩ (MW.recv hK hW) rfl hl.1 rfl (Nat.le_of_ble_eq_true rfl) dX3_write_15 ⟨Nat.le_of_ble_eq_true rfl, Nat.le_of_ble_eq_true rfl⟩ hS (fun _ h => h) (fun H locs hW hS hz hk => ?_)
      refine lv_i2l hx hb dX3_write_18 rfl ?_
      exact rl_W hx hb hr hlk hS (by simp only [writeM, hclk, if_pos hA, if_pos hB]) (by simp only [writeM, hclk, if_pos hA, if_pos hB]; exact hW) dX3_write_19
    · refine sm_topi (v := 0) (by simp only [wrongP, hclk, if_pos hA, if_neg hB]) ?_
      refine lv_istore (lv' := [(5, .int 0), (0, .ref (ad 23)), (1, .int (nI k)), (2, .int i), (3, .long v)]) hx hb dX3_write_5 hl (by decide) rfl (fun ls hl => ?_)
      refine lv_iload hx hb dX3_write_7 (lv_at hl 0 rfl) ?_
      refine lv_if_eq (tgt := 20) hx hb dX3_write_9 (by decide) (fun _ => ?_) (fun h => absurd (by decide) h)
      refine lv_iload_n hx hb dX3_write_20 rfl (lv_at hl 3 rfl) ?_
      refine lv_i2l hx hb dX3_write_21 rfl ?_
      refine lv_lconst (v := (0 : Int32).toInt64) hx hb dX3_write_22 (by decide) ?_
      refine lv_aload_n hx hb dX3_write_23 rfl (lv_at hl 1 rfl) ?_
      refine m_get hc hW 20 (by decide) rfl q1020 rfl rfl dX3_write_24 ?_
      refine lv_iload_n hx hb dX3_write_27 rfl (lv_at hl 2 rfl) ?_
      refine m_ild hc hW 20 rfl (n := 4) rfl (ix_nI (by omega) (by decide)) dX3_write_28 ?_
      refine lv_iconst (v := 1) hx hb dX3_write_29 (by decide) ?_
      refine lv_isub hx hb dX3_write_30 ?_
      refine lv_i2l hx hb dX3_write_31 rfl ?_
      refine cs_R1 (rest := []) hc (M_in32 l i 0 ((f 20 k) - 1)) (lw_S q1089 q1090 q70 q1091) nd_X3_in ⟨Nat.le_of_ble_eq_true rfl, Nat.le_of_ble_eq_true rfl⟩ rfl hl.1 rfl (Nat.le_of_ble_eq_true rfl) dX3_write_32 ⟨Nat.le_of_ble_eq_true rfl, Nat.le_of_ble_eq_true rfl⟩ ?_
      refine bi_ne (tgt := 46) hx hb dX3_write_35 (by decide) (fun c_211 => ?_) (fun c_211 => ?_)
      · obtain ⟨j, hj, rfl⟩ := ex_pred hnk (by omega) c_211
        have hclj : (nI j).toNatClampNeg = j := nI_clamp (by omega)
        refine lv_aload_n hx hb dX3_write_46 rfl (lv_at hl 1 rfl) ?_
        refine m_get hc hW 21 (by decide) rfl q1021 rfl rfl dX3_write_47 ?_
        refine lv_bipush (v := 40) hx hb dX3_write_50 (by decide) ?_
        refine lv_iload_n hx hb dX3_write_52 rfl (lv_at hl 2 rfl) ?_
        refine lv_imul hx hb dX3_write_53 (sm_topi (v := nI (40 * k)) (pk_mul _ _) ?_)
        refine lv_iload_n hx hb dX3_write_54 rfl (lv_at hl 3 rfl) ?_
        refine lv_iadd hx hb dX3_write_55 (sm_topi (v := nI (40 * k + j)) (nI_add _ _) ?_)
        refine m_lld hc hW 21 rfl (n := 160) rfl (ix_nI (by omega) (by decide)) dX3_write_56 ?_
        refine lv_lstore (lv' := [(6, .long (g 21 (40 * k + j))), (5, .int 0), (0, .ref (ad 23)), (1, .int (nI k)), (2, .int (nI j)), (3, .long v)]) hx hb dX3_write_57 hl (by decide) rfl (fun ls hl => ?_)
        refine lv_aload_n hx hb dX3_write_59 rfl (lv_at hl 2 rfl) ?_
        refine m_get hc hW 21 (by decide) rfl q1021 rfl rfl dX3_write_60 ?_
        refine lv_bipush (v := 40) hx hb dX3_write_63 (by decide) ?_
        refine lv_iload_n hx hb dX3_write_65 rfl (lv_at hl 3 rfl) ?_
        refine lv_imul hx hb dX3_write_66 (sm_topi (v := nI (40 * k)) (pk_mul _ _) ?_)
        refine lv_iload_n hx hb dX3_write_67 rfl (lv_at hl 4 rfl) ?_
        refine lv_iadd hx hb dX3_write_68 (sm_topi (v := nI (40 * k + j)) (nI_add _ _) ?_)
        refine lv_aload_n hx hb dX3_write_69 rfl (lv_at hl 2 rfl) ?_
        refine m_get hc hW 19 (by decide) rfl q1019 rfl rfl dX3_write_70 ?_
        refine lv_iload_n hx hb dX3_write_73 rfl (lv_at hl 3 rfl) ?_
        refine m_ild hc hW 19 rfl (n := 4) rfl (ix_nI (by omega) (by decide)) dX3_write_74 ?_
        refine lv_lload_n hx hb dX3_write_75 rfl (lv_at hl 5 rfl) ?_
        refine cs_R1 (rest := [.int (nI (40 * k + j)), .ref (ad 21)]) hc (M_narrowed l (f 19 k) v) (lw_S q1385 q1386 q70 q1387) nd_X3_narrowed ⟨Nat.le_of_ble_eq_true rfl, Nat.le_of_ble_eq_true rfl⟩ rfl hl.1 rfl (Nat.le_of_ble_eq_true rfl) dX3_write_76 ⟨Nat.le_of_ble_eq_true rfl, Nat.le_of_ble_eq_true rfl⟩ ?_
        refine m_lst hc hW hS 21 rfl (n := 160) rfl (ix_nI (by omega) (by decide)) dX3_write_79 (fun H locs hW hS hz => ?_)
        refine lv_lload hx hb dX3_write_80 (lv_at hl 0 rfl) ?_
        exact rl_W hx hb hr hlk hS (by simp only [writeM, hclk, hclj, if_pos hA, if_neg hB, if_pos c_211]) (by simp only [writeM, hclk, hclj, if_pos hA, if_neg hB, if_pos c_211]; exact hW) dX3_write_82
      · refine lv_aload_n hx hb dX3_write_38 rfl (lv_at hl 1 rfl) ?_
        refine lv_ldc (v := (-1000000001)) hx hb hown (hts _ q1079) dX3_write_39 ?_
        refine cv_W1 (rest := []) hc (M_finds l hW (-1000000001) 0 (ix_eq (k := 0) (by decide) (by decide) (by decide))) (lw_V q1075 q1077 qs28 q70 q1078) nd_X3_finds ⟨Nat.le_of_ble_eq_true rfl, Nat.le_of_ble_eq_true rfl⟩ (MW.recv hK hW) rfl hl.1 rfl (Nat.le_of_ble_eq_true rfl) dX3_write_41 ⟨Nat.le_of_ble_eq_true rfl, Nat.le_of_ble_eq_true rfl⟩ hS (fun _ h => h) (fun H locs hW hS hz hk => ?_)
        refine lv_i2l hx hb dX3_write_44 rfl ?_
        exact rl_W hx hb hr hlk hS (by simp only [writeM, hclk, if_pos hA, if_neg hB, if_neg c_211]) (by simp only [writeM, hclk, if_pos hA, if_neg hB, if_neg c_211]; exact hW) dX3_write_45
  · refine sm_topi (v := -1000000001) (by simp only [wrongP, if_neg hA]) ?_
    refine lv_istore (lv' := [(5, .int (-1000000001)), (0, .ref (ad 23)), (1, .int x), (2, .int i), (3, .long v)]) hx hb dX3_write_5 hl (by decide) rfl (fun ls hl => ?_)
    refine lv_iload hx hb dX3_write_7 (lv_at hl 0 rfl) ?_
    refine lv_if_eq (tgt := 20) hx hb dX3_write_9 (by decide) (fun h => absurd h (by decide)) (fun _ => ?_)
    refine lv_aload_n hx hb dX3_write_12 rfl (lv_at hl 1 rfl) ?_
    refine lv_iload hx hb dX3_write_13 (lv_at hl 0 rfl) ?_
    refine cv_W1 (rest := []) hc (M_finds l hW (-1000000001) 0 (ix_eq (k := 0) (by decide) (by decide) (by decide))) (lw_V q1075 q1077 qs28 q70 q1078) nd_X3_finds ⟨Nat.le_of_ble_eq_true rfl, Nat.le_of_ble_eq_true rfl⟩ (MW.recv hK hW) rfl hl.1 rfl (Nat.le_of_ble_eq_true rfl) dX3_write_15 ⟨Nat.le_of_ble_eq_true rfl, Nat.le_of_ble_eq_true rfl⟩ hS (fun _ h => h) (fun H locs hW hS hz hk => ?_)
    refine lv_i2l hx hb dX3_write_18 rfl ?_
    exact rl_W hx hb hr hlk hS (by simp only [writeM, if_neg hA]) (by simp only [writeM, if_neg hA]; exact hW) dX3_write_19
