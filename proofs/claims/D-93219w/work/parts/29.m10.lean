/-! the reference's methods, 10: images, counts, the tape's feed -/
set_option maxRecDepth 100000

theorem nd_X3_image : yX3_image.cls = "SmokeLeansModel" ∧ yX3_image.cls ≠ "java/lang/invoke/MethodHandle" ∧ yX3_image.cls ≠ "java/lang/invoke/VarHandle" ∧ (parseMethodDescriptor yX3_image.desc).map (fun d => d.parameters.length) = some 0 := by decide +kernel
set_option maxHeartbeats 4000000 in
theorem M_image (l : Launch) {G : GD} {A : Nat → Prop} {f : Nat → Nat → Int32} {g : Nat → Nat → Int64} {ad : Nat → Nat} {H0 : Heap} (hW : MW G A f g ad H0)  : MetW l G yX3_image cX3_image 2 (some .int) 0 0 0 A [.ref (ad 23)] H0 (some (.int 1)) (fun H => MW G A (up2 (upA f 1 (f 0)) 4 0 1) g ad H) := by
  refine mx_of (by decide) (Nat.le_of_ble_eq_true rfl) ?_
  intro p e s m below meth c hx hb hr hc hlk hnm hs0 ls hl
  subst hs0
  have hown := hc.2.2.2.1
  have hts := hc.2.2.2.2.1
  have hK := hc.2.2.2.2.2
  have hl : lv_has ls 2 [(0, .ref (ad 23))] := hl
  have hS : va_S A s.heap s.heap [] := va_S.rf
  refine lv_iconst (v := 0) hx hb dX3_image_0 (by decide) ?_
  refine lv_istore_n (lv' := [(1, .int 0), (0, .ref (ad 23))]) hx hb dX3_image_1 rfl hl (by decide) rfl (fun ls hl => ?_)
  refine w_loopH (σ := Nat) (fun i H locs cells slots fr => cells = 0 ∧ slots = 0 ∧ (∃ ls, fr = F0 m 2 ls [] ∧ lv_has ls 2 [(1, .int (nI i)), (0, .ref (ad 23))]) ∧ va_S A s.heap H locs ∧ (i ≤ 169 ∧ ∃ a, (∀ r, r < i → a r = f 0 r) ∧ MW G A (upA f 1 a) g ad H)) (fun i => 169 - i) 0 ⟨rfl, rfl, ⟨ls, rfl, lv_sub hl [0, 1] rfl⟩, hS, ⟨Nat.zero_le _, f 1, fun _ h => absurd h (Nat.not_lt_zero _), by rw [upA_self]; exact hW⟩⟩ ?_
  intro i H locs cells slots fr hI ih
  obtain ⟨rfl, rfl, ⟨ls, rfl, hl⟩, hS, ⟨hle, a, ha, hW⟩⟩ := hI
  by_cases hi : i < 169
  · refine lv_iload_n hx hb dX3_image_2 rfl (lv_at hl 0 rfl) ?_
    refine lv_sipush (v := 169) hx hb dX3_image_3 (by decide) ?_
    refine lv_icmp_ge (tgt := 27) hx hb dX3_image_6 (by decide) (fun h => absurd h (nI_ge (b := 169) hi (by decide))) (fun _ => ?_)
    refine lv_aload_n hx hb dX3_image_9 rfl (lv_at hl 1 rfl) ?_
    refine m_get hc hW 1 (by decide) rfl q1001 rfl rfl dX3_image_10 ?_
    refine lv_iload_n hx hb dX3_image_13 rfl (lv_at hl 0 rfl) ?_
    refine lv_aload_n hx hb dX3_image_14 rfl (lv_at hl 1 rfl) ?_
    refine m_get hc hW 0 (by decide) rfl q1000 rfl rfl dX3_image_15 ?_
    refine lv_iload_n hx hb dX3_image_18 rfl (lv_at hl 0 rfl) ?_
    refine m_ild hc hW 0 rfl (n := 169) rfl (ix_nI (by omega) (by decide)) dX3_image_19 ?_
    refine sm_topi (v := f 0 i) (rfl) ?_
    refine m_ist hc hW hS 1 rfl (n := 169) rfl (ix_nI (by omega) (by decide)) dX3_image_20 (fun H locs hW hS hz => ?_)
    refine lv_iinc (v := nI (i + 1)) (lv' := [(1, .int (nI (i + 1))), (0, .ref (ad 23))]) hx hb dX3_image_21 hl (k := 0) rfl (nI_1 _) (by decide) rfl (fun ls hl => ?_)
    refine lv_goto (tgt := 2) hx hb dX3_image_24 (by decide) ?_
    rw [up2_upA] at hW
    refine ih (i + 1) _ _ _ _ _ ⟨rfl, rfl, ⟨ls, rfl, lv_sub hl [0, 1] rfl⟩, hS, hi, _, ?_, hW⟩ (by omega)
    intro r hr
    by_cases q : r = i
    · subst q; exact upd_at
    · rw [pk_un q]; exact ha r (by omega)
  · have hW : MW G A (upA f 1 (f 0)) g ad H := MW.rowExt rfl hW (fun j hj => (ha j (Nat.lt_of_lt_of_le hj (show 169 ≤ i by omega))).symm)
    refine lv_iload_n hx hb dX3_image_2 rfl (lv_at hl 0 rfl) ?_
    refine lv_sipush (v := 169) hx hb dX3_image_3 (by decide) ?_
    refine lv_icmp_ge (tgt := 27) hx hb dX3_image_6 (by decide) (fun _ => ?_) (fun h => absurd (nI_le (a := 169) (by omega) (by omega)) h)
    refine lv_aload_n hx hb dX3_image_27 rfl (lv_at hl 1 rfl) ?_
    refine lv_iconst (v := 1) hx hb dX3_image_28 (by decide) ?_
    refine m_putS hc hW hS 4 (by decide) rfl rfl q1004 rfl rfl rfl rfl rfl rfl dX3_image_29 (fun H locs hW hS hz => ?_)
    refine lv_iconst (v := 1) hx hb dX3_image_32 (by decide) ?_
    exact ri_W hx hb hr hlk hS (rfl) (hW) dX3_image_33
def undoM (f : Nat → Nat → Int32) : Int32 × (Nat → Nat → Int32) := if f 4 0 = 0 then NON f else (f 1 1, upA f 0 (f 1))
theorem nd_X3_undo : yX3_undo.cls = "SmokeLeansModel" ∧ yX3_undo.cls ≠ "java/lang/invoke/MethodHandle" ∧ yX3_undo.cls ≠ "java/lang/invoke/VarHandle" ∧ (parseMethodDescriptor yX3_undo.desc).map (fun d => d.parameters.length) = some 0 := by decide +kernel
set_option maxHeartbeats 4000000 in
theorem M_undo (l : Launch) {G : GD} {A : Nat → Prop} {f : Nat → Nat → Int32} {g : Nat → Nat → Int64} {ad : Nat → Nat} {H0 : Heap} (hW : MW G A f g ad H0)  : MetW l G yX3_undo cX3_undo 2 (some .int) 1 0 0 A [.ref (ad 23)] H0 (some (.int ((undoM f).1))) (fun H => MW G A (undoM f).2 g ad H) := by
  refine mx_of (by decide) (Nat.le_of_ble_eq_true rfl) ?_
  intro p e s m below meth c hx hb hr hc hlk hnm hs0 ls hl
  subst hs0
  have hown := hc.2.2.2.1
  have hts := hc.2.2.2.2.1
  have hK := hc.2.2.2.2.2
  have hl : lv_has ls 2 [(0, .ref (ad 23))] := hl
  have hS : va_S A s.heap s.heap [] := va_S.rf
  refine lv_aload_n hx hb dX3_undo_0 rfl (lv_at hl 0 rfl) ?_
  refine m_get hc hW 4 (by decide) rfl q1004 rfl rfl dX3_undo_1 ?_
  refine lv_if_ne (tgt := 14) hx hb dX3_undo_4 (by decide) (fun c_184 => ?_) (fun c_184 => ?_)
  · refine lv_iconst (v := 0) hx hb dX3_undo_14 (by decide) ?_
    refine lv_istore_n (lv' := [(1, .int 0), (0, .ref (ad 23))]) hx hb dX3_undo_15 rfl hl (by decide) rfl (fun ls hl => ?_)
    refine w_loopH (σ := Nat) (fun i H locs cells slots fr => cells = 0 ∧ slots = 0 ∧ (∃ ls, fr = F0 m 16 ls [] ∧ lv_has ls 2 [(1, .int (nI i)), (0, .ref (ad 23))]) ∧ va_S A s.heap H locs ∧ (i ≤ 169 ∧ ∃ a, (∀ r, r < i → a r = f 1 r) ∧ MW G A (upA f 0 a) g ad H)) (fun i => 169 - i) 0 ⟨rfl, rfl, ⟨ls, rfl, lv_sub hl [0, 1] rfl⟩, hS, ⟨Nat.zero_le _, f 0, fun _ h => absurd h (Nat.not_lt_zero _), by rw [upA_self]; exact hW⟩⟩ ?_
    intro i H locs cells slots fr hI ih
    obtain ⟨rfl, rfl, ⟨ls, rfl, hl⟩, hS, ⟨hle, a, ha, hW⟩⟩ := hI
    by_cases hi : i < 169
    · refine lv_iload_n hx hb dX3_undo_16 rfl (lv_at hl 0 rfl) ?_
      refine lv_sipush (v := 169) hx hb dX3_undo_17 (by decide) ?_
      refine lv_icmp_ge (tgt := 41) hx hb dX3_undo_20 (by decide) (fun h => absurd h (nI_ge (b := 169) hi (by decide))) (fun _ => ?_)
      refine lv_aload_n hx hb dX3_undo_23 rfl (lv_at hl 1 rfl) ?_
      refine m_get hc hW 0 (by decide) rfl q1000 rfl rfl dX3_undo_24 ?_
      refine lv_iload_n hx hb dX3_undo_27 rfl (lv_at hl 0 rfl) ?_
      refine lv_aload_n hx hb dX3_undo_28 rfl (lv_at hl 1 rfl) ?_
      refine m_get hc hW 1 (by decide) rfl q1001 rfl rfl dX3_undo_29 ?_
      refine lv_iload_n hx hb dX3_undo_32 rfl (lv_at hl 0 rfl) ?_
      refine m_ild hc hW 1 rfl (n := 169) rfl (ix_nI (by omega) (by decide)) dX3_undo_33 ?_
      refine sm_topi (v := f 1 i) (rfl) ?_
      refine m_ist hc hW hS 0 rfl (n := 169) rfl (ix_nI (by omega) (by decide)) dX3_undo_34 (fun H locs hW hS hz => ?_)
      refine lv_iinc (v := nI (i + 1)) (lv' := [(1, .int (nI (i + 1))), (0, .ref (ad 23))]) hx hb dX3_undo_35 hl (k := 0) rfl (nI_1 _) (by decide) rfl (fun ls hl => ?_)
      refine lv_goto (tgt := 16) hx hb dX3_undo_38 (by decide) ?_
      rw [up2_upA] at hW
      refine ih (i + 1) _ _ _ _ _ ⟨rfl, rfl, ⟨ls, rfl, lv_sub hl [0, 1] rfl⟩, hS, hi, _, ?_, hW⟩ (by omega)
      intro r hr
      by_cases q : r = i
      · subst q; exact upd_at
      · rw [pk_un q]; exact ha r (by omega)
    · have hW : MW G A (upA f 0 (f 1)) g ad H := MW.rowExt rfl hW (fun j hj => (ha j (Nat.lt_of_lt_of_le hj (show 169 ≤ i by omega))).symm)
      refine lv_iload_n hx hb dX3_undo_16 rfl (lv_at hl 0 rfl) ?_
      refine lv_sipush (v := 169) hx hb dX3_undo_17 (by decide) ?_
      refine lv_icmp_ge (tgt := 41) hx hb dX3_undo_20 (by decide) (fun _ => ?_) (fun h => absurd (nI_le (a := 169) (by omega) (by omega)) h)
      refine lv_aload_n hx hb dX3_undo_41 rfl (lv_at hl 1 rfl) ?_
      refine m_get hc hW 0 (by decide) rfl q1000 rfl rfl dX3_undo_42 ?_
      refine lv_iconst (v := 1) hx hb dX3_undo_45 (by decide) ?_
      refine m_ild hc hW 0 rfl (n := 169) rfl (ix_eq (k := 1) rfl (by decide) (by decide)) dX3_undo_46 ?_
      refine sm_topi (v := f 1 1) (rfl) ?_
      exact ri_W hx hb hr hlk hS (by simp only [undoM, if_neg c_184]) (by simp only [undoM, if_neg c_184]; exact hW) dX3_undo_47
  · refine lv_aload_n hx hb dX3_undo_7 rfl (lv_at hl 0 rfl) ?_
    refine lv_ldc (v := (-1000000004)) hx hb hown (hts _ q1308) dX3_undo_8 ?_
    refine cv_W1 (rest := []) hc (M_finds l hW (-1000000004) 3 (ix_eq (k := 3) (by decide) (by decide) (by decide))) (lw_V q1075 q1077 qs28 q70 q1078) nd_X3_finds ⟨Nat.le_of_ble_eq_true rfl, Nat.le_of_ble_eq_true rfl⟩ (MW.recv hK hW) rfl hl.1 rfl (Nat.le_of_ble_eq_true rfl) dX3_undo_10 ⟨Nat.le_of_ble_eq_true rfl, Nat.le_of_ble_eq_true rfl⟩ hS (fun _ h => h) (fun H locs hW hS hz hk => ?_)
    exact ri_W hx hb hr hlk hS (by simp only [undoM, if_pos c_184]) (by simp only [undoM, if_pos c_184]; exact hW) dX3_undo_13
theorem nd_X3_tear : yX3_tear.cls = "SmokeLeansModel" ∧ yX3_tear.cls ≠ "java/lang/invoke/MethodHandle" ∧ yX3_tear.cls ≠ "java/lang/invoke/VarHandle" ∧ (parseMethodDescriptor yX3_tear.desc).map (fun d => d.parameters.length) = some 0 := by decide +kernel
set_option maxHeartbeats 4000000 in
theorem M_tear (l : Launch) {G : GD} {A : Nat → Prop} {f : Nat → Nat → Int32} {g : Nat → Nat → Int64} {ad : Nat → Nat} {H0 : Heap} (hW : MW G A f g ad H0)  : MetW l G yX3_tear cX3_tear 2 (some .int) 0 0 0 A [.ref (ad 23)] H0 (some (.int (if f 4 0 = 0 then 0 else 1))) (fun H => MW G A (up2 f 4 0 0) g ad H) := by
  refine mx_of (by decide) (Nat.le_of_ble_eq_true rfl) ?_
  intro p e s m below meth c hx hb hr hc hlk hnm hs0 ls hl
  subst hs0
  have hown := hc.2.2.2.1
  have hts := hc.2.2.2.2.1
  have hK := hc.2.2.2.2.2
  have hl : lv_has ls 2 [(0, .ref (ad 23))] := hl
  have hS : va_S A s.heap s.heap [] := va_S.rf
  refine lv_aload_n hx hb dX3_tear_0 rfl (lv_at hl 0 rfl) ?_
  refine m_get hc hW 4 (by decide) rfl q1004 rfl rfl dX3_tear_1 ?_
  refine lv_if_eq (tgt := 11) hx hb dX3_tear_4 (by decide) (fun c_185 => ?_) (fun c_185 => ?_)
  · refine lv_iconst (v := 0) hx hb dX3_tear_11 (by decide) ?_
    refine lv_istore_n (lv' := [(1, .int 0), (0, .ref (ad 23))]) hx hb dX3_tear_12 rfl hl (by decide) rfl (fun ls hl => ?_)
    refine lv_aload_n hx hb dX3_tear_13 rfl (lv_at hl 1 rfl) ?_
    refine lv_iconst (v := 0) hx hb dX3_tear_14 (by decide) ?_
    refine m_putS hc hW hS 4 (by decide) rfl rfl q1004 rfl rfl rfl rfl rfl rfl dX3_tear_15 (fun H locs hW hS hz => ?_)
    refine lv_iload_n hx hb dX3_tear_18 rfl (lv_at hl 0 rfl) ?_
    exact ri_W hx hb hr hlk hS (by simp only [if_pos c_185]) (hW) dX3_tear_19
  · refine lv_iconst (v := 1) hx hb dX3_tear_7 (by decide) ?_
    refine lv_goto (tgt := 12) hx hb dX3_tear_8 (by decide) ?_
    refine lv_istore_n (lv' := [(1, .int 1), (0, .ref (ad 23))]) hx hb dX3_tear_12 rfl hl (by decide) rfl (fun ls hl => ?_)
    refine lv_aload_n hx hb dX3_tear_13 rfl (lv_at hl 1 rfl) ?_
    refine lv_iconst (v := 0) hx hb dX3_tear_14 (by decide) ?_
    refine m_putS hc hW hS 4 (by decide) rfl rfl q1004 rfl rfl rfl rfl rfl rfl dX3_tear_15 (fun H locs hW hS hz => ?_)
    refine lv_iload_n hx hb dX3_tear_18 rfl (lv_at hl 0 rfl) ?_
    exact ri_W hx hb hr hlk hS (by simp only [if_neg c_185]) (hW) dX3_tear_19
def cnO (s : Nat → Int32) : Nat → Int32
  | 0 => 0
  | n + 1 => cnO s n + (1 - s (gp n 7))
def cnW (s : Nat → Int32) : Nat → Int32
  | 0 => 0
  | n + 1 => cnW s n + s (gp n 3)
def cnC (s : Nat → Int32) : Nat → Int32
  | 0 => 0
  | n + 1 => cnC s n + (if s (gp n 7) = 1 then 0 else s (gp n 6))
def countM (f : Nat → Nat → Int32) (x : Int32) : Int32 × (Nat → Nat → Int32) :=
  if x = 0 then (f 0 0, f) else if x = 1 then (f 0 1, f) else if x = 2 then (cnO (f 0) (f 0 1).toNatClampNeg, f) else if x = 3 then (f 6 0, f)
  else if x = 4 then (f 0 8, f) else if x = 5 then (cnW (f 0) (f 0 1).toNatClampNeg, f) else if x = 6 then (cnC (f 0) (f 0 1).toNatClampNeg, f) else BEY f
theorem nd_X3_count : yX3_count.cls = "SmokeLeansModel" ∧ yX3_count.cls ≠ "java/lang/invoke/MethodHandle" ∧ yX3_count.cls ≠ "java/lang/invoke/VarHandle" ∧ (parseMethodDescriptor yX3_count.desc).map (fun d => d.parameters.length) = some 1 := by decide +kernel
set_option maxHeartbeats 4000000 in
theorem M_count (l : Launch) {G : GD} {A : Nat → Prop} {f : Nat → Nat → Int32} {g : Nat → Nat → Int64} {ad : Nat → Nat} {H0 : Heap} (hW : MW G A f g ad H0) {R N : Nat} (hO : OkN (f 0) R N) (x : Int32) : MetW l G yX3_count cX3_count 4 (some .int) 1 0 0 A [.ref (ad 23), .int x] H0 (some (.int ((countM f x).1))) (fun H => MW G A (countM f x).2 g ad H) := by
  refine mx_of (by decide) (Nat.le_of_ble_eq_true rfl) ?_
  intro p e s m below meth c hx hb hr hc hlk hnm hs0 ls hl
  subst hs0
  have hown := hc.2.2.2.1
  have hts := hc.2.2.2.2.1
  have hK := hc.2.2.2.2.2
  have hl : lv_has ls 4 [(0, .ref (ad 23)), (1, .int x)] := hl
  have hS : va_S A s.heap s.heap [] := va_S.rf
  refine lv_iconst (v := 0) hx hb dX3_count_0 (by decide) ?_
  refine lv_istore_n (lv' := [(2, .int 0), (0, .ref (ad 23)), (1, .int x)]) hx hb dX3_count_1 rfl hl (by decide) rfl (fun ls hl => ?_)
  refine lv_iload_n hx hb dX3_count_2 rfl (lv_at hl 2 rfl) ?_
  by_cases c_186 : x = 0
  · refine lv_tableIn (off := 41) (tgt := 44) hx hb dX3_count_3 (by rw [c_186]; decide) (by rw [c_186]; decide) (by rw [c_186]; rfl) (by decide) ?_
    refine lv_aload_n hx hb dX3_count_44 rfl (lv_at hl 1 rfl) ?_
    refine m_get hc hW 0 (by decide) rfl q1000 rfl rfl dX3_count_45 ?_
    refine lv_iconst (v := 0) hx hb dX3_count_48 (by decide) ?_
    refine m_ild hc hW 0 rfl (n := 169) rfl (ix_eq (k := 0) rfl (by decide) (by decide)) dX3_count_49 ?_
    exact ri_W hx hb hr hlk hS (by simp only [countM, if_pos c_186, hO.cl1]) (by simp only [countM, if_pos c_186]; exact hW) dX3_count_50
  · by_cases c_187 : x = 1
    · refine lv_tableIn (off := 48) (tgt := 51) hx hb dX3_count_3 (by rw [c_187]; decide) (by rw [c_187]; decide) (by rw [c_187]; rfl) (by decide) ?_
      refine lv_aload_n hx hb dX3_count_51 rfl (lv_at hl 1 rfl) ?_
      refine m_get hc hW 0 (by decide) rfl q1000 rfl rfl dX3_count_52 ?_
      refine lv_iconst (v := 1) hx hb dX3_count_55 (by decide) ?_
      refine m_ild hc hW 0 rfl (n := 169) rfl (ix_eq (k := 1) rfl (by decide) (by decide)) dX3_count_56 ?_
      exact ri_W hx hb hr hlk hS (by simp only [countM, if_neg c_186, if_pos c_187, hO.cl1]) (by simp only [countM, if_neg c_186, if_pos c_187]; exact hW) dX3_count_57
    · by_cases c_188 : x = 2
      · refine lv_tableIn (off := 55) (tgt := 58) hx hb dX3_count_3 (by rw [c_188]; decide) (by rw [c_188]; decide) (by rw [c_188]; rfl) (by decide) ?_
        refine lv_iconst (v := 0) hx hb dX3_count_58 (by decide) ?_
        refine lv_istore_n (lv' := [(3, .int 0), (2, .int 0), (0, .ref (ad 23)), (1, .int x)]) hx hb dX3_count_59 rfl hl (by decide) rfl (fun ls hl => ?_)
        refine w_loop (σ := Nat) (fun i fr => ∃ ls, fr = F0 m 60 ls [] ∧ lv_has ls 4 [(3, .int (nI i)), (2, .int (cnO (f 0) i)), (0, .ref (ad 23)), (1, .int x)] ∧ (i ≤ N)) (fun i => N - i) 0 ⟨ls, rfl, lv_sub hl [0, 1, 2, 3] rfl, Nat.zero_le _⟩ ?_
        intro i fr hI ih
        obtain ⟨ls, rfl, hl, hinv⟩ := hI
        by_cases hi : i < N
        · have hi20 : i < 20 := by have := hO.2.1; omega
          refine lv_iload_n hx hb dX3_count_60 rfl (lv_at hl 0 rfl) ?_
          refine lv_aload_n hx hb dX3_count_61 rfl (lv_at hl 2 rfl) ?_
          refine m_get hc hW 0 (by decide) rfl q1000 rfl rfl dX3_count_62 ?_
          refine lv_iconst (v := 1) hx hb dX3_count_65 (by decide) ?_
          refine m_ild hc hW 0 rfl (n := 169) rfl (ix_eq (k := 1) rfl (by decide) (by decide)) dX3_count_66 ?_
          refine sm_topi (v := nI N) (hO.2.2.2.1) ?_
          refine lv_icmp_ge (tgt := 88) hx hb dX3_count_67 (by decide) (fun h => absurd h (nI_ge hi (by have := hO.2.1; omega))) (fun _ => ?_)
          refine lv_iload_n hx hb dX3_count_70 rfl (lv_at hl 1 rfl) ?_
          refine lv_iconst (v := 1) hx hb dX3_count_71 (by decide) ?_
          refine lv_aload_n hx hb dX3_count_72 rfl (lv_at hl 2 rfl) ?_
          refine lv_iload_n hx hb dX3_count_73 rfl (lv_at hl 0 rfl) ?_
          refine lv_bipush (v := 7) hx hb dX3_count_74 (by decide) ?_
          refine cv_R1 (rest := [.int 1, .int (cnO (f 0) i)]) hc (M_has l hW i 7 (by omega)) (lw_V q1110 q1112 qs33 q70 q1113) nd_X3_has ⟨Nat.le_of_ble_eq_true rfl, Nat.le_of_ble_eq_true rfl⟩ (MW.recv hK hW) rfl hl.1 rfl (Nat.le_of_ble_eq_true rfl) dX3_count_76 ⟨Nat.le_of_ble_eq_true rfl, Nat.le_of_ble_eq_true rfl⟩ ?_
          refine lv_isub hx hb dX3_count_79 ?_
          refine lv_iadd hx hb dX3_count_80 ?_
          refine lv_istore_n (lv' := [(2, .int ((cnO (f 0) i) + (1 - (f 0 (gp i 7))))), (3, .int (nI i)), (0, .ref (ad 23)), (1, .int x)]) hx hb dX3_count_81 rfl hl (by decide) rfl (fun ls hl => ?_)
          refine lv_iinc (v := nI (i + 1)) (lv' := [(3, .int (nI (i + 1))), (2, .int ((cnO (f 0) i) + (1 - (f 0 (gp i 7))))), (0, .ref (ad 23)), (1, .int x)]) hx hb dX3_count_82 hl (k := 1) rfl (nI_1 _) (by decide) rfl (fun ls hl => ?_)
          refine lv_goto (tgt := 60) hx hb dX3_count_85 (by decide) ?_
          refine ih (i + 1) _ ⟨ls, rfl, ?_, hi⟩ (by omega)
          rw [show cnO (f 0) (i + 1) = (cnO (f 0) i) + (1 - (f 0 (gp i 7))) from by simp only [cnO]]
          exact lv_sub hl [0, 1, 2, 3] rfl
        · have hiN : i = N := by omega
          subst hiN
          refine lv_iload_n hx hb dX3_count_60 rfl (lv_at hl 0 rfl) ?_
          refine lv_aload_n hx hb dX3_count_61 rfl (lv_at hl 2 rfl) ?_
          refine m_get hc hW 0 (by decide) rfl q1000 rfl rfl dX3_count_62 ?_
          refine lv_iconst (v := 1) hx hb dX3_count_65 (by decide) ?_
          refine m_ild hc hW 0 rfl (n := 169) rfl (ix_eq (k := 1) rfl (by decide) (by decide)) dX3_count_66 ?_
          refine sm_topi (v := nI i) (hO.2.2.2.1) ?_
          refine lv_icmp_ge (tgt := 88) hx hb dX3_count_67 (by decide) (fun _ => ?_) (fun h => absurd (nI_le (by omega) (by have := hO.2.1; omega)) h)
          refine lv_iload_n hx hb dX3_count_88 rfl (lv_at hl 1 rfl) ?_
          exact ri_W hx hb hr hlk hS (by simp only [countM, if_neg c_186, if_neg c_187, if_pos c_188, hO.cl1]) (by simp only [countM, if_neg c_186, if_neg c_187, if_pos c_188]; exact hW) dX3_count_89
      · by_cases c_189 : x = 3
        · refine lv_tableIn (off := 87) (tgt := 90) hx hb dX3_count_3 (by rw [c_189]; decide) (by rw [c_189]; decide) (by rw [c_189]; rfl) (by decide) ?_
          refine lv_aload_n hx hb dX3_count_90 rfl (lv_at hl 1 rfl) ?_
          refine m_get hc hW 6 (by decide) rfl q1006 rfl rfl dX3_count_91 ?_
          exact ri_W hx hb hr hlk hS (by simp only [countM, if_neg c_186, if_neg c_187, if_neg c_188, if_pos c_189, hO.cl1]) (by simp only [countM, if_neg c_186, if_neg c_187, if_neg c_188, if_pos c_189]; exact hW) dX3_count_94
        · by_cases c_190 : x = 4
          · refine lv_tableIn (off := 92) (tgt := 95) hx hb dX3_count_3 (by rw [c_190]; decide) (by rw [c_190]; decide) (by rw [c_190]; rfl) (by decide) ?_
            refine lv_aload_n hx hb dX3_count_95 rfl (lv_at hl 1 rfl) ?_
            refine m_get hc hW 0 (by decide) rfl q1000 rfl rfl dX3_count_96 ?_
            refine lv_bipush (v := 8) hx hb dX3_count_99 (by decide) ?_
            refine m_ild hc hW 0 rfl (n := 169) rfl (ix_eq (k := 8) rfl (by decide) (by decide)) dX3_count_101 ?_
            exact ri_W hx hb hr hlk hS (by simp only [countM, if_neg c_186, if_neg c_187, if_neg c_188, if_neg c_189, if_pos c_190, hO.cl1]) (by simp only [countM, if_neg c_186, if_neg c_187, if_neg c_188, if_neg c_189, if_pos c_190]; exact hW) dX3_count_102
          · by_cases c_191 : x = 5
            · refine lv_tableIn (off := 100) (tgt := 103) hx hb dX3_count_3 (by rw [c_191]; decide) (by rw [c_191]; decide) (by rw [c_191]; rfl) (by decide) ?_
              refine lv_iconst (v := 0) hx hb dX3_count_103 (by decide) ?_
              refine lv_istore_n (lv' := [(3, .int 0), (2, .int 0), (0, .ref (ad 23)), (1, .int x)]) hx hb dX3_count_104 rfl hl (by decide) rfl (fun ls hl => ?_)
              refine w_loop (σ := Nat) (fun i fr => ∃ ls, fr = F0 m 105 ls [] ∧ lv_has ls 4 [(3, .int (nI i)), (2, .int (cnW (f 0) i)), (0, .ref (ad 23)), (1, .int x)] ∧ (i ≤ N)) (fun i => N - i) 0 ⟨ls, rfl, lv_sub hl [0, 1, 2, 3] rfl, Nat.zero_le _⟩ ?_
              intro i fr hI ih
              obtain ⟨ls, rfl, hl, hinv⟩ := hI
              by_cases hi : i < N
              · have hi20 : i < 20 := by have := hO.2.1; omega
                refine lv_iload_n hx hb dX3_count_105 rfl (lv_at hl 0 rfl) ?_
                refine lv_aload_n hx hb dX3_count_106 rfl (lv_at hl 2 rfl) ?_
                refine m_get hc hW 0 (by decide) rfl q1000 rfl rfl dX3_count_107 ?_
                refine lv_iconst (v := 1) hx hb dX3_count_110 (by decide) ?_
                refine m_ild hc hW 0 rfl (n := 169) rfl (ix_eq (k := 1) rfl (by decide) (by decide)) dX3_count_111 ?_
                refine sm_topi (v := nI N) (hO.2.2.2.1) ?_
                refine lv_icmp_ge (tgt := 130) hx hb dX3_count_112 (by decide) (fun h => absurd h (nI_ge hi (by have := hO.2.1; omega))) (fun _ => ?_)
                refine lv_iload_n hx hb dX3_count_115 rfl (lv_at hl 1 rfl) ?_
                refine lv_aload_n hx hb dX3_count_116 rfl (lv_at hl 2 rfl) ?_
                refine lv_iload_n hx hb dX3_count_117 rfl (lv_at hl 0 rfl) ?_
                refine lv_iconst (v := 3) hx hb dX3_count_118 (by decide) ?_
                refine cv_R1 (rest := [.int (cnW (f 0) i)]) hc (M_has l hW i 3 (by omega)) (lw_V q1110 q1112 qs33 q70 q1113) nd_X3_has ⟨Nat.le_of_ble_eq_true rfl, Nat.le_of_ble_eq_true rfl⟩ (MW.recv hK hW) rfl hl.1 rfl (Nat.le_of_ble_eq_true rfl) dX3_count_119 ⟨Nat.le_of_ble_eq_true rfl, Nat.le_of_ble_eq_true rfl⟩ ?_
                refine lv_iadd hx hb dX3_count_122 ?_
                refine lv_istore_n (lv' := [(2, .int ((cnW (f 0) i) + (f 0 (gp i 3)))), (3, .int (nI i)), (0, .ref (ad 23)), (1, .int x)]) hx hb dX3_count_123 rfl hl (by decide) rfl (fun ls hl => ?_)
                refine lv_iinc (v := nI (i + 1)) (lv' := [(3, .int (nI (i + 1))), (2, .int ((cnW (f 0) i) + (f 0 (gp i 3)))), (0, .ref (ad 23)), (1, .int x)]) hx hb dX3_count_124 hl (k := 1) rfl (nI_1 _) (by decide) rfl (fun ls hl => ?_)
                refine lv_goto (tgt := 105) hx hb dX3_count_127 (by decide) ?_
                refine ih (i + 1) _ ⟨ls, rfl, ?_, hi⟩ (by omega)
                rw [show cnW (f 0) (i + 1) = (cnW (f 0) i) + (f 0 (gp i 3)) from by simp only [cnW]]
                exact lv_sub hl [0, 1, 2, 3] rfl
              · have hiN : i = N := by omega
                subst hiN
                refine lv_iload_n hx hb dX3_count_105 rfl (lv_at hl 0 rfl) ?_
                refine lv_aload_n hx hb dX3_count_106 rfl (lv_at hl 2 rfl) ?_
                refine m_get hc hW 0 (by decide) rfl q1000 rfl rfl dX3_count_107 ?_
                refine lv_iconst (v := 1) hx hb dX3_count_110 (by decide) ?_
                refine m_ild hc hW 0 rfl (n := 169) rfl (ix_eq (k := 1) rfl (by decide) (by decide)) dX3_count_111 ?_
                refine sm_topi (v := nI i) (hO.2.2.2.1) ?_
                refine lv_icmp_ge (tgt := 130) hx hb dX3_count_112 (by decide) (fun _ => ?_) (fun h => absurd (nI_le (by omega) (by have := hO.2.1; omega)) h)
                refine lv_iload_n hx hb dX3_count_130 rfl (lv_at hl 1 rfl) ?_
                exact ri_W hx hb hr hlk hS (by simp only [countM, if_neg c_186, if_neg c_187, if_neg c_188, if_neg c_189, if_neg c_190, if_pos c_191, hO.cl1]) (by simp only [countM, if_neg c_186, if_neg c_187, if_neg c_188, if_neg c_189, if_neg c_190, if_pos c_191]; exact hW) dX3_count_131
            · by_cases c_192 : x = 6
              · refine lv_tableIn (off := 129) (tgt := 132) hx hb dX3_count_3 (by rw [c_192]; decide) (by rw [c_192]; decide) (by rw [c_192]; rfl) (by decide) ?_
                refine lv_iconst (v := 0) hx hb dX3_count_132 (by decide) ?_
                refine lv_istore_n (lv' := [(3, .int 0), (2, .int 0), (0, .ref (ad 23)), (1, .int x)]) hx hb dX3_count_133 rfl hl (by decide) rfl (fun ls hl => ?_)
                refine w_loop (σ := Nat) (fun i fr => ∃ ls, fr = F0 m 134 ls [] ∧ lv_has ls 4 [(3, .int (nI i)), (2, .int (cnC (f 0) i)), (0, .ref (ad 23)), (1, .int x)] ∧ (i ≤ N)) (fun i => N - i) 0 ⟨ls, rfl, lv_sub hl [0, 1, 2, 3] rfl, Nat.zero_le _⟩ ?_
                intro i fr hI ih
                obtain ⟨ls, rfl, hl, hinv⟩ := hI
                by_cases hi : i < N
                · have hi20 : i < 20 := by have := hO.2.1; omega
                  refine lv_iload_n hx hb dX3_count_134 rfl (lv_at hl 0 rfl) ?_
                  refine lv_aload_n hx hb dX3_count_135 rfl (lv_at hl 2 rfl) ?_
                  refine m_get hc hW 0 (by decide) rfl q1000 rfl rfl dX3_count_136 ?_
                  refine lv_iconst (v := 1) hx hb dX3_count_139 (by decide) ?_
                  refine m_ild hc hW 0 rfl (n := 169) rfl (ix_eq (k := 1) rfl (by decide) (by decide)) dX3_count_140 ?_
                  refine sm_topi (v := nI N) (hO.2.2.2.1) ?_
                  refine lv_icmp_ge (tgt := 175) hx hb dX3_count_141 (by decide) (fun h => absurd h (nI_ge hi (by have := hO.2.1; omega))) (fun _ => ?_)
                  refine lv_iload_n hx hb dX3_count_144 rfl (lv_at hl 1 rfl) ?_
                  refine lv_aload_n hx hb dX3_count_145 rfl (lv_at hl 2 rfl) ?_
                  refine lv_iload_n hx hb dX3_count_146 rfl (lv_at hl 0 rfl) ?_
                  refine lv_bipush (v := 7) hx hb dX3_count_147 (by decide) ?_
                  refine cv_R1 (rest := [.int (cnC (f 0) i)]) hc (M_has l hW i 7 (by omega)) (lw_V q1110 q1112 qs33 q70 q1113) nd_X3_has ⟨Nat.le_of_ble_eq_true rfl, Nat.le_of_ble_eq_true rfl⟩ (MW.recv hK hW) rfl hl.1 rfl (Nat.le_of_ble_eq_true rfl) dX3_count_149 ⟨Nat.le_of_ble_eq_true rfl, Nat.le_of_ble_eq_true rfl⟩ ?_
                  refine lv_iconst (v := 1) hx hb dX3_count_152 (by decide) ?_
                  refine lv_icmp_ne (tgt := 160) hx hb dX3_count_153 (by decide) (fun c_193 => ?_) (fun c_193 => ?_)
                  · refine lv_aload_n hx hb dX3_count_160 rfl (lv_at hl 2 rfl) ?_
                    refine lv_iload_n hx hb dX3_count_161 rfl (lv_at hl 0 rfl) ?_
                    refine lv_bipush (v := 6) hx hb dX3_count_162 (by decide) ?_
                    refine cv_R1 (rest := [.int (cnC (f 0) i)]) hc (M_has l hW i 6 (by omega)) (lw_V q1110 q1112 qs33 q70 q1113) nd_X3_has ⟨Nat.le_of_ble_eq_true rfl, Nat.le_of_ble_eq_true rfl⟩ (MW.recv hK hW) rfl hl.1 rfl (Nat.le_of_ble_eq_true rfl) dX3_count_164 ⟨Nat.le_of_ble_eq_true rfl, Nat.le_of_ble_eq_true rfl⟩ ?_
                    refine lv_iadd hx hb dX3_count_167 ?_
                    refine lv_istore_n (lv' := [(2, .int ((cnC (f 0) i) + (f 0 (gp i 6)))), (3, .int (nI i)), (0, .ref (ad 23)), (1, .int x)]) hx hb dX3_count_168 rfl hl (by decide) rfl (fun ls hl => ?_)
                    refine lv_iinc (v := nI (i + 1)) (lv' := [(3, .int (nI (i + 1))), (2, .int ((cnC (f 0) i) + (f 0 (gp i 6)))), (0, .ref (ad 23)), (1, .int x)]) hx hb dX3_count_169 hl (k := 1) rfl (nI_1 _) (by decide) rfl (fun ls hl => ?_)
                    refine lv_goto (tgt := 134) hx hb dX3_count_172 (by decide) ?_
                    refine ih (i + 1) _ ⟨ls, rfl, ?_, hi⟩ (by omega)
                    rw [show cnC (f 0) (i + 1) = (cnC (f 0) i) + (f 0 (gp i 6)) from by simp only [cnC, if_neg c_193]]
                    exact lv_sub hl [0, 1, 2, 3] rfl
                  · refine lv_iconst (v := 0) hx hb dX3_count_156 (by decide) ?_
                    refine lv_goto (tgt := 167) hx hb dX3_count_157 (by decide) ?_
                    refine lv_iadd hx hb dX3_count_167 ?_
                    refine lv_istore_n (lv' := [(2, .int ((cnC (f 0) i) + 0)), (3, .int (nI i)), (0, .ref (ad 23)), (1, .int x)]) hx hb dX3_count_168 rfl hl (by decide) rfl (fun ls hl => ?_)
                    refine lv_iinc (v := nI (i + 1)) (lv' := [(3, .int (nI (i + 1))), (2, .int ((cnC (f 0) i) + 0)), (0, .ref (ad 23)), (1, .int x)]) hx hb dX3_count_169 hl (k := 1) rfl (nI_1 _) (by decide) rfl (fun ls hl => ?_)
                    refine lv_goto (tgt := 134) hx hb dX3_count_172 (by decide) ?_
                    refine ih (i + 1) _ ⟨ls, rfl, ?_, hi⟩ (by omega)
                    rw [show cnC (f 0) (i + 1) = (cnC (f 0) i) + 0 from by simp only [cnC, if_pos c_193]]
                    exact lv_sub hl [0, 1, 2, 3] rfl
                · have hiN : i = N := by omega
                  subst hiN
                  refine lv_iload_n hx hb dX3_count_134 rfl (lv_at hl 0 rfl) ?_
                  refine lv_aload_n hx hb dX3_count_135 rfl (lv_at hl 2 rfl) ?_
                  refine m_get hc hW 0 (by decide) rfl q1000 rfl rfl dX3_count_136 ?_
                  refine lv_iconst (v := 1) hx hb dX3_count_139 (by decide) ?_
                  refine m_ild hc hW 0 rfl (n := 169) rfl (ix_eq (k := 1) rfl (by decide) (by decide)) dX3_count_140 ?_
                  refine sm_topi (v := nI i) (hO.2.2.2.1) ?_
                  refine lv_icmp_ge (tgt := 175) hx hb dX3_count_141 (by decide) (fun _ => ?_) (fun h => absurd (nI_le (by omega) (by have := hO.2.1; omega)) h)
                  refine lv_iload_n hx hb dX3_count_175 rfl (lv_at hl 1 rfl) ?_
                  exact ri_W hx hb hr hlk hS (by simp only [countM, if_neg c_186, if_neg c_187, if_neg c_188, if_neg c_189, if_neg c_190, if_neg c_191, if_pos c_192, hO.cl1]) (by simp only [countM, if_neg c_186, if_neg c_187, if_neg c_188, if_neg c_189, if_neg c_190, if_neg c_191, if_pos c_192]; exact hW) dX3_count_176
              · refine lv_tableOut (tgt := 177) hx hb dX3_count_3 (by have t_0 : x.toInt ≠ 0 := ne_toInt (k := 0) c_186; have t_1 : x.toInt ≠ 1 := ne_toInt (k := 1) c_187; have t_2 : x.toInt ≠ 2 := ne_toInt (k := 2) c_188; have t_3 : x.toInt ≠ 3 := ne_toInt (k := 3) c_189; have t_4 : x.toInt ≠ 4 := ne_toInt (k := 4) c_190; have t_5 : x.toInt ≠ 5 := ne_toInt (k := 5) c_191; have t_6 : x.toInt ≠ 6 := ne_toInt (k := 6) c_192; omega) (by decide) ?_
                refine lv_aload_n hx hb dX3_count_177 rfl (lv_at hl 1 rfl) ?_
                refine lv_ldc (v := (-1000000001)) hx hb hown (hts _ q1079) dX3_count_178 ?_
                refine cv_W1 (rest := []) hc (M_finds l hW (-1000000001) 0 (ix_eq (k := 0) (by decide) (by decide) (by decide))) (lw_V q1075 q1077 qs28 q70 q1078) nd_X3_finds ⟨Nat.le_of_ble_eq_true rfl, Nat.le_of_ble_eq_true rfl⟩ (MW.recv hK hW) rfl hl.1 rfl (Nat.le_of_ble_eq_true rfl) dX3_count_180 ⟨Nat.le_of_ble_eq_true rfl, Nat.le_of_ble_eq_true rfl⟩ hS (fun _ h => h) (fun H locs hW hS hz hk => ?_)
                exact ri_W hx hb hr hlk hS (by simp only [countM, if_neg c_186, if_neg c_187, if_neg c_188, if_neg c_189, if_neg c_190, if_neg c_191, if_neg c_192, hO.cl1]) (by simp only [countM, if_neg c_186, if_neg c_187, if_neg c_188, if_neg c_189, if_neg c_190, if_neg c_191, if_neg c_192]; exact hW) dX3_count_183
def stsN (f : Nat → Nat → Int32) (x : Int32) : Nat → Int32
  | 0 => 0
  | n + 1 => stsN f x n + (if x < 0 then f 3 n else if nI n = x then f 3 n else 0)
def statusM (f : Nat → Nat → Int32) (x : Int32) : Int32 × (Nat → Nat → Int32) := if -1 ≤ x ∧ x ≤ 6 then (stsN f x 7, f) else BEY f
theorem nd_X3_status : yX3_status.cls = "SmokeLeansModel" ∧ yX3_status.cls ≠ "java/lang/invoke/MethodHandle" ∧ yX3_status.cls ≠ "java/lang/invoke/VarHandle" ∧ (parseMethodDescriptor yX3_status.desc).map (fun d => d.parameters.length) = some 1 := by decide +kernel
set_option maxHeartbeats 4000000 in
theorem M_status (l : Launch) {G : GD} {A : Nat → Prop} {f : Nat → Nat → Int32} {g : Nat → Nat → Int64} {ad : Nat → Nat} {H0 : Heap} (hW : MW G A f g ad H0) (x : Int32) : MetW l G yX3_status cX3_status 4 (some .int) 1 0 0 A [.ref (ad 23), .int x] H0 (some (.int ((statusM f x).1))) (fun H => MW G A (statusM f x).2 g ad H) := by
  refine mx_of (by decide) (Nat.le_of_ble_eq_true rfl) ?_
  intro p e s m below meth c hx hb hr hc hlk hnm hs0 ls hl
  subst hs0
  have hown := hc.2.2.2.1
  have hts := hc.2.2.2.2.1
  have hK := hc.2.2.2.2.2
  have hl : lv_has ls 4 [(0, .ref (ad 23)), (1, .int x)] := hl
  have hS : va_S A s.heap s.heap [] := va_S.rf
  refine lv_iload_n hx hb dX3_status_0 rfl (lv_at hl 1 rfl) ?_
  refine lv_i2l hx hb dX3_status_1 rfl ?_
  refine lv_ldc2 (v := (-1)) hx hb hown (hts _ q1424) dX3_status_2 (sm_topl (v := (-1 : Int32).toInt64) (by decide) ?_)
  refine lv_ldc2 (v := 6) hx hb hown (hts _ q1425) dX3_status_5 (sm_topl (v := (6 : Int32).toInt64) (by decide) ?_)
  refine cs_R1 (rest := []) hc (M_in32 l x (-1) 6) (lw_S q1089 q1090 q70 q1091) nd_X3_in ⟨Nat.le_of_ble_eq_true rfl, Nat.le_of_ble_eq_true rfl⟩ rfl hl.1 rfl (Nat.le_of_ble_eq_true rfl) dX3_status_8 ⟨Nat.le_of_ble_eq_true rfl, Nat.le_of_ble_eq_true rfl⟩ ?_
  refine bi_ne (tgt := 21) hx hb dX3_status_11 (by decide) (fun c_194 => ?_) (fun c_194 => ?_)
  · refine lv_iconst (v := 0) hx hb dX3_status_21 (by decide) ?_
    refine lv_istore_n (lv' := [(2, .int 0), (0, .ref (ad 23)), (1, .int x)]) hx hb dX3_status_22 rfl hl (by decide) rfl (fun ls hl => ?_)
    refine lv_iconst (v := 0) hx hb dX3_status_23 (by decide) ?_
    refine lv_istore_n (lv' := [(3, .int 0), (2, .int 0), (0, .ref (ad 23)), (1, .int x)]) hx hb dX3_status_24 rfl hl (by decide) rfl (fun ls hl => ?_)
    refine w_loop (σ := Nat) (fun i fr => ∃ ls, fr = F0 m 25 ls [] ∧ lv_has ls 4 [(3, .int (nI i)), (2, .int (stsN f x i)), (0, .ref (ad 23)), (1, .int x)] ∧ (i ≤ 7)) (fun i => 7 - i) 0 ⟨ls, rfl, lv_sub hl [0, 1, 2, 3] rfl, Nat.zero_le _⟩ ?_
    intro i fr hI ih
    obtain ⟨ls, rfl, hl, hinv⟩ := hI
    by_cases hi : i < 7
    · refine lv_iload_n hx hb dX3_status_25 rfl (lv_at hl 0 rfl) ?_
      refine lv_bipush (v := 7) hx hb dX3_status_26 (by decide) ?_
      refine lv_icmp_ge (tgt := 59) hx hb dX3_status_28 (by decide) (fun h => absurd h (nI_ge (b := 7) hi (by decide))) (fun _ => ?_)
      refine lv_iload_n hx hb dX3_status_31 rfl (lv_at hl 1 rfl) ?_
      refine lv_iload_n hx hb dX3_status_32 rfl (lv_at hl 3 rfl) ?_
      refine lv_if_lt (tgt := 41) hx hb dX3_status_33 (by decide) (fun c_195 => ?_) (fun c_195 => ?_)
      · refine lv_aload_n hx hb dX3_status_41 rfl (lv_at hl 2 rfl) ?_
        refine m_get hc hW 3 (by decide) rfl q1003 rfl rfl dX3_status_42 ?_
        refine lv_iload_n hx hb dX3_status_45 rfl (lv_at hl 0 rfl) ?_
        refine m_ild hc hW 3 rfl (n := 7) rfl (ix_nI (by omega) (by decide)) dX3_status_46 ?_
        refine lv_goto (tgt := 51) hx hb dX3_status_47 (by decide) ?_
        refine lv_iadd hx hb dX3_status_51 ?_
        refine lv_istore_n (lv' := [(2, .int ((stsN f x i) + (f 3 i))), (3, .int (nI i)), (0, .ref (ad 23)), (1, .int x)]) hx hb dX3_status_52 rfl hl (by decide) rfl (fun ls hl => ?_)
        refine lv_iinc (v := nI (i + 1)) (lv' := [(3, .int (nI (i + 1))), (2, .int ((stsN f x i) + (f 3 i))), (0, .ref (ad 23)), (1, .int x)]) hx hb dX3_status_53 hl (k := 1) rfl (nI_1 _) (by decide) rfl (fun ls hl => ?_)
        refine lv_goto (tgt := 25) hx hb dX3_status_56 (by decide) ?_
        refine ih (i + 1) _ ⟨ls, rfl, ?_, hi⟩ (by omega)
        rw [show stsN f x (i + 1) = (stsN f x i) + (f 3 i) from by simp only [stsN, if_pos c_195]]
        exact lv_sub hl [0, 1, 2, 3] rfl
      · refine lv_iload_n hx hb dX3_status_36 rfl (lv_at hl 0 rfl) ?_
        refine lv_iload_n hx hb dX3_status_37 rfl (lv_at hl 3 rfl) ?_
        refine lv_icmp_ne (tgt := 50) hx hb dX3_status_38 (by decide) (fun c_196 => ?_) (fun c_196 => ?_)
        · refine lv_iconst (v := 0) hx hb dX3_status_50 (by decide) ?_
          refine lv_iadd hx hb dX3_status_51 ?_
          refine lv_istore_n (lv' := [(2, .int ((stsN f x i) + 0)), (3, .int (nI i)), (0, .ref (ad 23)), (1, .int x)]) hx hb dX3_status_52 rfl hl (by decide) rfl (fun ls hl => ?_)
          refine lv_iinc (v := nI (i + 1)) (lv' := [(3, .int (nI (i + 1))), (2, .int ((stsN f x i) + 0)), (0, .ref (ad 23)), (1, .int x)]) hx hb dX3_status_53 hl (k := 1) rfl (nI_1 _) (by decide) rfl (fun ls hl => ?_)
          refine lv_goto (tgt := 25) hx hb dX3_status_56 (by decide) ?_
          refine ih (i + 1) _ ⟨ls, rfl, ?_, hi⟩ (by omega)
          rw [show stsN f x (i + 1) = (stsN f x i) + 0 from by simp only [stsN, if_neg c_195, if_neg c_196]]
          exact lv_sub hl [0, 1, 2, 3] rfl
        · refine lv_aload_n hx hb dX3_status_41 rfl (lv_at hl 2 rfl) ?_
          refine m_get hc hW 3 (by decide) rfl q1003 rfl rfl dX3_status_42 ?_
          refine lv_iload_n hx hb dX3_status_45 rfl (lv_at hl 0 rfl) ?_
          refine m_ild hc hW 3 rfl (n := 7) rfl (ix_nI (by omega) (by decide)) dX3_status_46 ?_
          refine lv_goto (tgt := 51) hx hb dX3_status_47 (by decide) ?_
          refine lv_iadd hx hb dX3_status_51 ?_
          refine lv_istore_n (lv' := [(2, .int ((stsN f x i) + (f 3 i))), (3, .int (nI i)), (0, .ref (ad 23)), (1, .int x)]) hx hb dX3_status_52 rfl hl (by decide) rfl (fun ls hl => ?_)
          refine lv_iinc (v := nI (i + 1)) (lv' := [(3, .int (nI (i + 1))), (2, .int ((stsN f x i) + (f 3 i))), (0, .ref (ad 23)), (1, .int x)]) hx hb dX3_status_53 hl (k := 1) rfl (nI_1 _) (by decide) rfl (fun ls hl => ?_)
          refine lv_goto (tgt := 25) hx hb dX3_status_56 (by decide) ?_
          refine ih (i + 1) _ ⟨ls, rfl, ?_, hi⟩ (by omega)
          rw [show stsN f x (i + 1) = (stsN f x i) + (f 3 i) from by simp only [stsN, if_neg c_195, if_pos c_196]]
          exact lv_sub hl [0, 1, 2, 3] rfl
    · have hi7 : i = 7 := by omega
      subst hi7
      refine lv_iload_n hx hb dX3_status_25 rfl (lv_at hl 0 rfl) ?_
      refine lv_bipush (v := 7) hx hb dX3_status_26 (by decide) ?_
      refine lv_icmp_ge (tgt := 59) hx hb dX3_status_28 (by decide) (fun _ => ?_) (fun h => absurd (nI_le (a := 7) (by omega) (by omega)) h)
      refine lv_iload_n hx hb dX3_status_59 rfl (lv_at hl 1 rfl) ?_
      exact ri_W hx hb hr hlk hS (by simp only [statusM, if_pos c_194]) (by simp only [statusM, if_pos c_194]; exact hW) dX3_status_60
  · refine lv_aload_n hx hb dX3_status_14 rfl (lv_at hl 0 rfl) ?_
    refine lv_ldc (v := (-1000000001)) hx hb hown (hts _ q1079) dX3_status_15 ?_
    refine cv_W1 (rest := []) hc (M_finds l hW (-1000000001) 0 (ix_eq (k := 0) (by decide) (by decide) (by decide))) (lw_V q1075 q1077 qs28 q70 q1078) nd_X3_finds ⟨Nat.le_of_ble_eq_true rfl, Nat.le_of_ble_eq_true rfl⟩ (MW.recv hK hW) rfl hl.1 rfl (Nat.le_of_ble_eq_true rfl) dX3_status_17 ⟨Nat.le_of_ble_eq_true rfl, Nat.le_of_ble_eq_true rfl⟩ hS (fun _ h => h) (fun H locs hW hS hz hk => ?_)
    exact ri_W hx hb hr hlk hS (by simp only [statusM, if_neg c_194]) (by simp only [statusM, if_neg c_194]; exact hW) dX3_status_20
theorem nd_X3_wipe : yX3_wipe.cls = "SmokeLeansModel" ∧ yX3_wipe.cls ≠ "java/lang/invoke/MethodHandle" ∧ yX3_wipe.cls ≠ "java/lang/invoke/VarHandle" ∧ (parseMethodDescriptor yX3_wipe.desc).map (fun d => d.parameters.length) = some 0 := by decide +kernel
set_option maxHeartbeats 4000000 in
theorem M_wipe (l : Launch) {G : GD} {A : Nat → Prop} {f : Nat → Nat → Int32} {g : Nat → Nat → Int64} {ad : Nat → Nat} {H0 : Heap} (hW : MW G A f g ad H0)  : MetW l G yX3_wipe cX3_wipe 2 (some .int) 0 0 0 A [.ref (ad 23)] H0 (some (.int (f 6 0))) (fun H => MW G A (up2 f 6 0 0) g ad H) := by
  refine mx_of (by decide) (Nat.le_of_ble_eq_true rfl) ?_
  intro p e s m below meth c hx hb hr hc hlk hnm hs0 ls hl
  subst hs0
  have hown := hc.2.2.2.1
  have hts := hc.2.2.2.2.1
  have hK := hc.2.2.2.2.2
  have hl : lv_has ls 2 [(0, .ref (ad 23))] := hl
  have hS : va_S A s.heap s.heap [] := va_S.rf
  refine lv_aload_n hx hb dX3_wipe_0 rfl (lv_at hl 0 rfl) ?_
  refine m_get hc hW 6 (by decide) rfl q1006 rfl rfl dX3_wipe_1 ?_
  refine lv_istore_n (lv' := [(1, .int (f 6 0)), (0, .ref (ad 23))]) hx hb dX3_wipe_4 rfl hl (by decide) rfl (fun ls hl => ?_)
  refine lv_aload_n hx hb dX3_wipe_5 rfl (lv_at hl 1 rfl) ?_
  refine lv_iconst (v := 0) hx hb dX3_wipe_6 (by decide) ?_
  refine m_putS hc hW hS 6 (by decide) rfl rfl q1006 rfl rfl rfl rfl rfl rfl dX3_wipe_7 (fun H locs hW hS hz => ?_)
  refine lv_iload_n hx hb dX3_wipe_10 rfl (lv_at hl 0 rfl) ?_
  exact ri_W hx hb hr hlk hS (rfl) (hW) dX3_wipe_11
def fdW (n j : Nat) : Int32 := if j < n then nI (n - 1 - j) else -1
theorem fdW_s {n j : Nat} (h : j < n) : nI (n - 1 - j) + (-1) = fdW n (j + 1) := by
  unfold fdW
  split
  · rw [show n - 1 - j = (n - 1 - (j + 1)) + 1 by omega, pk_m1]
  · rw [show n - 1 - j = 0 by omega]; rfl
/-- the tape behind j of n bytes, T stood on it -/
def fdN (f : Nat → Nat → Int32) (T n : Nat) (x : Int32) : Nat → Nat → Nat → Int32
  | 0 => f
  | j + 1 => up2 (up2 (fdN f T n x j) 5 (T + j) ((x >>> (nI (8 * (n - 1 - j)) &&& 31)) &&& 255)) 6 0 (nI (T + j + 1))
def feedM (f : Nat → Nat → Int32) (x n : Int32) : Int32 × (Nat → Nat → Int32) :=
  if 1 ≤ n ∧ n ≤ 4 then
    if f 6 0 + n ≤ 120 then (f 6 0 + n, fdN f (f 6 0).toNatClampNeg n.toNatClampNeg x n.toNatClampNeg)
    else (-1000000002, cntP f 1)
  else BEY f
theorem fdN_6 {f : Nat → Nat → Int32} {T n : Nat} {x : Int32} (h : f 6 0 = nI T) : ∀ j, fdN f T n x j 6 0 = nI (T + j)
  | 0 => h
  | j + 1 => up2_at
theorem nd_X3_feed : yX3_feed.cls = "SmokeLeansModel" ∧ yX3_feed.cls ≠ "java/lang/invoke/MethodHandle" ∧ yX3_feed.cls ≠ "java/lang/invoke/VarHandle" ∧ (parseMethodDescriptor yX3_feed.desc).map (fun d => d.parameters.length) = some 2 := by decide +kernel
set_option maxHeartbeats 4000000 in
theorem M_feed (l : Launch) {G : GD} {A : Nat → Prop} {f : Nat → Nat → Int32} {g : Nat → Nat → Int64} {ad : Nat → Nat} {H0 : Heap} (hW : MW G A f g ad H0) {T : Nat} (hT : f 6 0 = nI T) (hT1 : T ≤ 120) (x n : Int32) : MetW l G yX3_feed cX3_feed 4 (some .int) 1 0 0 A [.ref (ad 23), .int x, .int n] H0 (some (.int ((feedM f x n).1))) (fun H => MW G A (feedM f x n).2 g ad H) := by
  refine mx_of (by decide) (Nat.le_of_ble_eq_true rfl) ?_
  intro p e s m below meth c hx hb hr hc hlk hnm hs0 ls hl
  subst hs0
  have hown := hc.2.2.2.1
  have hts := hc.2.2.2.2.1
  have hK := hc.2.2.2.2.2
  have hl : lv_has ls 4 [(0, .ref (ad 23)), (1, .int x), (2, .int n)] := hl
  have hS : va_S A s.heap s.heap [] := va_S.rf
  refine lv_iload_n hx hb dX3_feed_0 rfl (lv_at hl 2 rfl) ?_
  refine lv_i2l hx hb dX3_feed_1 rfl ?_
  refine lv_lconst (v := (1 : Int32).toInt64) hx hb dX3_feed_2 (by decide) ?_
  refine lv_ldc2 (v := 4) hx hb hown (hts _ q1154) dX3_feed_3 (sm_topl (v := (4 : Int32).toInt64) (by decide) ?_)
  refine cs_R1 (rest := []) hc (M_in32 l n 1 4) (lw_S q1089 q1090 q70 q1091) nd_X3_in ⟨Nat.le_of_ble_eq_true rfl, Nat.le_of_ble_eq_true rfl⟩ rfl hl.1 rfl (Nat.le_of_ble_eq_true rfl) dX3_feed_6 ⟨Nat.le_of_ble_eq_true rfl, Nat.le_of_ble_eq_true rfl⟩ ?_
  refine bi_ne (tgt := 19) hx hb dX3_feed_9 (by decide) (fun c_197 => ?_) (fun c_197 => ?_)
  · refine lv_aload_n hx hb dX3_feed_19 rfl (lv_at hl 0 rfl) ?_
    refine m_get hc hW 6 (by decide) rfl q1006 rfl rfl dX3_feed_20 ?_
    refine lv_iload_n hx hb dX3_feed_23 rfl (lv_at hl 2 rfl) ?_
    refine lv_iadd hx hb dX3_feed_24 ?_
    refine lv_bipush (v := 120) hx hb dX3_feed_25 (by decide) ?_
    refine lv_icmp_le (tgt := 37) hx hb dX3_feed_27 (by decide) (fun c_198 => ?_) (fun c_198 => ?_)
    · obtain ⟨n, hn, rfl⟩ := ex_le 4 (hi := 4) rfl (by decide) (Int32.le_trans (by decide) c_197.1) c_197.2
      have hcln : (nI n).toNatClampNeg = n := nI_clamp (by omega)
      have hclT : (f 6 0).toNatClampNeg = T := by rw [hT]; exact nI_clamp (by omega)
      have hn1 : 1 ≤ n := (nI_leI (by decide) (by omega)).mp (show nI 1 ≤ nI n from c_197.1)
      have hTn : T + n ≤ 120 := by have q := c_198; rw [hT, nI_add] at q; exact (nI_leI (by omega) (by decide)).mp (show nI (T + n) ≤ nI 120 from q)
      refine lv_iload_n hx hb dX3_feed_37 rfl (lv_at hl 2 rfl) ?_
      refine lv_iconst (v := 1) hx hb dX3_feed_38 (by decide) ?_
      refine lv_isub hx hb dX3_feed_39 ?_
      refine sm_topi (v := fdW n 0) (by rw [fdW, if_pos (by omega)]; exact pk_sub (b := 1) hn1) ?_
      refine lv_istore_n (lv' := [(3, .int (fdW n 0)), (0, .ref (ad 23)), (1, .int x), (2, .int (nI n))]) hx hb dX3_feed_40 rfl hl (by decide) rfl (fun ls hl => ?_)
      refine w_loopH (σ := Nat) (fun j H locs cells slots fr => cells = 0 ∧ slots = 0 ∧ (∃ ls, fr = F0 m 41 ls [] ∧ lv_has ls 4 [(3, .int (fdW n j)), (0, .ref (ad 23)), (1, .int x), (2, .int (nI n))]) ∧ va_S A s.heap H locs ∧ (j ≤ n ∧ MW G A (fdN f T n x j) g ad H)) (fun j => n - j) 0 ⟨rfl, rfl, ⟨ls, rfl, lv_sub hl [0, 1, 2, 3] rfl⟩, hS, ⟨Nat.zero_le _, hW⟩⟩ ?_
      intro j H locs cells slots fr hI ih
      obtain ⟨rfl, rfl, ⟨ls, rfl, hl⟩, hS, ⟨hle, hW⟩⟩ := hI
      have h6 := fdN_6 (n := n) (x := x) hT j
      by_cases hj : j < n
      · rw [show fdW n j = nI (n - 1 - j) from if_pos hj] at hl
        refine lv_iload_n hx hb dX3_feed_41 rfl (lv_at hl 0 rfl) ?_
        refine lv_if_lt (tgt := 80) hx hb dX3_feed_42 (by decide) (fun h => absurd h (nI_pos (by omega))) (fun _ => ?_)
        refine lv_aload_n hx hb dX3_feed_45 rfl (lv_at hl 1 rfl) ?_
        refine m_get hc hW 5 (by decide) rfl q1005 rfl rfl dX3_feed_46 ?_
        refine lv_aload_n hx hb dX3_feed_49 rfl (lv_at hl 1 rfl) ?_
        refine m_get hc hW 6 (by decide) rfl q1006 rfl rfl dX3_feed_50 ?_
        refine sm_topi (v := nI (T + j)) (h6) ?_
        refine lv_iload_n hx hb dX3_feed_53 rfl (lv_at hl 2 rfl) ?_
        refine lv_bipush (v := 8) hx hb dX3_feed_54 (by decide) ?_
        refine lv_iload_n hx hb dX3_feed_56 rfl (lv_at hl 0 rfl) ?_
        refine lv_imul hx hb dX3_feed_57 (sm_topi (v := nI (8 * (n - 1 - j))) (pk_mul _ _) ?_)
        refine lv_ishr hx hb dX3_feed_58 ?_
        refine lv_sipush (v := 255) hx hb dX3_feed_59 (by decide) ?_
        refine lv_iand hx hb dX3_feed_62 ?_
        refine m_ist hc hW hS 5 rfl (n := 120) rfl (ix_nI (by omega) (by decide)) dX3_feed_63 (fun H locs hW hS hz => ?_)
        refine lv_aload_n hx hb dX3_feed_64 rfl (lv_at hl 1 rfl) ?_
        refine lv_dup hx hb dX3_feed_65 rfl ?_
        refine m_get hc hW 6 (by decide) rfl q1006 rfl rfl dX3_feed_66 ?_
        refine sm_topi (v := (fdN f T n x j) 6 0) (by simp [up2]) ?_
        refine sm_topi (v := nI (T + j)) (h6) ?_
        refine lv_iconst (v := 1) hx hb dX3_feed_69 (by decide) ?_
        refine lv_iadd hx hb dX3_feed_70 (sm_topi (v := nI (T + j + 1)) (nI_add _ _) ?_)
        refine m_putS hc hW hS 6 (by decide) rfl rfl q1006 rfl rfl rfl rfl rfl rfl dX3_feed_71 (fun H locs hW hS hz => ?_)
        refine lv_iinc (v := (nI (n - 1 - j)) + (-1)) (lv' := [(3, .int ((nI (n - 1 - j)) + (-1))), (0, .ref (ad 23)), (1, .int x), (2, .int (nI n))]) hx hb dX3_feed_74 hl (k := 0) rfl rfl (by decide) rfl (fun ls hl => ?_)
        refine lv_goto (tgt := 41) hx hb dX3_feed_77 (by decide) ?_
        refine ih (j + 1) _ _ _ _ _ ⟨rfl, rfl, ⟨ls, rfl, ?_⟩, hS, hj, hW⟩ (by omega)
        rw [← fdW_s hj]
        exact lv_sub hl [0, 1, 2, 3] rfl
      · have hjn : j = n := by omega
        subst hjn
        refine lv_iload_n hx hb dX3_feed_41 rfl (lv_at hl 0 rfl) ?_
        refine lv_if_lt (tgt := 80) hx hb dX3_feed_42 (by decide) (fun _ => ?_) (fun h => absurd (show fdW j j < 0 by rw [fdW, if_neg (by omega)]; decide) h)
        refine lv_aload_n hx hb dX3_feed_80 rfl (lv_at hl 1 rfl) ?_
        refine m_get hc hW 6 (by decide) rfl q1006 rfl rfl dX3_feed_81 ?_
        refine sm_topi (v := nI (T + j)) (h6) ?_
        exact ri_W hx hb hr hlk hS (by simp only [feedM, if_pos c_197, if_pos c_198]; rw [hT, nI_add]) (by simp only [feedM, if_pos c_197, if_pos c_198, hcln, hclT]; exact hW) dX3_feed_84
    · refine lv_aload_n hx hb dX3_feed_30 rfl (lv_at hl 0 rfl) ?_
      refine lv_ldc (v := (-1000000002)) hx hb hown (hts _ q1074) dX3_feed_31 ?_
      refine cv_W1 (rest := []) hc (M_finds l hW (-1000000002) 1 (ix_eq (k := 1) (by decide) (by decide) (by decide))) (lw_V q1075 q1077 qs28 q70 q1078) nd_X3_finds ⟨Nat.le_of_ble_eq_true rfl, Nat.le_of_ble_eq_true rfl⟩ (MW.recv hK hW) rfl hl.1 rfl (Nat.le_of_ble_eq_true rfl) dX3_feed_33 ⟨Nat.le_of_ble_eq_true rfl, Nat.le_of_ble_eq_true rfl⟩ hS (fun _ h => h) (fun H locs hW hS hz hk => ?_)
      exact ri_W hx hb hr hlk hS (by simp only [feedM, if_pos c_197, if_neg c_198]) (by simp only [feedM, if_pos c_197, if_neg c_198]; exact hW) dX3_feed_36
  · refine lv_aload_n hx hb dX3_feed_12 rfl (lv_at hl 0 rfl) ?_
    refine lv_ldc (v := (-1000000001)) hx hb hown (hts _ q1079) dX3_feed_13 ?_
    refine cv_W1 (rest := []) hc (M_finds l hW (-1000000001) 0 (ix_eq (k := 0) (by decide) (by decide) (by decide))) (lw_V q1075 q1077 qs28 q70 q1078) nd_X3_finds ⟨Nat.le_of_ble_eq_true rfl, Nat.le_of_ble_eq_true rfl⟩ (MW.recv hK hW) rfl hl.1 rfl (Nat.le_of_ble_eq_true rfl) dX3_feed_15 ⟨Nat.le_of_ble_eq_true rfl, Nat.le_of_ble_eq_true rfl⟩ hS (fun _ h => h) (fun H locs hW hS hz hk => ?_)
    exact ri_W hx hb hr hlk hS (by simp only [feedM, if_neg c_197]) (by simp only [feedM, if_neg c_197]; exact hW) dX3_feed_18
