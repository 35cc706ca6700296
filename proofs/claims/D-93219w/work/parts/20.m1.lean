/-! the reference's methods, 1: what stands in the row, the findings, rooms and gaps, the night -/
set_option maxRecDepth 100000
/-- a finding is counted -/
def cntP (f : Nat → Nat → Int32) (k : Nat) : Nat → Nat → Int32 := up2 f 3 k (f 3 k + 1)

theorem nd_X3_in : yX3_in.cls ≠ "java/lang/invoke/MethodHandle" ∧ yX3_in.cls ≠ "java/lang/invoke/VarHandle" ∧ (parseMethodDescriptor yX3_in.desc).map (fun d => d.parameters.length) = some 3 := by decide +kernel
set_option maxHeartbeats 4000000 in
theorem M_in (l : Launch) {G : GD} {H0 : Heap} (v lo hi : Int64) : MetR l G yX3_in cX3_in 6 (some .boolean) 0 [.long v, .long lo, .long hi] H0 (some (.int (b2i (lo ≤ v ∧ v ≤ hi)))) := by
  refine mx_of (by decide) (Nat.le_of_ble_eq_true rfl) ?_
  intro p e s m below meth c hx hb hr hc hlk hnm hs0 ls hl
  subst hs0
  have hown := hc.2.2.2.1
  have hts := hc.2.2.2.2.1
  have hK := hc.2.2.2.2.2
  have hl : lv_has ls 6 [(0, .long v), (2, .long lo), (4, .long hi)] := hl
  refine lv_lload_n hx hb dX3_in_0 rfl (lv_at hl 0 rfl) ?_
  refine lv_lload_n hx hb dX3_in_1 rfl (lv_at hl 1 rfl) ?_
  refine W.lcmp hx hb dX3_in_2 ?_
  refine lv_if_lt (tgt := 17) hx hb dX3_in_3 (by decide) (fun c_1 => ?_) (fun c_1 => ?_)
  · refine lv_iconst (v := 0) hx hb dX3_in_17 (by decide) ?_
    exact rz_R hx hb hr hlk ((b2i_f (fun h => absurd h.1 (Int64.not_le.mpr (lc_lt.mp c_1)))).symm) dX3_in_18
  · refine lv_lload_n hx hb dX3_in_6 rfl (lv_at hl 0 rfl) ?_
    refine lv_lload hx hb dX3_in_7 (lv_at hl 2 rfl) ?_
    refine W.lcmp hx hb dX3_in_9 ?_
    refine lv_if_gt (tgt := 17) hx hb dX3_in_10 (by decide) (fun c_2 => ?_) (fun c_2 => ?_)
    · refine lv_iconst (v := 0) hx hb dX3_in_17 (by decide) ?_
      exact rz_R hx hb hr hlk ((b2i_f (fun h => absurd h.2 (Int64.not_le.mpr (lc_gt.mp c_2)))).symm) dX3_in_18
    · refine lv_iconst (v := 1) hx hb dX3_in_13 (by decide) ?_
      refine lv_goto (tgt := 18) hx hb dX3_in_14 (by decide) ?_
      exact rz_R hx hb hr hlk ((b2i_t ⟨Int64.not_lt.mp (fun h => c_1 (lc_lt.mpr h)), Int64.not_lt.mp (fun h => c_2 (lc_gt.mpr h))⟩).symm) dX3_in_18
theorem M_in32 (l : Launch) {G : GD} {H0 : Heap} (v lo hi : Int32) : MetR l G yX3_in cX3_in 6 (some .boolean) 0 [.long v.toInt64, .long lo.toInt64, .long hi.toInt64] H0 (some (.int (b2i (lo ≤ v ∧ v ≤ hi)))) := by
  have h := M_in l (G := G) (H0 := H0) v.toInt64 lo.toInt64 hi.toInt64
  rw [b2i_congr (inP32 (x := v) (lo := lo) (hi := hi))] at h
  exact h
theorem nd_X3_has : yX3_has.cls = "SmokeLeansModel" ∧ yX3_has.cls ≠ "java/lang/invoke/MethodHandle" ∧ yX3_has.cls ≠ "java/lang/invoke/VarHandle" ∧ (parseMethodDescriptor yX3_has.desc).map (fun d => d.parameters.length) = some 2 := by decide +kernel
set_option maxHeartbeats 4000000 in
theorem M_has (l : Launch) {G : GD} {A : Nat → Prop} {f : Nat → Nat → Int32} {g : Nat → Nat → Int64} {ad : Nat → Nat} {H0 : Heap} (hW : MW G A f g ad H0) (a b : Nat) (h : 9 + 8 * a + b < 169) : MetR l G yX3_has cX3_has 3 (some .int) 0 [.ref (ad 23), .int (nI a), .int (nI b)] H0 (some (.int (f 0 (gp a b)))) := by
  refine mx_of (by decide) (Nat.le_of_ble_eq_true rfl) ?_
  intro p e s m below meth c hx hb hr hc hlk hnm hs0 ls hl
  subst hs0
  have hown := hc.2.2.2.1
  have hts := hc.2.2.2.2.1
  have hK := hc.2.2.2.2.2
  have hl : lv_has ls 3 [(0, .ref (ad 23)), (1, .int (nI a)), (2, .int (nI b))] := hl
  refine lv_aload_n hx hb dX3_has_0 rfl (lv_at hl 0 rfl) ?_
  refine m_get hc hW 0 (by decide) rfl q1000 rfl rfl dX3_has_1 ?_
  refine lv_bipush (v := 9) hx hb dX3_has_4 (by decide) ?_
  refine lv_bipush (v := 8) hx hb dX3_has_6 (by decide) ?_
  refine lv_iload_n hx hb dX3_has_8 rfl (lv_at hl 1 rfl) ?_
  refine lv_imul hx hb dX3_has_9 (sm_topi (v := nI (8 * a)) (pk_mul _ _) ?_)
  refine lv_iadd hx hb dX3_has_10 (sm_topi (v := nI (9 + 8 * a)) (nI_add _ _) ?_)
  refine lv_iload_n hx hb dX3_has_11 rfl (lv_at hl 2 rfl) ?_
  refine lv_iadd hx hb dX3_has_12 (sm_topi (v := nI (9 + 8 * a + b)) (nI_add _ _) ?_)
  refine m_ild hc hW 0 rfl (n := 169) rfl (ix_nI (by omega) (by decide)) dX3_has_13 ?_
  exact ri_R hx hb hr hlk (rfl) dX3_has_14
theorem nd_X3_isGap : yX3_isGap.cls = "SmokeLeansModel" ∧ yX3_isGap.cls ≠ "java/lang/invoke/MethodHandle" ∧ yX3_isGap.cls ≠ "java/lang/invoke/VarHandle" ∧ (parseMethodDescriptor yX3_isGap.desc).map (fun d => d.parameters.length) = some 1 := by decide +kernel
set_option maxHeartbeats 4000000 in
theorem M_isGap (l : Launch) {G : GD} {A : Nat → Prop} {f : Nat → Nat → Int32} {g : Nat → Nat → Int64} {ad : Nat → Nat} {H0 : Heap} (hW : MW G A f g ad H0) (x : Int32) : MetR l G yX3_isGap cX3_isGap 2 (some .boolean) 1 [.ref (ad 23), .int x] H0 (some (.int (b2i (0 ≤ x ∧ x ≤ f 0 1 - 1)))) := by
  refine mx_of (by decide) (Nat.le_of_ble_eq_true rfl) ?_
  intro p e s m below meth c hx hb hr hc hlk hnm hs0 ls hl
  subst hs0
  have hown := hc.2.2.2.1
  have hts := hc.2.2.2.2.1
  have hK := hc.2.2.2.2.2
  have hl : lv_has ls 2 [(0, .ref (ad 23)), (1, .int x)] := hl
  refine lv_iload_n hx hb dX3_isGap_0 rfl (lv_at hl 1 rfl) ?_
  refine lv_i2l hx hb dX3_isGap_1 rfl ?_
  refine lv_lconst (v := (0 : Int32).toInt64) hx hb dX3_isGap_2 (by decide) ?_
  refine lv_aload_n hx hb dX3_isGap_3 rfl (lv_at hl 0 rfl) ?_
  refine m_get hc hW 0 (by decide) rfl q1000 rfl rfl dX3_isGap_4 ?_
  refine lv_iconst (v := 1) hx hb dX3_isGap_7 (by decide) ?_
  refine m_ild hc hW 0 rfl (n := 169) rfl (ix_eq (k := 1) rfl (by decide) (by decide)) dX3_isGap_8 ?_
  refine lv_iconst (v := 1) hx hb dX3_isGap_9 (by decide) ?_
  refine lv_isub hx hb dX3_isGap_10 ?_
  refine lv_i2l hx hb dX3_isGap_11 rfl ?_
  refine cs_R1 (rest := []) hc (M_in32 l x 0 ((f 0 1) - 1)) (lw_S q1089 q1090 q70 q1091) nd_X3_in ⟨Nat.le_of_ble_eq_true rfl, Nat.le_of_ble_eq_true rfl⟩ rfl hl.1 rfl (Nat.le_of_ble_eq_true rfl) dX3_isGap_12 ⟨Nat.le_of_ble_eq_true rfl, Nat.le_of_ble_eq_true rfl⟩ ?_
  exact rz_R hx hb hr hlk (rfl) dX3_isGap_15
theorem nd_X3_isRoom : yX3_isRoom.cls = "SmokeLeansModel" ∧ yX3_isRoom.cls ≠ "java/lang/invoke/MethodHandle" ∧ yX3_isRoom.cls ≠ "java/lang/invoke/VarHandle" ∧ (parseMethodDescriptor yX3_isRoom.desc).map (fun d => d.parameters.length) = some 1 := by decide +kernel
set_option maxHeartbeats 4000000 in
theorem M_isRoom (l : Launch) {G : GD} {A : Nat → Prop} {f : Nat → Nat → Int32} {g : Nat → Nat → Int64} {ad : Nat → Nat} {H0 : Heap} (hW : MW G A f g ad H0) (x : Int32) : MetR l G yX3_isRoom cX3_isRoom 2 (some .boolean) 1 [.ref (ad 23), .int x] H0 (some (.int (b2i (0 ≤ x ∧ x ≤ f 0 0 - 1)))) := by
  refine mx_of (by decide) (Nat.le_of_ble_eq_true rfl) ?_
  intro p e s m below meth c hx hb hr hc hlk hnm hs0 ls hl
  subst hs0
  have hown := hc.2.2.2.1
  have hts := hc.2.2.2.2.1
  have hK := hc.2.2.2.2.2
  have hl : lv_has ls 2 [(0, .ref (ad 23)), (1, .int x)] := hl
  refine lv_iload_n hx hb dX3_isRoom_0 rfl (lv_at hl 1 rfl) ?_
  refine lv_i2l hx hb dX3_isRoom_1 rfl ?_
  refine lv_lconst (v := (0 : Int32).toInt64) hx hb dX3_isRoom_2 (by decide) ?_
  refine lv_aload_n hx hb dX3_isRoom_3 rfl (lv_at hl 0 rfl) ?_
  refine m_get hc hW 0 (by decide) rfl q1000 rfl rfl dX3_isRoom_4 ?_
  refine lv_iconst (v := 0) hx hb dX3_isRoom_7 (by decide) ?_
  refine m_ild hc hW 0 rfl (n := 169) rfl (ix_eq (k := 0) rfl (by decide) (by decide)) dX3_isRoom_8 ?_
  refine lv_iconst (v := 1) hx hb dX3_isRoom_9 (by decide) ?_
  refine lv_isub hx hb dX3_isRoom_10 ?_
  refine lv_i2l hx hb dX3_isRoom_11 rfl ?_
  refine cs_R1 (rest := []) hc (M_in32 l x 0 ((f 0 0) - 1)) (lw_S q1089 q1090 q70 q1091) nd_X3_in ⟨Nat.le_of_ble_eq_true rfl, Nat.le_of_ble_eq_true rfl⟩ rfl hl.1 rfl (Nat.le_of_ble_eq_true rfl) dX3_isRoom_12 ⟨Nat.le_of_ble_eq_true rfl, Nat.le_of_ble_eq_true rfl⟩ ?_
  exact rz_R hx hb hr hlk (rfl) dX3_isRoom_15
theorem nd_X3_finds : yX3_finds.cls = "SmokeLeansModel" ∧ yX3_finds.cls ≠ "java/lang/invoke/MethodHandle" ∧ yX3_finds.cls ≠ "java/lang/invoke/VarHandle" ∧ (parseMethodDescriptor yX3_finds.desc).map (fun d => d.parameters.length) = some 1 := by decide +kernel
set_option maxHeartbeats 4000000 in
theorem M_finds (l : Launch) {G : GD} {A : Nat → Prop} {f : Nat → Nat → Int32} {g : Nat → Nat → Int64} {ad : Nat → Nat} {H0 : Heap} (hW : MW G A f g ad H0) (x : Int32) (k : Nat) (hk : IdxOk (-1000000001 - x) k 7) : MetW l G yX3_finds cX3_finds 2 (some .int) 0 0 0 A [.ref (ad 23), .int x] H0 (some (.int x)) (fun H => MW G A (cntP f k) g ad H) := by
  refine mx_of (by decide) (Nat.le_of_ble_eq_true rfl) ?_
  intro p e s m below meth c hx hb hr hc hlk hnm hs0 ls hl
  subst hs0
  have hown := hc.2.2.2.1
  have hts := hc.2.2.2.2.1
  have hK := hc.2.2.2.2.2
  have hl : lv_has ls 2 [(0, .ref (ad 23)), (1, .int x)] := hl
  have hS : va_S A s.heap s.heap [] := va_S.rf
  refine lv_aload_n hx hb dX3_finds_0 rfl (lv_at hl 0 rfl) ?_
  refine m_get hc hW 3 (by decide) rfl q1003 rfl rfl dX3_finds_1 ?_
  refine lv_ldc (v := (-1000000001)) hx hb hown (hts _ q1079) dX3_finds_4 ?_
  refine lv_iload_n hx hb dX3_finds_6 rfl (lv_at hl 1 rfl) ?_
  refine lv_isub hx hb dX3_finds_7 ?_
  refine lv_dup2_11 hx hb dX3_finds_8 rfl rfl ?_
  refine m_ild hc hW 3 rfl (n := 7) rfl hk dX3_finds_9 ?_
  refine lv_iconst (v := 1) hx hb dX3_finds_10 (by decide) ?_
  refine lv_iadd hx hb dX3_finds_11 ?_
  refine m_ist hc hW hS 3 rfl (n := 7) rfl hk dX3_finds_12 (fun H locs hW hS hz => ?_)
  refine lv_iload_n hx hb dX3_finds_13 rfl (lv_at hl 1 rfl) ?_
  exact ri_W hx hb hr hlk hS (rfl) (hW) dX3_finds_14
theorem nd_X3_newRoom : yX3_newRoom.cls = "SmokeLeansModel" ∧ yX3_newRoom.cls ≠ "java/lang/invoke/MethodHandle" ∧ yX3_newRoom.cls ≠ "java/lang/invoke/VarHandle" ∧ (parseMethodDescriptor yX3_newRoom.desc).map (fun d => d.parameters.length) = some 0 := by decide +kernel
set_option maxHeartbeats 4000000 in
theorem M_newRoom (l : Launch) {G : GD} {A : Nat → Prop} {f : Nat → Nat → Int32} {g : Nat → Nat → Int64} {ad : Nat → Nat} {H0 : Heap} (hW : MW G A f g ad H0)  : MetW l G yX3_newRoom cX3_newRoom 1 (some .int) 0 0 0 A [.ref (ad 23)] H0 (some (.int (f 0 0))) (fun H => MW G A (up2 f 0 0 (f 0 0 + 1)) g ad H) := by
  refine mx_of (by decide) (Nat.le_of_ble_eq_true rfl) ?_
  intro p e s m below meth c hx hb hr hc hlk hnm hs0 ls hl
  subst hs0
  have hown := hc.2.2.2.1
  have hts := hc.2.2.2.2.1
  have hK := hc.2.2.2.2.2
  have hl : lv_has ls 1 [(0, .ref (ad 23))] := hl
  have hS : va_S A s.heap s.heap [] := va_S.rf
  refine lv_aload_n hx hb dX3_newRoom_0 rfl (lv_at hl 0 rfl) ?_
  refine m_get hc hW 0 (by decide) rfl q1000 rfl rfl dX3_newRoom_1 ?_
  refine lv_iconst (v := 0) hx hb dX3_newRoom_4 (by decide) ?_
  refine lv_dup2_11 hx hb dX3_newRoom_5 rfl rfl ?_
  refine m_ild hc hW 0 rfl (n := 169) rfl (ix_eq (k := 0) rfl (by decide) (by decide)) dX3_newRoom_6 ?_
  refine lv_iconst (v := 1) hx hb dX3_newRoom_7 (by decide) ?_
  refine lv_iadd hx hb dX3_newRoom_8 ?_
  refine m_ist hc hW hS 0 rfl (n := 169) rfl (ix_eq (k := 0) rfl (by decide) (by decide)) dX3_newRoom_9 (fun H locs hW hS hz => ?_)
  refine lv_aload_n hx hb dX3_newRoom_10 rfl (lv_at hl 0 rfl) ?_
  refine m_get hc hW 0 (by decide) rfl q1000 rfl rfl dX3_newRoom_11 ?_
  refine lv_iconst (v := 0) hx hb dX3_newRoom_14 (by decide) ?_
  refine m_ild hc hW 0 rfl (n := 169) rfl (ix_eq (k := 0) rfl (by decide) (by decide)) dX3_newRoom_15 ?_
  refine sm_topi (v := (f 0 0) + 1) (by simp [up2]) ?_
  refine lv_iconst (v := 1) hx hb dX3_newRoom_16 (by decide) ?_
  refine lv_isub hx hb dX3_newRoom_17 ?_
  exact ri_W hx hb hr hlk hS (by rw [Int32.add_sub_cancel]) (hW) dX3_newRoom_18
def roomM (f : Nat → Nat → Int32) : Int32 × (Nat → Nat → Int32) := if f 0 0 = 6 then (-1000000002, cntP f 1) else (f 0 0, up2 f 0 0 (f 0 0 + 1))
theorem nd_X3_room : yX3_room.cls = "SmokeLeansModel" ∧ yX3_room.cls ≠ "java/lang/invoke/MethodHandle" ∧ yX3_room.cls ≠ "java/lang/invoke/VarHandle" ∧ (parseMethodDescriptor yX3_room.desc).map (fun d => d.parameters.length) = some 0 := by decide +kernel
set_option maxHeartbeats 4000000 in
theorem M_room (l : Launch) {G : GD} {A : Nat → Prop} {f : Nat → Nat → Int32} {g : Nat → Nat → Int64} {ad : Nat → Nat} {H0 : Heap} (hW : MW G A f g ad H0)  : MetW l G yX3_room cX3_room 1 (some .int) 1 0 0 A [.ref (ad 23)] H0 (some (.int ((roomM f).1))) (fun H => MW G A (roomM f).2 g ad H) := by
  refine mx_of (by decide) (Nat.le_of_ble_eq_true rfl) ?_
  intro p e s m below meth c hx hb hr hc hlk hnm hs0 ls hl
  subst hs0
  have hown := hc.2.2.2.1
  have hts := hc.2.2.2.2.1
  have hK := hc.2.2.2.2.2
  have hl : lv_has ls 1 [(0, .ref (ad 23))] := hl
  have hS : va_S A s.heap s.heap [] := va_S.rf
  refine lv_aload_n hx hb dX3_room_0 rfl (lv_at hl 0 rfl) ?_
  refine m_get hc hW 0 (by decide) rfl q1000 rfl rfl dX3_room_1 ?_
  refine lv_iconst (v := 0) hx hb dX3_room_4 (by decide) ?_
  refine m_ild hc hW 0 rfl (n := 169) rfl (ix_eq (k := 0) rfl (by decide) (by decide)) dX3_room_5 ?_
  refine lv_bipush (v := 6) hx hb dX3_room_6 (by decide) ?_
  refine lv_icmp_ne (tgt := 20) hx hb dX3_room_8 (by decide) (fun c_3 => ?_) (fun c_3 => ?_)
  · refine lv_aload_n hx hb dX3_room_20 rfl (lv_at hl 0 rfl) ?_
    refine cv_W1 (rest := []) hc (M_newRoom l hW) (lw_V q1080 q1082 qs29 q70 q1083) nd_X3_newRoom ⟨Nat.le_of_ble_eq_true rfl, Nat.le_of_ble_eq_true rfl⟩ (MW.recv hK hW) rfl hl.1 rfl (Nat.le_of_ble_eq_true rfl) dX3_room_21 ⟨Nat.le_of_ble_eq_true rfl, Nat.le_of_ble_eq_true rfl⟩ hS (fun _ h => h) (fun H locs hW hS hz hk => ?_)
    exact ri_W hx hb hr hlk hS (by simp [roomM, c_3]) (by simpa [roomM, c_3] using hW) dX3_room_24
  · refine lv_aload_n hx hb dX3_room_11 rfl (lv_at hl 0 rfl) ?_
    refine lv_ldc (v := (-1000000002)) hx hb hown (hts _ q1074) dX3_room_12 ?_
    refine cv_W1 (rest := []) hc (M_finds l hW (-1000000002) 1 (ix_eq (k := 1) (by decide) (by decide) (by decide))) (lw_V q1075 q1077 qs28 q70 q1078) nd_X3_finds ⟨Nat.le_of_ble_eq_true rfl, Nat.le_of_ble_eq_true rfl⟩ (MW.recv hK hW) rfl hl.1 rfl (Nat.le_of_ble_eq_true rfl) dX3_room_14 ⟨Nat.le_of_ble_eq_true rfl, Nat.le_of_ble_eq_true rfl⟩ hS (fun _ h => h) (fun H locs hW hS hz hk => ?_)
    refine lv_goto (tgt := 24) hx hb dX3_room_17 (by decide) ?_
    exact ri_W hx hb hr hlk hS (by simp [roomM, c_3]) (by simpa [roomM, c_3] using hW) dX3_room_24
def ngP (f : Nat → Nat → Int32) (n : Nat) (a0 a1 a2 a3 a4 a5 a6 : Int32) : Nat → Nat → Int32 :=
  up2 (up2 (up2 (up2 (up2 (up2 (up2 (up2 (up2 f 0 (gp n 0) a0) 0 (gp n 1) a1) 0 (gp n 2) a2) 0 (gp n 3) a3) 0 (gp n 4) a4) 0 (gp n 5) a5) 0 (gp n 6) a6) 0 (gp n 7) 0) 0 1 (nI (n + 1))
theorem nd_X3_newGap : yX3_newGap.cls = "SmokeLeansModel" ∧ yX3_newGap.cls ≠ "java/lang/invoke/MethodHandle" ∧ yX3_newGap.cls ≠ "java/lang/invoke/VarHandle" ∧ (parseMethodDescriptor yX3_newGap.desc).map (fun d => d.parameters.length) = some 7 := by decide +kernel
set_option maxHeartbeats 4000000 in
theorem M_newGap (l : Launch) {G : GD} {A : Nat → Prop} {f : Nat → Nat → Int32} {g : Nat → Nat → Int64} {ad : Nat → Nat} {H0 : Heap} (hW : MW G A f g ad H0) (n : Nat) (hn1 : f 0 1 = nI n) (hn : n < 20) (a0 a1 a2 a3 a4 a5 a6 : Int32) : MetW l G yX3_newGap cX3_newGap 9 (some .int) 0 0 0 A [.ref (ad 23), .int a0, .int a1, .int a2, .int a3, .int a4, .int a5, .int a6] H0 (some (.int (nI n))) (fun H => MW G A (ngP f n a0 a1 a2 a3 a4 a5 a6) g ad H) := by
  refine mx_of (by decide) (Nat.le_of_ble_eq_true rfl) ?_
  intro p e s m below meth c hx hb hr hc hlk hnm hs0 ls hl
  subst hs0
  have hown := hc.2.2.2.1
  have hts := hc.2.2.2.2.1
  have hK := hc.2.2.2.2.2
  have hl : lv_has ls 9 [(0, .ref (ad 23)), (1, .int a0), (2, .int a1), (3, .int a2), (4, .int a3), (5, .int a4), (6, .int a5), (7, .int a6)] := hl
  have hS : va_S A s.heap s.heap [] := va_S.rf
  refine lv_bipush (v := 9) hx hb dX3_newGap_0 (by decide) ?_
  refine lv_bipush (v := 8) hx hb dX3_newGap_2 (by decide) ?_
  refine lv_aload_n hx hb dX3_newGap_4 rfl (lv_at hl 0 rfl) ?_
  refine m_get hc hW 0 (by decide) rfl q1000 rfl rfl dX3_newGap_5 ?_
  refine lv_iconst (v := 1) hx hb dX3_newGap_8 (by decide) ?_
  refine m_ild hc hW 0 rfl (n := 169) rfl (ix_eq (k := 1) rfl (by decide) (by decide)) dX3_newGap_9 ?_
  refine sm_topi (v := nI n) (hn1) ?_
  refine lv_imul hx hb dX3_newGap_10 (sm_topi (v := nI (8 * n)) (pk_mul _ _) ?_)
  refine lv_iadd hx hb dX3_newGap_11 (sm_topi (v := nI (9 + 8 * n)) (nI_add _ _) ?_)
  refine lv_istore (lv' := [(8, .int (nI (9 + 8 * n))), (0, .ref (ad 23)), (1, .int a0), (2, .int a1), (3, .int a2), (4, .int a3), (5, .int a4), (6, .int a5), (7, .int a6)]) hx hb dX3_newGap_12 hl (by decide) rfl (fun ls hl => ?_)
  refine lv_aload_n hx hb dX3_newGap_14 rfl (lv_at hl 1 rfl) ?_
  refine m_get hc hW 0 (by decide) rfl q1000 rfl rfl dX3_newGap_15 ?_
  refine lv_iload hx hb dX3_newGap_18 (lv_at hl 0 rfl) ?_
  refine lv_iconst (v := 0) hx hb dX3_newGap_20 (by decide) ?_
  refine lv_iadd hx hb dX3_newGap_21 (sm_topi (v := nI (9 + 8 * n + 0)) (nI_add _ _) ?_)
  refine lv_iload_n hx hb dX3_newGap_22 rfl (lv_at hl 2 rfl) ?_
  refine m_ist hc hW hS 0 rfl (n := 169) rfl (ix_nI (by omega) (by decide)) dX3_newGap_23 (fun H locs hW hS hz => ?_)
  refine lv_aload_n hx hb dX3_newGap_24 rfl (lv_at hl 1 rfl) ?_
  refine m_get hc hW 0 (by decide) rfl q1000 rfl rfl dX3_newGap_25 ?_
  refine lv_iload hx hb dX3_newGap_28 (lv_at hl 0 rfl) ?_
  refine lv_iconst (v := 1) hx hb dX3_newGap_30 (by decide) ?_
  refine lv_iadd hx hb dX3_newGap_31 (sm_topi (v := nI (9 + 8 * n + 1)) (nI_add _ _) ?_)
  refine lv_iload_n hx hb dX3_newGap_32 rfl (lv_at hl 3 rfl) ?_
  refine m_ist hc hW hS 0 rfl (n := 169) rfl (ix_nI (by omega) (by decide)) dX3_newGap_33 (fun H locs hW hS hz => ?_)
  refine lv_aload_n hx hb dX3_newGap_34 rfl (lv_at hl 1 rfl) ?_
  refine m_get hc hW 0 (by decide) rfl q1000 rfl rfl dX3_newGap_35 ?_
  refine lv_iload hx hb dX3_newGap_38 (lv_at hl 0 rfl) ?_
  refine lv_iconst (v := 2) hx hb dX3_newGap_40 (by decide) ?_
  refine lv_iadd hx hb dX3_newGap_41 (sm_topi (v := nI (9 + 8 * n + 2)) (nI_add _ _) ?_)
  refine lv_iload_n hx hb dX3_newGap_42 rfl (lv_at hl 4 rfl) ?_
  refine m_ist hc hW hS 0 rfl (n := 169) rfl (ix_nI (by omega) (by decide)) dX3_newGap_43 (fun H locs hW hS hz => ?_)
  refine lv_aload_n hx hb dX3_newGap_44 rfl (lv_at hl 1 rfl) ?_
  refine m_get hc hW 0 (by decide) rfl q1000 rfl rfl dX3_newGap_45 ?_
  refine lv_iload hx hb dX3_newGap_48 (lv_at hl 0 rfl) ?_
  refine lv_iconst (v := 3) hx hb dX3_newGap_50 (by decide) ?_
  refine lv_iadd hx hb dX3_newGap_51 (sm_topi (v := nI (9 + 8 * n + 3)) (nI_add _ _) ?_)
  refine lv_iload hx hb dX3_newGap_52 (lv_at hl 5 rfl) ?_
  refine m_ist hc hW hS 0 rfl (n := 169) rfl (ix_nI (by omega) (by decide)) dX3_newGap_54 (fun H locs hW hS hz => ?_)
  refine lv_aload_n hx hb dX3_newGap_55 rfl (lv_at hl 1 rfl) ?_
  refine m_get hc hW 0 (by decide) rfl q1000 rfl rfl dX3_newGap_56 ?_
  refine lv_iload hx hb dX3_newGap_59 (lv_at hl 0 rfl) ?_
  refine lv_iconst (v := 4) hx hb dX3_newGap_61 (by decide) ?_
  refine lv_iadd hx hb dX3_newGap_62 (sm_topi (v := nI (9 + 8 * n + 4)) (nI_add _ _) ?_)
  refine lv_iload hx hb dX3_newGap_63 (lv_at hl 6 rfl) ?_
  refine m_ist hc hW hS 0 rfl (n := 169) rfl (ix_nI (by omega) (by decide)) dX3_newGap_65 (fun H locs hW hS hz => ?_)
  refine lv_aload_n hx hb dX3_newGap_66 rfl (lv_at hl 1 rfl) ?_
  refine m_get hc hW 0 (by decide) rfl q1000 rfl rfl dX3_newGap_67 ?_
  refine lv_iload hx hb dX3_newGap_70 (lv_at hl 0 rfl) ?_
  refine lv_iconst (v := 5) hx hb dX3_newGap_72 (by decide) ?_
  refine lv_iadd hx hb dX3_newGap_73 (sm_topi (v := nI (9 + 8 * n + 5)) (nI_add _ _) ?_)
  refine lv_iload hx hb dX3_newGap_74 (lv_at hl 7 rfl) ?_
  refine m_ist hc hW hS 0 rfl (n := 169) rfl (ix_nI (by omega) (by decide)) dX3_newGap_76 (fun H locs hW hS hz => ?_)
  refine lv_aload_n hx hb dX3_newGap_77 rfl (lv_at hl 1 rfl) ?_
  refine m_get hc hW 0 (by decide) rfl q1000 rfl rfl dX3_newGap_78 ?_
  refine lv_iload hx hb dX3_newGap_81 (lv_at hl 0 rfl) ?_
  refine lv_bipush (v := 6) hx hb dX3_newGap_83 (by decide) ?_
  refine lv_iadd hx hb dX3_newGap_85 (sm_topi (v := nI (9 + 8 * n + 6)) (nI_add _ _) ?_)
  refine lv_iload hx hb dX3_newGap_86 (lv_at hl 8 rfl) ?_
  refine m_ist hc hW hS 0 rfl (n := 169) rfl (ix_nI (by omega) (by decide)) dX3_newGap_88 (fun H locs hW hS hz => ?_)
  refine lv_aload_n hx hb dX3_newGap_89 rfl (lv_at hl 1 rfl) ?_
  refine m_get hc hW 0 (by decide) rfl q1000 rfl rfl dX3_newGap_90 ?_
  refine lv_iload hx hb dX3_newGap_93 (lv_at hl 0 rfl) ?_
  refine lv_bipush (v := 7) hx hb dX3_newGap_95 (by decide) ?_
  refine lv_iadd hx hb dX3_newGap_97 (sm_topi (v := nI (9 + 8 * n + 7)) (nI_add _ _) ?_)
  refine lv_iconst (v := 0) hx hb dX3_newGap_98 (by decide) ?_
  refine m_ist hc hW hS 0 rfl (n := 169) rfl (ix_nI (by omega) (by decide)) dX3_newGap_99 (fun H locs hW hS hz => ?_)
  refine lv_aload_n hx hb dX3_newGap_100 rfl (lv_at hl 1 rfl) ?_
  refine m_get hc hW 0 (by decide) rfl q1000 rfl rfl dX3_newGap_101 ?_
  refine lv_iconst (v := 1) hx hb dX3_newGap_104 (by decide) ?_
  refine lv_dup2_11 hx hb dX3_newGap_105 rfl rfl ?_
  refine m_ild hc hW 0 rfl (n := 169) rfl (ix_eq (k := 1) rfl (by decide) (by decide)) dX3_newGap_106 ?_
  refine sm_topi (v := nI n) (by rw [up2_ne2 (by omega), up2_ne2 (by omega), up2_ne2 (by omega), up2_ne2 (by omega), up2_ne2 (by omega), up2_ne2 (by omega), up2_ne2 (by omega), up2_ne2 (by omega)]; exact hn1) ?_
  refine lv_iconst (v := 1) hx hb dX3_newGap_107 (by decide) ?_
  refine lv_iadd hx hb dX3_newGap_108 (sm_topi (v := nI (n + 1)) (nI_add _ _) ?_)
  refine m_ist hc hW hS 0 rfl (n := 169) rfl (ix_eq (k := 1) rfl (by decide) (by decide)) dX3_newGap_109 (fun H locs hW hS hz => ?_)
  refine lv_aload_n hx hb dX3_newGap_110 rfl (lv_at hl 1 rfl) ?_
  refine m_get hc hW 0 (by decide) rfl q1000 rfl rfl dX3_newGap_111 ?_
  refine lv_iconst (v := 1) hx hb dX3_newGap_114 (by decide) ?_
  refine m_ild hc hW 0 rfl (n := 169) rfl (ix_eq (k := 1) rfl (by decide) (by decide)) dX3_newGap_115 ?_
  refine sm_topi (v := nI (n + 1)) (by simp [up2]) ?_
  refine lv_iconst (v := 1) hx hb dX3_newGap_116 (by decide) ?_
  refine lv_isub hx hb dX3_newGap_117 ?_
  exact ri_W hx hb hr hlk hS (nI_pred _) (hW) dX3_newGap_118
def gapM (f : Nat → Nat → Int32) (k r t o : Int32) : Int32 × (Nat → Nat → Int32) :=
  if 0 ≤ k ∧ k ≤ 5 then
    if 0 ≤ r ∧ r ≤ f 0 0 - 1 then
      if t = -1 ∨ (0 ≤ t ∧ t ≤ f 0 0 - 1) then
        if t = r then (-1000000001, cntP f 0)
        else if 0 ≤ o ∧ o ≤ 999999 then
          if remP (o / 100) 10 ≤ 3 then
            if f 0 1 = 20 then (-1000000002, cntP f 1)
            else (f 0 1, ngP f (f 0 1).toNatClampNeg k r t (o / 10000) (remP (o / 1000) 10) (remP (o / 100) 10) (remP o 100))
          else (-1000000001, cntP f 0)
        else (-1000000001, cntP f 0)
      else (-1000000001, cntP f 0)
    else (-1000000001, cntP f 0)
  else (-1000000001, cntP f 0)
theorem nd_X3_gap : yX3_gap.cls = "SmokeLeansModel" ∧ yX3_gap.cls ≠ "java/lang/invoke/MethodHandle" ∧ yX3_gap.cls ≠ "java/lang/invoke/VarHandle" ∧ (parseMethodDescriptor yX3_gap.desc).map (fun d => d.parameters.length) = some 4 := by decide +kernel
set_option maxHeartbeats 4000000 in
theorem M_gap (l : Launch) {G : GD} {A : Nat → Prop} {f : Nat → Nat → Int32} {g : Nat → Nat → Int64} {ad : Nat → Nat} {H0 : Heap} (hW : MW G A f g ad H0) {R N : Nat} (hO : OkN (f 0) R N) (k r t o : Int32) : MetW l G yX3_gap cX3_gap 5 (some .int) 2 0 0 A [.ref (ad 23), .int k, .int r, .int t, .int o] H0 (some (.int ((gapM f k r t o).1))) (fun H => MW G A (gapM f k r t o).2 g ad H) := by
  refine mx_of (by decide) (Nat.le_of_ble_eq_true rfl) ?_
  intro p e s m below meth c hx hb hr hc hlk hnm hs0 ls hl
  subst hs0
  have hown := hc.2.2.2.1
  have hts := hc.2.2.2.2.1
  have hK := hc.2.2.2.2.2
  have hl : lv_has ls 5 [(0, .ref (ad 23)), (1, .int k), (2, .int r), (3, .int t), (4, .int o)] := hl
  have hS : va_S A s.heap s.heap [] := va_S.rf
  refine lv_iload_n hx hb dX3_gap_0 rfl (lv_at hl 1 rfl) ?_
  refine lv_i2l hx hb dX3_gap_1 rfl ?_
  refine lv_lconst (v := (0 : Int32).toInt64) hx hb dX3_gap_2 (by decide) ?_
  refine lv_ldc2 (v := 5) hx hb hown (hts _ q1088) dX3_gap_3 (sm_topl (v := (5 : Int32).toInt64) (by decide) ?_)
  refine cs_R1 (rest := []) hc (M_in32 l k 0 5) (lw_S q1089 q1090 q70 q1091) nd_X3_in ⟨Nat.le_of_ble_eq_true rfl, Nat.le_of_ble_eq_true rfl⟩ rfl hl.1 rfl (Nat.le_of_ble_eq_true rfl) dX3_gap_6 ⟨Nat.le_of_ble_eq_true rfl, Nat.le_of_ble_eq_true rfl⟩ ?_
  refine bi_eq (tgt := 63) hx hb dX3_gap_9 (by decide) (fun c_4 => ?_) (fun c_4 => ?_)
  · refine lv_aload_n hx hb dX3_gap_63 rfl (lv_at hl 0 rfl) ?_
    refine lv_ldc (v := (-1000000001)) hx hb hown (hts _ q1079) dX3_gap_64 ?_
    refine cv_W1 (rest := []) hc (M_finds l hW (-1000000001) 0 (ix_eq (k := 0) (by decide) (by decide) (by decide))) (lw_V q1075 q1077 qs28 q70 q1078) nd_X3_finds ⟨Nat.le_of_ble_eq_true rfl, Nat.le_of_ble_eq_true rfl⟩ (MW.recv hK hW) rfl hl.1 rfl (Nat.le_of_ble_eq_true rfl) dX3_gap_66 ⟨Nat.le_of_ble_eq_true rfl, Nat.le_of_ble_eq_true rfl⟩ hS (fun _ h => h) (fun H locs hW hS hz hk => ?_)
    exact ri_W hx hb hr hlk hS (by simp only [gapM, if_neg c_4]) (by simp only [gapM, if_neg c_4]; exact hW) dX3_gap_69
  · refine lv_aload_n hx hb dX3_gap_12 rfl (lv_at hl 0 rfl) ?_
    refine lv_iload_n hx hb dX3_gap_13 rfl (lv_at hl 2 rfl) ?_
    refine cv_R1 (rest := []) hc (M_isRoom l hW r) (lw_V q1092 q1094 qs30 q70 q1095) nd_X3_isRoom ⟨Nat.le_of_ble_eq_true rfl, Nat.le_of_ble_eq_true rfl⟩ (MW.recv hK hW) rfl hl.1 rfl (Nat.le_of_ble_eq_true rfl) dX3_gap_14 ⟨Nat.le_of_ble_eq_true rfl, Nat.le_of_ble_eq_true rfl⟩ ?_
    refine bi_eq (tgt := 63) hx hb dX3_gap_17 (by decide) (fun c_5 => ?_) (fun c_5 => ?_)
    · refine lv_aload_n hx hb dX3_gap_63 rfl (lv_at hl 0 rfl) ?_
      refine lv_ldc (v := (-1000000001)) hx hb hown (hts _ q1079) dX3_gap_64 ?_
      refine cv_W1 (rest := []) hc (M_finds l hW (-1000000001) 0 (ix_eq (k := 0) (by decide) (by decide) (by decide))) (lw_V q1075 q1077 qs28 q70 q1078) nd_X3_finds ⟨Nat.le_of_ble_eq_true rfl, Nat.le_of_ble_eq_true rfl⟩ (MW.recv hK hW) rfl hl.1 rfl (Nat.le_of_ble_eq_true rfl) dX3_gap_66 ⟨Nat.le_of_ble_eq_true rfl, Nat.le_of_ble_eq_true rfl⟩ hS (fun _ h => h) (fun H locs hW hS hz hk => ?_)
      exact ri_W hx hb hr hlk hS (by simp only [gapM, if_pos c_4, if_neg c_5]) (by simp only [gapM, if_pos c_4, if_neg c_5]; exact hW) dX3_gap_69
    · refine lv_iload_n hx hb dX3_gap_20 rfl (lv_at hl 3 rfl) ?_
      refine lv_iconst (v := (-1)) hx hb dX3_gap_21 (by decide) ?_
      refine lv_icmp_eq (tgt := 33) hx hb dX3_gap_22 (by decide) (fun c_6 => ?_) (fun c_6 => ?_)
      · refine lv_iload_n hx hb dX3_gap_33 rfl (lv_at hl 3 rfl) ?_
        refine lv_iload_n hx hb dX3_gap_34 rfl (lv_at hl 2 rfl) ?_
        refine lv_icmp_eq (tgt := 63) hx hb dX3_gap_35 (by decide) (fun c_7 => ?_) (fun c_7 => ?_)
        · refine lv_aload_n hx hb dX3_gap_63 rfl (lv_at hl 0 rfl) ?_
          refine lv_ldc (v := (-1000000001)) hx hb hown (hts _ q1079) dX3_gap_64 ?_
          refine cv_W1 (rest := []) hc (M_finds l hW (-1000000001) 0 (ix_eq (k := 0) (by decide) (by decide) (by decide))) (lw_V q1075 q1077 qs28 q70 q1078) nd_X3_finds ⟨Nat.le_of_ble_eq_true rfl, Nat.le_of_ble_eq_true rfl⟩ (MW.recv hK hW) rfl hl.1 rfl (Nat.le_of_ble_eq_true rfl) dX3_gap_66 ⟨Nat.le_of_ble_eq_true rfl, Nat.le_of_ble_eq_true rfl⟩ hS (fun _ h => h) (fun H locs hW hS hz hk => ?_)
          exact ri_W hx hb hr hlk hS (by simp only [gapM, if_pos c_4, if_pos c_5, if_pos (Or.inl c_6), if_pos c_7]) (by simp only [gapM, if_pos c_4, if_pos c_5, if_pos (Or.inl c_6), if_pos c_7]; exact hW) dX3_gap_69
        · refine lv_iload hx hb dX3_gap_38 (lv_at hl 4 rfl) ?_
          refine lv_i2l hx hb dX3_gap_40 rfl ?_
          refine lv_lconst (v := (0 : Int32).toInt64) hx hb dX3_gap_41 (by decide) ?_
          refine lv_ldc2 (v := 999999) hx hb hown (hts _ q1096) dX3_gap_42 (sm_topl (v := (999999 : Int32).toInt64) (by decide) ?_)
          refine cs_R1 (rest := []) hc (M_in32 l o 0 999999) (lw_S q1089 q1090 q70 q1091) nd_X3_in ⟨Nat.le_of_ble_eq_true rfl, Nat.le_of_ble_eq_true rfl⟩ rfl hl.1 rfl (Nat.le_of_ble_eq_true rfl) dX3_gap_45 ⟨Nat.le_of_ble_eq_true rfl, Nat.le_of_ble_eq_true rfl⟩ ?_
          refine bi_eq (tgt := 63) hx hb dX3_gap_48 (by decide) (fun c_8 => ?_) (fun c_8 => ?_)
          · refine lv_aload_n hx hb dX3_gap_63 rfl (lv_at hl 0 rfl) ?_
            refine lv_ldc (v := (-1000000001)) hx hb hown (hts _ q1079) dX3_gap_64 ?_
            refine cv_W1 (rest := []) hc (M_finds l hW (-1000000001) 0 (ix_eq (k := 0) (by decide) (by decide) (by decide))) (lw_V q1075 q1077 qs28 q70 q1078) nd_X3_finds ⟨Nat.le_of_ble_eq_true rfl, Nat.le_of_ble_eq_true rfl⟩ (MW.recv hK hW) rfl hl.1 rfl (Nat.le_of_ble_eq_true rfl) dX3_gap_66 ⟨Nat.le_of_ble_eq_true rfl, Nat.le_of_ble_eq_true rfl⟩ hS (fun _ h => h) (fun H locs hW hS hz hk => ?_)
            exact ri_W hx hb hr hlk hS (by simp only [gapM, if_pos c_4, if_pos c_5, if_pos (Or.inl c_6), if_neg c_7, if_neg c_8]) (by simp only [gapM, if_pos c_4, if_pos c_5, if_pos (Or.inl c_6), if_neg c_7, if_neg c_8]; exact hW) dX3_gap_69
          · refine lv_iload hx hb dX3_gap_51 (lv_at hl 4 rfl) ?_
            refine lv_bipush (v := 100) hx hb dX3_gap_53 (by decide) ?_
            refine lv_idiv hx hb dX3_gap_55 (by decide) ?_
            refine lv_bipush (v := 10) hx hb dX3_gap_56 (by decide) ?_
            refine lv_irem hx hb dX3_gap_58 (by decide) (sm_topi (v := remP (o / 100) 10) rfl ?_)
            refine lv_iconst (v := 3) hx hb dX3_gap_59 (by decide) ?_
            refine lv_icmp_le (tgt := 70) hx hb dX3_gap_60 (by decide) (fun c_9 => ?_) (fun c_9 => ?_)
            · refine lv_aload_n hx hb dX3_gap_70 rfl (lv_at hl 0 rfl) ?_
              refine m_get hc hW 0 (by decide) rfl q1000 rfl rfl dX3_gap_71 ?_
              refine lv_iconst (v := 1) hx hb dX3_gap_74 (by decide) ?_
              refine m_ild hc hW 0 rfl (n := 169) rfl (ix_eq (k := 1) rfl (by decide) (by decide)) dX3_gap_75 ?_
              refine lv_bipush (v := 20) hx hb dX3_gap_76 (by decide) ?_
              refine lv_icmp_ne (tgt := 88) hx hb dX3_gap_78 (by decide) (fun c_10 => ?_) (fun c_10 => ?_)
              · refine lv_aload_n hx hb dX3_gap_88 rfl (lv_at hl 0 rfl) ?_
                refine lv_iload_n hx hb dX3_gap_89 rfl (lv_at hl 1 rfl) ?_
                refine lv_iload_n hx hb dX3_gap_90 rfl (lv_at hl 2 rfl) ?_
                refine lv_iload_n hx hb dX3_gap_91 rfl (lv_at hl 3 rfl) ?_
                refine lv_iload hx hb dX3_gap_92 (lv_at hl 4 rfl) ?_
                refine lv_sipush (v := 10000) hx hb dX3_gap_94 (by decide) ?_
                refine lv_idiv hx hb dX3_gap_97 (by decide) ?_
                refine lv_iload hx hb dX3_gap_98 (lv_at hl 4 rfl) ?_
                refine lv_sipush (v := 1000) hx hb dX3_gap_100 (by decide) ?_
                refine lv_idiv hx hb dX3_gap_103 (by decide) ?_
                refine lv_bipush (v := 10) hx hb dX3_gap_104 (by decide) ?_
                refine lv_irem hx hb dX3_gap_106 (by decide) (sm_topi (v := remP (o / 1000) 10) rfl ?_)
                refine lv_iload hx hb dX3_gap_107 (lv_at hl 4 rfl) ?_
                refine lv_bipush (v := 100) hx hb dX3_gap_109 (by decide) ?_
                refine lv_idiv hx hb dX3_gap_111 (by decide) ?_
                refine lv_bipush (v := 10) hx hb dX3_gap_112 (by decide) ?_
                refine lv_irem hx hb dX3_gap_114 (by decide) (sm_topi (v := remP (o / 100) 10) rfl ?_)
                refine lv_iload hx hb dX3_gap_115 (lv_at hl 4 rfl) ?_
                refine lv_bipush (v := 100) hx hb dX3_gap_117 (by decide) ?_
                refine lv_irem hx hb dX3_gap_119 (by decide) (sm_topi (v := remP o 100) rfl ?_)
                refine cv_W1 (rest := []) hc (M_newGap l hW N hO.2.2.2.1 (hO.nFull c_10) k r t (o / 10000) (remP (o / 1000) 10) (remP (o / 100) 10) (remP o 100)) (lw_V q1097 q1099 qs31 q70 q1100) nd_X3_newGap ⟨Nat.le_of_ble_eq_true rfl, Nat.le_of_ble_eq_true rfl⟩ (MW.recv hK hW) rfl hl.1 rfl (Nat.le_of_ble_eq_true rfl) dX3_gap_120 ⟨Nat.le_of_ble_eq_true rfl, Nat.le_of_ble_eq_true rfl⟩ hS (fun _ h => h) (fun H locs hW hS hz hk => ?_)
                exact ri_W hx hb hr hlk hS (by simp only [gapM, if_pos c_4, if_pos c_5, if_pos (Or.inl c_6), if_neg c_7, if_pos c_8, if_pos c_9, if_neg c_10]; exact hO.2.2.2.1.symm) (by simp only [gapM, if_pos c_4, if_pos c_5, if_pos (Or.inl c_6), if_neg c_7, if_pos c_8, if_pos c_9, if_neg c_10, hO.cl1]; exact hW) dX3_gap_123
              · refine lv_aload_n hx hb dX3_gap_81 rfl (lv_at hl 0 rfl) ?_
                refine lv_ldc (v := (-1000000002)) hx hb hown (hts _ q1074) dX3_gap_82 ?_
                refine cv_W1 (rest := []) hc (M_finds l hW (-1000000002) 1 (ix_eq (k := 1) (by decide) (by decide) (by decide))) (lw_V q1075 q1077 qs28 q70 q1078) nd_X3_finds ⟨Nat.le_of_ble_eq_true rfl, Nat.le_of_ble_eq_true rfl⟩ (MW.recv hK hW) rfl hl.1 rfl (Nat.le_of_ble_eq_true rfl) dX3_gap_84 ⟨Nat.le_of_ble_eq_true rfl, Nat.le_of_ble_eq_true rfl⟩ hS (fun _ h => h) (fun H locs hW hS hz hk => ?_)
                exact ri_W hx hb hr hlk hS (by simp only [gapM, if_pos c_4, if_pos c_5, if_pos (Or.inl c_6), if_neg c_7, if_pos c_8, if_pos c_9, if_pos c_10]) (by simp only [gapM, if_pos c_4, if_pos c_5, if_pos (Or.inl c_6), if_neg c_7, if_pos c_8, if_pos c_9, if_pos c_10]; exact hW) dX3_gap_87
            · refine lv_aload_n hx hb dX3_gap_63 rfl (lv_at hl 0 rfl) ?_
              refine lv_ldc (v := (-1000000001)) hx hb hown (hts _ q1079) dX3_gap_64 ?_
              refine cv_W1 (rest := []) hc (M_finds l hW (-1000000001) 0 (ix_eq (k := 0) (by decide) (by decide) (by decide))) (lw_V q1075 q1077 qs28 q70 q1078) nd_X3_finds ⟨Nat.le_of_ble_eq_true rfl, Nat.le_of_ble_eq_true rfl⟩ (MW.recv hK hW) rfl hl.1 rfl (Nat.le_of_ble_eq_true rfl) dX3_gap_66 ⟨Nat.le_of_ble_eq_true rfl, Nat.le_of_ble_eq_true rfl⟩ hS (fun _ h => h) (fun H locs hW hS hz hk => ?_)
              exact ri_W hx hb hr hlk hS (by simp only [gapM, if_pos c_4, if_pos c_5, if_pos (Or.inl c_6), if_neg c_7, if_pos c_8, if_neg c_9]) (by simp only [gapM, if_pos c_4, if_pos c_5, if_pos (Or.inl c_6), if_neg c_7, if_pos c_8, if_neg c_9]; exact hW) dX3_gap_69
      · refine lv_aload_n hx hb dX3_gap_25 rfl (lv_at hl 0 rfl) ?_
        refine lv_iload_n hx hb dX3_gap_26 rfl (lv_at hl 3 rfl) ?_
        refine cv_R1 (rest := []) hc (M_isRoom l hW t) (lw_V q1092 q1094 qs30 q70 q1095) nd_X3_isRoom ⟨Nat.le_of_ble_eq_true rfl, Nat.le_of_ble_eq_true rfl⟩ (MW.recv hK hW) rfl hl.1 rfl (Nat.le_of_ble_eq_true rfl) dX3_gap_27 ⟨Nat.le_of_ble_eq_true rfl, Nat.le_of_ble_eq_true rfl⟩ ?_
        refine bi_eq (tgt := 63) hx hb dX3_gap_30 (by decide) (fun c_11 => ?_) (fun c_11 => ?_)
        · refine lv_aload_n hx hb dX3_gap_63 rfl (lv_at hl 0 rfl) ?_
          refine lv_ldc (v := (-1000000001)) hx hb hown (hts _ q1079) dX3_gap_64 ?_
          refine cv_W1 (rest := []) hc (M_finds l hW (-1000000001) 0 (ix_eq (k := 0) (by decide) (by decide) (by decide))) (lw_V q1075 q1077 qs28 q70 q1078) nd_X3_finds ⟨Nat.le_of_ble_eq_true rfl, Nat.le_of_ble_eq_true rfl⟩ (MW.recv hK hW) rfl hl.1 rfl (Nat.le_of_ble_eq_true rfl) dX3_gap_66 ⟨Nat.le_of_ble_eq_true rfl, Nat.le_of_ble_eq_true rfl⟩ hS (fun _ h => h) (fun H locs hW hS hz hk => ?_)
          exact ri_W hx hb hr hlk hS (by simp only [gapM, if_pos c_4, if_pos c_5, if_neg (not_or.mpr ⟨c_6, c_11⟩)]) (by simp only [gapM, if_pos c_4, if_pos c_5, if_neg (not_or.mpr ⟨c_6, c_11⟩)]; exact hW) dX3_gap_69
        · refine lv_iload_n hx hb dX3_gap_33 rfl (lv_at hl 3 rfl) ?_
          refine lv_iload_n hx hb dX3_gap_34 rfl (lv_at hl 2 rfl) ?_
          refine lv_icmp_eq (tgt := 63) hx hb dX3_gap_35 (by decide) (fun c_12 => ?_) (fun c_12 => ?_)
          · refine lv_aload_n hx hb dX3_gap_63 rfl (lv_at hl 0 rfl) ?_
            refine lv_ldc (v := (-1000000001)) hx hb hown (hts _ q1079) dX3_gap_64 ?_
            refine cv_W1 (rest := []) hc (M_finds l hW (-1000000001) 0 (ix_eq (k := 0) (by decide) (by decide) (by decide))) (lw_V q1075 q1077 qs28 q70 q1078) nd_X3_finds ⟨Nat.le_of_ble_eq_true rfl, Nat.le_of_ble_eq_true rfl⟩ (MW.recv hK hW) rfl hl.1 rfl (Nat.le_of_ble_eq_true rfl) dX3_gap_66 ⟨Nat.le_of_ble_eq_true rfl, Nat.le_of_ble_eq_true rfl⟩ hS (fun _ h => h) (fun H locs hW hS hz hk => ?_)
            exact ri_W hx hb hr hlk hS (by simp only [gapM, if_pos c_4, if_pos c_5, if_pos (Or.inr c_11), if_pos c_12]) (by simp only [gapM, if_pos c_4, if_pos c_5, if_pos (Or.inr c_11), if_pos c_12]; exact hW) dX3_gap_69
          · refine lv_iload hx hb dX3_gap_38 (lv_at hl 4 rfl) ?_
            refine lv_i2l hx hb dX3_gap_40 rfl ?_
            refine lv_lconst (v := (0 : Int32).toInt64) hx hb dX3_gap_41 (by decide) ?_
            refine lv_ldc2 (v := 999999) hx hb hown (hts _ q1096) dX3_gap_42 (sm_topl (v := (999999 : Int32).toInt64) (by decide) ?_)
            refine cs_R1 (rest := []) hc (M_in32 l o 0 999999) (lw_S q1089 q1090 q70 q1091) nd_X3_in ⟨Nat.le_of_ble_eq_true rfl, Nat.le_of_ble_eq_true rfl⟩ rfl hl.1 rfl (Nat.le_of_ble_eq_true rfl) dX3_gap_45 ⟨Nat.le_of_ble_eq_true rfl, Nat.le_of_ble_eq_true rfl⟩ ?_
            refine bi_eq (tgt := 63) hx hb dX3_gap_48 (by decide) (fun c_13 => ?_) (fun c_13 => ?_)
            · refine lv_aload_n hx hb dX3_gap_63 rfl (lv_at hl 0 rfl) ?_
              refine lv_ldc (v := (-1000000001)) hx hb hown (hts _ q1079) dX3_gap_64 ?_
              refine cv_W1 (rest := []) hc (M_finds l hW (-1000000001) 0 (ix_eq (k := 0) (by decide) (by decide) (by decide))) (lw_V q1075 q1077 qs28 q70 q1078) nd_X3_finds ⟨Nat.le_of_ble_eq_true rfl, Nat.le_of_ble_eq_true rfl⟩ (MW.recv hK hW) rfl hl.1 rfl (Nat.le_of_ble_eq_true rfl) dX3_gap_66 ⟨Nat.le_of_ble_eq_true rfl, Nat.le_of_ble_eq_true rfl⟩ hS (fun _ h => h) (fun H locs hW hS hz hk => ?_)
              exact ri_W hx hb hr hlk hS (by simp only [gapM, if_pos c_4, if_pos c_5, if_pos (Or.inr c_11), if_neg c_12, if_neg c_13]) (by simp only [gapM, if_pos c_4, if_pos c_5, if_pos (Or.inr c_11), if_neg c_12, if_neg c_13]; exact hW) dX3_gap_69
            · refine lv_iload hx hb dX3_gap_51 (lv_at hl 4 rfl) ?_
              refine lv_bipush (v := 100) hx hb dX3_gap_53 (by decide) ?_
              refine lv_idiv hx hb dX3_gap_55 (by decide) ?_
              refine lv_bipush (v := 10) hx hb dX3_gap_56 (by decide) ?_
              refine lv_irem hx hb dX3_gap_58 (by decide) (sm_topi (v := remP (o / 100) 10) rfl ?_)
              refine lv_iconst (v := 3) hx hb dX3_gap_59 (by decide) ?_
              refine lv_icmp_le (tgt := 70) hx hb dX3_gap_60 (by decide) (fun c_14 => ?_) (fun c_14 => ?_)
              · refine lv_aload_n hx hb dX3_gap_70 rfl (lv_at hl 0 rfl) ?_
                refine m_get hc hW 0 (by decide) rfl q1000 rfl rfl dX3_gap_71 ?_
                refine lv_iconst (v := 1) hx hb dX3_gap_74 (by decide) ?_
                refine m_ild hc hW 0 rfl (n := 169) rfl (ix_eq (k := 1) rfl (by decide) (by decide)) dX3_gap_75 ?_
                refine lv_bipush (v := 20) hx hb dX3_gap_76 (by decide) ?_
                refine lv_icmp_ne (tgt := 88) hx hb dX3_gap_78 (by decide) (fun c_15 => ?_) (fun c_15 => ?_)
                · refine lv_aload_n hx hb dX3_gap_88 rfl (lv_at hl 0 rfl) ?_
                  refine lv_iload_n hx hb dX3_gap_89 rfl (lv_at hl 1 rfl) ?_
                  refine lv_iload_n hx hb dX3_gap_90 rfl (lv_at hl 2 rfl) ?_
                  refine lv_iload_n hx hb dX3_gap_91 rfl (lv_at hl 3 rfl) ?_
                  refine lv_iload hx hb dX3_gap_92 (lv_at hl 4 rfl) ?_
                  refine lv_sipush (v := 10000) hx hb dX3_gap_94 (by decide) ?_
                  refine lv_idiv hx hb dX3_gap_97 (by decide) ?_
                  refine lv_iload hx hb dX3_gap_98 (lv_at hl 4 rfl) ?_
                  refine lv_sipush (v := 1000) hx hb dX3_gap_100 (by decide) ?_
                  refine lv_idiv hx hb dX3_gap_103 (by decide) ?_
                  refine lv_bipush (v := 10) hx hb dX3_gap_104 (by decide) ?_
                  refine lv_irem hx hb dX3_gap_106 (by decide) (sm_topi (v := remP (o / 1000) 10) rfl ?_)
                  refine lv_iload hx hb dX3_gap_107 (lv_at hl 4 rfl) ?_
                  refine lv_bipush (v := 100) hx hb dX3_gap_109 (by decide) ?_
                  refine lv_idiv hx hb dX3_gap_111 (by decide) ?_
                  refine lv_bipush (v := 10) hx hb dX3_gap_112 (by decide) ?_
                  refine lv_irem hx hb dX3_gap_114 (by decide) (sm_topi (v := remP (o / 100) 10) rfl ?_)
                  refine lv_iload hx hb dX3_gap_115 (lv_at hl 4 rfl) ?_
                  refine lv_bipush (v := 100) hx hb dX3_gap_117 (by decide) ?_
                  refine lv_irem hx hb dX3_gap_119 (by decide) (sm_topi (v := remP o 100) rfl ?_)
                  refine cv_W1 (rest := []) hc (M_newGap l hW N hO.2.2.2.1 (hO.nFull c_15) k r t (o / 10000) (remP (o / 1000) 10) (remP (o / 100) 10) (remP o 100)) (lw_V q1097 q1099 qs31 q70 q1100) nd_X3_newGap ⟨Nat.le_of_ble_eq_true rfl, Nat.le_of_ble_eq_true rfl⟩ (MW.recv hK hW) rfl hl.1 rfl (Nat.le_of_ble_eq_true rfl) dX3_gap_120 ⟨Nat.le_of_ble_eq_true rfl, Nat.le_of_ble_eq_true rfl⟩ hS (fun _ h => h) (fun H locs hW hS hz hk => ?_)
                  exact ri_W hx hb hr hlk hS (by simp only [gapM, if_pos c_4, if_pos c_5, if_pos (Or.inr c_11), if_neg c_12, if_pos c_13, if_pos c_14, if_neg c_15]; exact hO.2.2.2.1.symm) (by simp only [gapM, if_pos c_4, if_pos c_5, if_pos (Or.inr c_11), if_neg c_12, if_pos c_13, if_pos c_14, if_neg c_15, hO.cl1]; exact hW) dX3_gap_123
                · refine lv_aload_n hx hb dX3_gap_81 rfl (lv_at hl 0 rfl) ?_
                  refine lv_ldc (v := (-1000000002)) hx hb hown (hts _ q1074) dX3_gap_82 ?_
                  refine cv_W1 (rest := []) hc (M_finds l hW (-1000000002) 1 (ix_eq (k := 1) (by decide) (by decide) (by decide))) (lw_V q1075 q1077 qs28 q70 q1078) nd_X3_finds ⟨Nat.le_of_ble_eq_true rfl, Nat.le_of_ble_eq_true rfl⟩ (MW.recv hK hW) rfl hl.1 rfl (Nat.le_of_ble_eq_true rfl) dX3_gap_84 ⟨Nat.le_of_ble_eq_true rfl, Nat.le_of_ble_eq_true rfl⟩ hS (fun _ h => h) (fun H locs hW hS hz hk => ?_)
                  exact ri_W hx hb hr hlk hS (by simp only [gapM, if_pos c_4, if_pos c_5, if_pos (Or.inr c_11), if_neg c_12, if_pos c_13, if_pos c_14, if_pos c_15]) (by simp only [gapM, if_pos c_4, if_pos c_5, if_pos (Or.inr c_11), if_neg c_12, if_pos c_13, if_pos c_14, if_pos c_15]; exact hW) dX3_gap_87
              · refine lv_aload_n hx hb dX3_gap_63 rfl (lv_at hl 0 rfl) ?_
                refine lv_ldc (v := (-1000000001)) hx hb hown (hts _ q1079) dX3_gap_64 ?_
                refine cv_W1 (rest := []) hc (M_finds l hW (-1000000001) 0 (ix_eq (k := 0) (by decide) (by decide) (by decide))) (lw_V q1075 q1077 qs28 q70 q1078) nd_X3_finds ⟨Nat.le_of_ble_eq_true rfl, Nat.le_of_ble_eq_true rfl⟩ (MW.recv hK hW) rfl hl.1 rfl (Nat.le_of_ble_eq_true rfl) dX3_gap_66 ⟨Nat.le_of_ble_eq_true rfl, Nat.le_of_ble_eq_true rfl⟩ hS (fun _ h => h) (fun H locs hW hS hz hk => ?_)
                exact ri_W hx hb hr hlk hS (by simp only [gapM, if_pos c_4, if_pos c_5, if_pos (Or.inr c_11), if_neg c_12, if_pos c_13, if_neg c_14]) (by simp only [gapM, if_pos c_4, if_pos c_5, if_pos (Or.inr c_11), if_neg c_12, if_pos c_13, if_neg c_14]; exact hW) dX3_gap_69
theorem nd_X3_breadth : yX3_breadth.cls = "SmokeLeansModel" ∧ yX3_breadth.cls ≠ "java/lang/invoke/MethodHandle" ∧ yX3_breadth.cls ≠ "java/lang/invoke/VarHandle" ∧ (parseMethodDescriptor yX3_breadth.desc).map (fun d => d.parameters.length) = some 1 := by decide +kernel
set_option maxHeartbeats 4000000 in
theorem M_breadth (l : Launch) {G : GD} {A : Nat → Prop} {f : Nat → Nat → Int32} {g : Nat → Nat → Int64} {ad : Nat → Nat} {H0 : Heap} (hW : MW G A f g ad H0) (i : Nat) (hi : i < 20)  : MetR l G yX3_breadth cX3_breadth 3 (some .int) 1 [.ref (ad 23), .int (nI i)] H0 (some (.int (breadthP (f 0) i))) := by
  refine mx_of (by decide) (Nat.le_of_ble_eq_true rfl) ?_
  intro p e s m below meth c hx hb hr hc hlk hnm hs0 ls hl
  subst hs0
  have hown := hc.2.2.2.1
  have hts := hc.2.2.2.2.1
  have hK := hc.2.2.2.2.2
  have hl : lv_has ls 3 [(0, .ref (ad 23)), (1, .int (nI i))] := hl
  refine lv_aload_n hx hb dX3_breadth_0 rfl (lv_at hl 0 rfl) ?_
  refine lv_iload_n hx hb dX3_breadth_1 rfl (lv_at hl 1 rfl) ?_
  refine lv_bipush (v := 7) hx hb dX3_breadth_2 (by decide) ?_
  refine cv_R1 (rest := []) hc (M_has l hW i 7 (by omega)) (lw_V q1110 q1112 qs33 q70 q1113) nd_X3_has ⟨Nat.le_of_ble_eq_true rfl, Nat.le_of_ble_eq_true rfl⟩ (MW.recv hK hW) rfl hl.1 rfl (Nat.le_of_ble_eq_true rfl) dX3_breadth_4 ⟨Nat.le_of_ble_eq_true rfl, Nat.le_of_ble_eq_true rfl⟩ ?_
  refine lv_iconst (v := 1) hx hb dX3_breadth_7 (by decide) ?_
  refine lv_icmp_ne (tgt := 13) hx hb dX3_breadth_8 (by decide) (fun c_16 => ?_) (fun c_16 => ?_)
  · refine lv_aload_n hx hb dX3_breadth_13 rfl (lv_at hl 0 rfl) ?_
    refine lv_iload_n hx hb dX3_breadth_14 rfl (lv_at hl 1 rfl) ?_
    refine lv_iconst (v := 3) hx hb dX3_breadth_15 (by decide) ?_
    refine cv_R1 (rest := []) hc (M_has l hW i 3 (by omega)) (lw_V q1110 q1112 qs33 q70 q1113) nd_X3_has ⟨Nat.le_of_ble_eq_true rfl, Nat.le_of_ble_eq_true rfl⟩ (MW.recv hK hW) rfl hl.1 rfl (Nat.le_of_ble_eq_true rfl) dX3_breadth_16 ⟨Nat.le_of_ble_eq_true rfl, Nat.le_of_ble_eq_true rfl⟩ ?_
    refine lv_istore_n (lv' := [(2, .int (f 0 (gp i 3))), (0, .ref (ad 23)), (1, .int (nI i))]) hx hb dX3_breadth_19 rfl hl (by decide) rfl (fun ls hl => ?_)
    refine lv_aload_n hx hb dX3_breadth_20 rfl (lv_at hl 1 rfl) ?_
    refine lv_iload_n hx hb dX3_breadth_21 rfl (lv_at hl 2 rfl) ?_
    refine lv_iconst (v := 0) hx hb dX3_breadth_22 (by decide) ?_
    refine cv_R1 (rest := []) hc (M_has l hW i 0 (by omega)) (lw_V q1110 q1112 qs33 q70 q1113) nd_X3_has ⟨Nat.le_of_ble_eq_true rfl, Nat.le_of_ble_eq_true rfl⟩ (MW.recv hK hW) rfl hl.1 rfl (Nat.le_of_ble_eq_true rfl) dX3_breadth_23 ⟨Nat.le_of_ble_eq_true rfl, Nat.le_of_ble_eq_true rfl⟩ ?_
    by_cases c_17 : (f 0 (gp i 0)) = 1
    · refine lv_tableIn (off := 30) (tgt := 56) hx hb dX3_breadth_26 (by rw [c_17]; decide) (by rw [c_17]; decide) (by rw [c_17]; rfl) (by decide) ?_
      refine lv_iload_n hx hb dX3_breadth_56 rfl (lv_at hl 0 rfl) ?_
      refine lv_iconst (v := 2) hx hb dX3_breadth_57 (by decide) ?_
      refine lv_idiv hx hb dX3_breadth_58 (by decide) ?_
      exact ri_R hx hb hr hlk (by simp only [breadthP, if_neg c_16, if_pos c_17]) dX3_breadth_59
    · by_cases c_18 : (f 0 (gp i 0)) = 2
      · refine lv_tableIn (off := 84) (tgt := 110) hx hb dX3_breadth_26 (by rw [c_18]; decide) (by rw [c_18]; decide) (by rw [c_18]; rfl) (by decide) ?_
        refine lv_iload_n hx hb dX3_breadth_110 rfl (lv_at hl 0 rfl) ?_
        exact ri_R hx hb hr hlk (by simp only [breadthP, if_neg c_16, if_neg c_17, if_neg (show ¬ f 0 (gp i 0) = 3 by rw [c_18]; decide), if_neg (show ¬ f 0 (gp i 0) = 4 by rw [c_18]; decide)]) dX3_breadth_111
      · by_cases c_19 : (f 0 (gp i 0)) = 3
        · refine lv_tableIn (off := 34) (tgt := 60) hx hb dX3_breadth_26 (by rw [c_19]; decide) (by rw [c_19]; decide) (by rw [c_19]; rfl) (by decide) ?_
          refine lv_aload_n hx hb dX3_breadth_60 rfl (lv_at hl 1 rfl) ?_
          refine m_get hc hW 0 (by decide) rfl q1000 rfl rfl dX3_breadth_61 ?_
          refine lv_bipush (v := 6) hx hb dX3_breadth_64 (by decide) ?_
          refine m_ild hc hW 0 rfl (n := 169) rfl (ix_eq (k := 6) rfl (by decide) (by decide)) dX3_breadth_66 ?_
          exact ri_R hx hb hr hlk (by simp only [breadthP, if_neg c_16, if_neg c_17, if_neg c_18, if_pos c_19]) dX3_breadth_67
        · by_cases c_20 : (f 0 (gp i 0)) = 4
          · refine lv_tableIn (off := 42) (tgt := 68) hx hb dX3_breadth_26 (by rw [c_20]; decide) (by rw [c_20]; decide) (by rw [c_20]; rfl) (by decide) ?_
            refine lv_aload_n hx hb dX3_breadth_68 rfl (lv_at hl 1 rfl) ?_
            refine lv_iload_n hx hb dX3_breadth_69 rfl (lv_at hl 2 rfl) ?_
            refine lv_iconst (v := 2) hx hb dX3_breadth_70 (by decide) ?_
            refine cv_R1 (rest := []) hc (M_has l hW i 2 (by omega)) (lw_V q1110 q1112 qs33 q70 q1113) nd_X3_has ⟨Nat.le_of_ble_eq_true rfl, Nat.le_of_ble_eq_true rfl⟩ (MW.recv hK hW) rfl hl.1 rfl (Nat.le_of_ble_eq_true rfl) dX3_breadth_71 ⟨Nat.le_of_ble_eq_true rfl, Nat.le_of_ble_eq_true rfl⟩ ?_
            refine lv_iconst (v := (-1)) hx hb dX3_breadth_74 (by decide) ?_
            refine lv_icmp_ne (tgt := 108) hx hb dX3_breadth_75 (by decide) (fun c_21 => ?_) (fun c_21 => ?_)
            · refine lv_iload_n hx hb dX3_breadth_108 rfl (lv_at hl 0 rfl) ?_
              exact ri_R hx hb hr hlk (by simp only [breadthP, if_neg c_16, if_neg c_17, if_neg c_18, if_neg c_19, if_pos c_20, if_neg c_21]) dX3_breadth_109
            · refine lv_aload_n hx hb dX3_breadth_78 rfl (lv_at hl 1 rfl) ?_
              refine m_get hc hW 0 (by decide) rfl q1000 rfl rfl dX3_breadth_79 ?_
              refine lv_iconst (v := 3) hx hb dX3_breadth_82 (by decide) ?_
              refine m_ild hc hW 0 rfl (n := 169) rfl (ix_eq (k := 3) rfl (by decide) (by decide)) dX3_breadth_83 ?_
              refine lv_if_le (tgt := 108) hx hb dX3_breadth_84 (by decide) (fun c_22 => ?_) (fun c_22 => ?_)
              · refine lv_iload_n hx hb dX3_breadth_108 rfl (lv_at hl 0 rfl) ?_
                exact ri_R hx hb hr hlk (by simp only [breadthP, if_neg c_16, if_neg c_17, if_neg c_18, if_neg c_19, if_pos c_20, if_pos c_21, if_pos c_22]) dX3_breadth_109
              · refine lv_aload_n hx hb dX3_breadth_87 rfl (lv_at hl 1 rfl) ?_
                refine m_get hc hW 0 (by decide) rfl q1000 rfl rfl dX3_breadth_88 ?_
                refine lv_iconst (v := 4) hx hb dX3_breadth_91 (by decide) ?_
                refine m_ild hc hW 0 rfl (n := 169) rfl (ix_eq (k := 4) rfl (by decide) (by decide)) dX3_breadth_92 ?_
                refine lv_aload_n hx hb dX3_breadth_93 rfl (lv_at hl 1 rfl) ?_
                refine lv_iload_n hx hb dX3_breadth_94 rfl (lv_at hl 2 rfl) ?_
                refine lv_iconst (v := 5) hx hb dX3_breadth_95 (by decide) ?_
                refine cv_R1 (rest := [.int (f 0 4)]) hc (M_has l hW i 5 (by omega)) (lw_V q1110 q1112 qs33 q70 q1113) nd_X3_has ⟨Nat.le_of_ble_eq_true rfl, Nat.le_of_ble_eq_true rfl⟩ (MW.recv hK hW) rfl hl.1 rfl (Nat.le_of_ble_eq_true rfl) dX3_breadth_96 ⟨Nat.le_of_ble_eq_true rfl, Nat.le_of_ble_eq_true rfl⟩ ?_
                refine lv_icmp_ne (tgt := 108) hx hb dX3_breadth_99 (by decide) (fun c_23 => ?_) (fun c_23 => ?_)
                · refine lv_iload_n hx hb dX3_breadth_108 rfl (lv_at hl 0 rfl) ?_
                  exact ri_R hx hb hr hlk (by simp only [breadthP, if_neg c_16, if_neg c_17, if_neg c_18, if_neg c_19, if_pos c_20, if_pos c_21, if_neg c_22, if_neg c_23]) dX3_breadth_109
                · refine lv_iconst (v := 2) hx hb dX3_breadth_102 (by decide) ?_
                  refine lv_iload_n hx hb dX3_breadth_103 rfl (lv_at hl 0 rfl) ?_
                  refine lv_imul hx hb dX3_breadth_104 ?_
                  refine lv_goto (tgt := 109) hx hb dX3_breadth_105 (by decide) ?_
                  exact ri_R hx hb hr hlk (by simp only [breadthP, if_neg c_16, if_neg c_17, if_neg c_18, if_neg c_19, if_pos c_20, if_pos c_21, if_neg c_22, if_pos c_23]) dX3_breadth_109
          · refine lv_tableOut (tgt := 110) hx hb dX3_breadth_26 (by have t_0 : (f 0 (gp i 0)).toInt ≠ 1 := ne_toInt (k := 1) c_17; have t_1 : (f 0 (gp i 0)).toInt ≠ 2 := ne_toInt (k := 2) c_18; have t_2 : (f 0 (gp i 0)).toInt ≠ 3 := ne_toInt (k := 3) c_19; have t_3 : (f 0 (gp i 0)).toInt ≠ 4 := ne_toInt (k := 4) c_20; omega) (by decide) ?_
            refine lv_iload_n hx hb dX3_breadth_110 rfl (lv_at hl 0 rfl) ?_
            exact ri_R hx hb hr hlk (by simp only [breadthP, if_neg c_16, if_neg c_17, if_neg c_18, if_neg c_19, if_neg c_20]) dX3_breadth_111
  · refine lv_iconst (v := 0) hx hb dX3_breadth_11 (by decide) ?_
    exact ri_R hx hb hr hlk (by simp only [breadthP, if_pos c_16]) dX3_breadth_12
theorem nd_X3_push : yX3_push.cls = "SmokeLeansModel" ∧ yX3_push.cls ≠ "java/lang/invoke/MethodHandle" ∧ yX3_push.cls ≠ "java/lang/invoke/VarHandle" ∧ (parseMethodDescriptor yX3_push.desc).map (fun d => d.parameters.length) = some 1 := by decide +kernel
set_option maxHeartbeats 4000000 in
theorem M_push (l : Launch) {G : GD} {A : Nat → Prop} {f : Nat → Nat → Int32} {g : Nat → Nat → Int64} {ad : Nat → Nat} {H0 : Heap} (hW : MW G A f g ad H0) (i : Nat) (hi : i < 20)  : MetR l G yX3_push cX3_push 4 (some .int) 1 [.ref (ad 23), .int (nI i)] H0 (some (.int (pushP (f 0) i))) := by
  refine mx_of (by decide) (Nat.le_of_ble_eq_true rfl) ?_
  intro p e s m below meth c hx hb hr hc hlk hnm hs0 ls hl
  subst hs0
  have hown := hc.2.2.2.1
  have hts := hc.2.2.2.2.1
  have hK := hc.2.2.2.2.2
  have hl : lv_has ls 4 [(0, .ref (ad 23)), (1, .int (nI i))] := hl
  refine lv_aload_n hx hb dX3_push_0 rfl (lv_at hl 0 rfl) ?_
  refine lv_iload_n hx hb dX3_push_1 rfl (lv_at hl 1 rfl) ?_
  refine lv_iconst (v := 2) hx hb dX3_push_2 (by decide) ?_
  refine cv_R1 (rest := []) hc (M_has l hW i 2 (by omega)) (lw_V q1110 q1112 qs33 q70 q1113) nd_X3_has ⟨Nat.le_of_ble_eq_true rfl, Nat.le_of_ble_eq_true rfl⟩ (MW.recv hK hW) rfl hl.1 rfl (Nat.le_of_ble_eq_true rfl) dX3_push_3 ⟨Nat.le_of_ble_eq_true rfl, Nat.le_of_ble_eq_true rfl⟩ ?_
  refine lv_iconst (v := (-1)) hx hb dX3_push_6 (by decide) ?_
  refine lv_icmp_eq (tgt := 12) hx hb dX3_push_7 (by decide) (fun c_24 => ?_) (fun c_24 => ?_)
  · refine lv_aload_n hx hb dX3_push_12 rfl (lv_at hl 0 rfl) ?_
    refine m_get hc hW 0 (by decide) rfl q1000 rfl rfl dX3_push_13 ?_
    refine lv_iconst (v := 2) hx hb dX3_push_16 (by decide) ?_
    refine m_ild hc hW 0 rfl (n := 169) rfl (ix_eq (k := 2) rfl (by decide) (by decide)) dX3_push_17 ?_
    refine lv_iconst (v := 5) hx hb dX3_push_18 (by decide) ?_
    refine lv_aload_n hx hb dX3_push_19 rfl (lv_at hl 0 rfl) ?_
    refine lv_iload_n hx hb dX3_push_20 rfl (lv_at hl 1 rfl) ?_
    refine lv_iconst (v := 4) hx hb dX3_push_21 (by decide) ?_
    refine cv_R1 (rest := [.int 5, .int (f 0 2)]) hc (M_has l hW i 4 (by omega)) (lw_V q1110 q1112 qs33 q70 q1113) nd_X3_has ⟨Nat.le_of_ble_eq_true rfl, Nat.le_of_ble_eq_true rfl⟩ (MW.recv hK hW) rfl hl.1 rfl (Nat.le_of_ble_eq_true rfl) dX3_push_22 ⟨Nat.le_of_ble_eq_true rfl, Nat.le_of_ble_eq_true rfl⟩ ?_
    refine lv_isub hx hb dX3_push_25 ?_
    refine lv_imul hx hb dX3_push_26 ?_
    refine lv_istore_n (lv' := [(2, .int ((f 0 2) * (5 - (f 0 (gp i 4))))), (0, .ref (ad 23)), (1, .int (nI i))]) hx hb dX3_push_27 rfl hl (by decide) rfl (fun ls hl => ?_)
    refine lv_aload_n hx hb dX3_push_28 rfl (lv_at hl 1 rfl) ?_
    refine m_get hc hW 0 (by decide) rfl q1000 rfl rfl dX3_push_29 ?_
    refine lv_iconst (v := 4) hx hb dX3_push_32 (by decide) ?_
    refine m_ild hc hW 0 rfl (n := 169) rfl (ix_eq (k := 4) rfl (by decide) (by decide)) dX3_push_33 ?_
    refine lv_aload_n hx hb dX3_push_34 rfl (lv_at hl 1 rfl) ?_
    refine lv_iload_n hx hb dX3_push_35 rfl (lv_at hl 2 rfl) ?_
    refine lv_iconst (v := 5) hx hb dX3_push_36 (by decide) ?_
    refine cv_R1 (rest := [.int (f 0 4)]) hc (M_has l hW i 5 (by omega)) (lw_V q1110 q1112 qs33 q70 q1113) nd_X3_has ⟨Nat.le_of_ble_eq_true rfl, Nat.le_of_ble_eq_true rfl⟩ (MW.recv hK hW) rfl hl.1 rfl (Nat.le_of_ble_eq_true rfl) dX3_push_37 ⟨Nat.le_of_ble_eq_true rfl, Nat.le_of_ble_eq_true rfl⟩ ?_
    refine lv_isub hx hb dX3_push_40 ?_
    refine lv_iconst (v := 4) hx hb dX3_push_41 (by decide) ?_
    refine lv_iadd hx hb dX3_push_42 ?_
    refine lv_iconst (v := 4) hx hb dX3_push_43 (by decide) ?_
    refine lv_irem hx hb dX3_push_44 (by decide) (sm_topi (v := remP (((f 0 4) - (f 0 (gp i 5))) + 4) 4) rfl ?_)
    refine lv_istore_n (lv' := [(3, .int (remP (((f 0 4) - (f 0 (gp i 5))) + 4) 4)), (2, .int ((f 0 2) * (5 - (f 0 (gp i 4))))), (0, .ref (ad 23)), (1, .int (nI i))]) hx hb dX3_push_45 rfl hl (by decide) rfl (fun ls hl => ?_)
    refine lv_iload_n hx hb dX3_push_46 rfl (lv_at hl 1 rfl) ?_
    refine lv_iload_n hx hb dX3_push_47 rfl (lv_at hl 0 rfl) ?_
    refine lv_if_ne (tgt := 60) hx hb dX3_push_48 (by decide) (fun c_25 => ?_) (fun c_25 => ?_)
    · refine lv_iload_n hx hb dX3_push_60 rfl (lv_at hl 0 rfl) ?_
      refine lv_iconst (v := 2) hx hb dX3_push_61 (by decide) ?_
      refine lv_icmp_ne (tgt := 78) hx hb dX3_push_62 (by decide) (fun c_26 => ?_) (fun c_26 => ?_)
      · refine lv_iconst (v := 0) hx hb dX3_push_78 (by decide) ?_
        refine lv_aload_n hx hb dX3_push_79 rfl (lv_at hl 2 rfl) ?_
        refine m_get hc hW 0 (by decide) rfl q1000 rfl rfl dX3_push_80 ?_
        refine lv_iconst (v := 3) hx hb dX3_push_83 (by decide) ?_
        refine m_ild hc hW 0 rfl (n := 169) rfl (ix_eq (k := 3) rfl (by decide) (by decide)) dX3_push_84 ?_
        refine lv_iconst (v := 4) hx hb dX3_push_85 (by decide) ?_
        refine lv_idiv hx hb dX3_push_86 (by decide) ?_
        refine lv_isub hx hb dX3_push_87 ?_
        refine lv_iadd hx hb dX3_push_88 ?_
        refine lv_istore_n (lv' := [(2, .int (((f 0 2) * (5 - (f 0 (gp i 4)))) + (0 - ((f 0 3) / 4)))), (3, .int (remP (((f 0 4) - (f 0 (gp i 5))) + 4) 4)), (0, .ref (ad 23)), (1, .int (nI i))]) hx hb dX3_push_89 rfl hl (by decide) rfl (fun ls hl => ?_)
        refine lv_aload_n hx hb dX3_push_90 rfl (lv_at hl 2 rfl) ?_
        refine lv_iload_n hx hb dX3_push_91 rfl (lv_at hl 3 rfl) ?_
        refine lv_iconst (v := 0) hx hb dX3_push_92 (by decide) ?_
        refine cv_R1 (rest := []) hc (M_has l hW i 0 (by omega)) (lw_V q1110 q1112 qs33 q70 q1113) nd_X3_has ⟨Nat.le_of_ble_eq_true rfl, Nat.le_of_ble_eq_true rfl⟩ (MW.recv hK hW) rfl hl.1 rfl (Nat.le_of_ble_eq_true rfl) dX3_push_93 ⟨Nat.le_of_ble_eq_true rfl, Nat.le_of_ble_eq_true rfl⟩ ?_
        refine lv_iconst (v := 5) hx hb dX3_push_96 (by decide) ?_
        refine lv_icmp_ne (tgt := 113) hx hb dX3_push_97 (by decide) (fun c_27 => ?_) (fun c_27 => ?_)
        · refine lv_iload_n hx hb dX3_push_113 rfl (lv_at hl 0 rfl) ?_
          exact ri_R hx hb hr hlk (by simp only [pushP, windP, if_pos c_24, if_neg c_25, if_neg c_26, if_neg c_27]) dX3_push_114
        · refine lv_iload_n hx hb dX3_push_100 rfl (lv_at hl 0 rfl) ?_
          refine lv_iconst (v := 3) hx hb dX3_push_101 (by decide) ?_
          refine lv_aload_n hx hb dX3_push_102 rfl (lv_at hl 2 rfl) ?_
          refine m_get hc hW 0 (by decide) rfl q1000 rfl rfl dX3_push_103 ?_
          refine lv_iconst (v := 2) hx hb dX3_push_106 (by decide) ?_
          refine m_ild hc hW 0 rfl (n := 169) rfl (ix_eq (k := 2) rfl (by decide) (by decide)) dX3_push_107 ?_
          refine lv_imul hx hb dX3_push_108 ?_
          refine lv_isub hx hb dX3_push_109 ?_
          refine lv_goto (tgt := 114) hx hb dX3_push_110 (by decide) ?_
          exact ri_R hx hb hr hlk (by simp only [pushP, windP, if_pos c_24, if_neg c_25, if_neg c_26, if_pos c_27]) dX3_push_114
      · refine lv_iconst (v := 0) hx hb dX3_push_65 (by decide) ?_
        refine lv_aload_n hx hb dX3_push_66 rfl (lv_at hl 2 rfl) ?_
        refine m_get hc hW 0 (by decide) rfl q1000 rfl rfl dX3_push_67 ?_
        refine lv_iconst (v := 3) hx hb dX3_push_70 (by decide) ?_
        refine m_ild hc hW 0 rfl (n := 169) rfl (ix_eq (k := 3) rfl (by decide) (by decide)) dX3_push_71 ?_
        refine lv_iconst (v := 2) hx hb dX3_push_72 (by decide) ?_
        refine lv_idiv hx hb dX3_push_73 (by decide) ?_
        refine lv_isub hx hb dX3_push_74 ?_
        refine lv_goto (tgt := 88) hx hb dX3_push_75 (by decide) ?_
        refine lv_iadd hx hb dX3_push_88 ?_
        refine lv_istore_n (lv' := [(2, .int (((f 0 2) * (5 - (f 0 (gp i 4)))) + (0 - ((f 0 3) / 2)))), (3, .int (remP (((f 0 4) - (f 0 (gp i 5))) + 4) 4)), (0, .ref (ad 23)), (1, .int (nI i))]) hx hb dX3_push_89 rfl hl (by decide) rfl (fun ls hl => ?_)
        refine lv_aload_n hx hb dX3_push_90 rfl (lv_at hl 2 rfl) ?_
        refine lv_iload_n hx hb dX3_push_91 rfl (lv_at hl 3 rfl) ?_
        refine lv_iconst (v := 0) hx hb dX3_push_92 (by decide) ?_
        refine cv_R1 (rest := []) hc (M_has l hW i 0 (by omega)) (lw_V q1110 q1112 qs33 q70 q1113) nd_X3_has ⟨Nat.le_of_ble_eq_true rfl, Nat.le_of_ble_eq_true rfl⟩ (MW.recv hK hW) rfl hl.1 rfl (Nat.le_of_ble_eq_true rfl) dX3_push_93 ⟨Nat.le_of_ble_eq_true rfl, Nat.le_of_ble_eq_true rfl⟩ ?_
        refine lv_iconst (v := 5) hx hb dX3_push_96 (by decide) ?_
        refine lv_icmp_ne (tgt := 113) hx hb dX3_push_97 (by decide) (fun c_28 => ?_) (fun c_28 => ?_)
        · refine lv_iload_n hx hb dX3_push_113 rfl (lv_at hl 0 rfl) ?_
          exact ri_R hx hb hr hlk (by simp only [pushP, windP, if_pos c_24, if_neg c_25, if_pos c_26, if_neg c_28]) dX3_push_114
        · refine lv_iload_n hx hb dX3_push_100 rfl (lv_at hl 0 rfl) ?_
          refine lv_iconst (v := 3) hx hb dX3_push_101 (by decide) ?_
          refine lv_aload_n hx hb dX3_push_102 rfl (lv_at hl 2 rfl) ?_
          refine m_get hc hW 0 (by decide) rfl q1000 rfl rfl dX3_push_103 ?_
          refine lv_iconst (v := 2) hx hb dX3_push_106 (by decide) ?_
          refine m_ild hc hW 0 rfl (n := 169) rfl (ix_eq (k := 2) rfl (by decide) (by decide)) dX3_push_107 ?_
          refine lv_imul hx hb dX3_push_108 ?_
          refine lv_isub hx hb dX3_push_109 ?_
          refine lv_goto (tgt := 114) hx hb dX3_push_110 (by decide) ?_
          exact ri_R hx hb hr hlk (by simp only [pushP, windP, if_pos c_24, if_neg c_25, if_pos c_26, if_pos c_28]) dX3_push_114
    · refine lv_aload_n hx hb dX3_push_51 rfl (lv_at hl 2 rfl) ?_
      refine m_get hc hW 0 (by decide) rfl q1000 rfl rfl dX3_push_52 ?_
      refine lv_iconst (v := 3) hx hb dX3_push_55 (by decide) ?_
      refine m_ild hc hW 0 rfl (n := 169) rfl (ix_eq (k := 3) rfl (by decide) (by decide)) dX3_push_56 ?_
      refine lv_goto (tgt := 88) hx hb dX3_push_57 (by decide) ?_
      refine lv_iadd hx hb dX3_push_88 ?_
      refine lv_istore_n (lv' := [(2, .int (((f 0 2) * (5 - (f 0 (gp i 4)))) + (f 0 3))), (3, .int (remP (((f 0 4) - (f 0 (gp i 5))) + 4) 4)), (0, .ref (ad 23)), (1, .int (nI i))]) hx hb dX3_push_89 rfl hl (by decide) rfl (fun ls hl => ?_)
      refine lv_aload_n hx hb dX3_push_90 rfl (lv_at hl 2 rfl) ?_
      refine lv_iload_n hx hb dX3_push_91 rfl (lv_at hl 3 rfl) ?_
      refine lv_iconst (v := 0) hx hb dX3_push_92 (by decide) ?_
      refine cv_R1 (rest := []) hc (M_has l hW i 0 (by omega)) (lw_V q1110 q1112 qs33 q70 q1113) nd_X3_has ⟨Nat.le_of_ble_eq_true rfl, Nat.le_of_ble_eq_true rfl⟩ (MW.recv hK hW) rfl hl.1 rfl (Nat.le_of_ble_eq_true rfl) dX3_push_93 ⟨Nat.le_of_ble_eq_true rfl, Nat.le_of_ble_eq_true rfl⟩ ?_
      refine lv_iconst (v := 5) hx hb dX3_push_96 (by decide) ?_
      refine lv_icmp_ne (tgt := 113) hx hb dX3_push_97 (by decide) (fun c_29 => ?_) (fun c_29 => ?_)
      · refine lv_iload_n hx hb dX3_push_113 rfl (lv_at hl 0 rfl) ?_
        exact ri_R hx hb hr hlk (by simp only [pushP, windP, if_pos c_24, if_pos c_25, if_neg c_29]) dX3_push_114
      · refine lv_iload_n hx hb dX3_push_100 rfl (lv_at hl 0 rfl) ?_
        refine lv_iconst (v := 3) hx hb dX3_push_101 (by decide) ?_
        refine lv_aload_n hx hb dX3_push_102 rfl (lv_at hl 2 rfl) ?_
        refine m_get hc hW 0 (by decide) rfl q1000 rfl rfl dX3_push_103 ?_
        refine lv_iconst (v := 2) hx hb dX3_push_106 (by decide) ?_
        refine m_ild hc hW 0 rfl (n := 169) rfl (ix_eq (k := 2) rfl (by decide) (by decide)) dX3_push_107 ?_
        refine lv_imul hx hb dX3_push_108 ?_
        refine lv_isub hx hb dX3_push_109 ?_
        refine lv_goto (tgt := 114) hx hb dX3_push_110 (by decide) ?_
        exact ri_R hx hb hr hlk (by simp only [pushP, windP, if_pos c_24, if_pos c_25, if_pos c_29]) dX3_push_114
  · refine lv_iconst (v := 0) hx hb dX3_push_10 (by decide) ?_
    exact ri_R hx hb hr hlk (by simp only [pushP, windP, if_neg c_24]) dX3_push_11
theorem nd_X3_isNeeded : yX3_isNeeded.cls = "SmokeLeansModel" ∧ yX3_isNeeded.cls ≠ "java/lang/invoke/MethodHandle" ∧ yX3_isNeeded.cls ≠ "java/lang/invoke/VarHandle" ∧ (parseMethodDescriptor yX3_isNeeded.desc).map (fun d => d.parameters.length) = some 1 := by decide +kernel
set_option maxHeartbeats 4000000 in
theorem M_isNeeded (l : Launch) {G : GD} {A : Nat → Prop} {f : Nat → Nat → Int32} {g : Nat → Nat → Int64} {ad : Nat → Nat} {H0 : Heap} (hW : MW G A f g ad H0) (i : Nat) (hi : i < 20)  : MetR l G yX3_isNeeded cX3_isNeeded 2 (some .boolean) 1 [.ref (ad 23), .int (nI i)] H0 (some (.int (b2i (needP (f 0) i)))) := by
  refine mx_of (by decide) (Nat.le_of_ble_eq_true rfl) ?_
  intro p e s m below meth c hx hb hr hc hlk hnm hs0 ls hl
  subst hs0
  have hown := hc.2.2.2.1
  have hts := hc.2.2.2.2.1
  have hK := hc.2.2.2.2.2
  have hl : lv_has ls 2 [(0, .ref (ad 23)), (1, .int (nI i))] := hl
  refine lv_aload_n hx hb dX3_isNeeded_0 rfl (lv_at hl 0 rfl) ?_
  refine lv_iload_n hx hb dX3_isNeeded_1 rfl (lv_at hl 1 rfl) ?_
  refine lv_iconst (v := 0) hx hb dX3_isNeeded_2 (by decide) ?_
  refine cv_R1 (rest := []) hc (M_has l hW i 0 (by omega)) (lw_V q1110 q1112 qs33 q70 q1113) nd_X3_has ⟨Nat.le_of_ble_eq_true rfl, Nat.le_of_ble_eq_true rfl⟩ (MW.recv hK hW) rfl hl.1 rfl (Nat.le_of_ble_eq_true rfl) dX3_isNeeded_3 ⟨Nat.le_of_ble_eq_true rfl, Nat.le_of_ble_eq_true rfl⟩ ?_
  refine lv_iconst (v := 2) hx hb dX3_isNeeded_6 (by decide) ?_
  refine lv_icmp_eq (tgt := 20) hx hb dX3_isNeeded_7 (by decide) (fun c_30 => ?_) (fun c_30 => ?_)
  · refine lv_iconst (v := 1) hx hb dX3_isNeeded_20 (by decide) ?_
    refine lv_goto (tgt := 25) hx hb dX3_isNeeded_21 (by decide) ?_
    exact rz_R hx hb hr hlk ((b2i_t (Or.inl c_30)).symm) dX3_isNeeded_25
  · refine lv_aload_n hx hb dX3_isNeeded_10 rfl (lv_at hl 0 rfl) ?_
    refine lv_iload_n hx hb dX3_isNeeded_11 rfl (lv_at hl 1 rfl) ?_
    refine lv_iconst (v := 0) hx hb dX3_isNeeded_12 (by decide) ?_
    refine cv_R1 (rest := []) hc (M_has l hW i 0 (by omega)) (lw_V q1110 q1112 qs33 q70 q1113) nd_X3_has ⟨Nat.le_of_ble_eq_true rfl, Nat.le_of_ble_eq_true rfl⟩ (MW.recv hK hW) rfl hl.1 rfl (Nat.le_of_ble_eq_true rfl) dX3_isNeeded_13 ⟨Nat.le_of_ble_eq_true rfl, Nat.le_of_ble_eq_true rfl⟩ ?_
    refine lv_iconst (v := 5) hx hb dX3_isNeeded_16 (by decide) ?_
    refine lv_icmp_ne (tgt := 24) hx hb dX3_isNeeded_17 (by decide) (fun c_31 => ?_) (fun c_31 => ?_)
    · refine lv_iconst (v := 0) hx hb dX3_isNeeded_24 (by decide) ?_
      exact rz_R hx hb hr hlk ((b2i_f (fun h => h.elim c_30 c_31)).symm) dX3_isNeeded_25
    · refine lv_iconst (v := 1) hx hb dX3_isNeeded_20 (by decide) ?_
      refine lv_goto (tgt := 25) hx hb dX3_isNeeded_21 (by decide) ?_
      exact rz_R hx hb hr hlk ((b2i_t (Or.inr c_31)).symm) dX3_isNeeded_25
def ofM (f : Nat → Nat → Int32) (x w : Int32) : Int32 × (Nat → Nat → Int32) :=
  if 0 ≤ x ∧ x ≤ f 0 1 - 1 then
    if 0 ≤ w ∧ w ≤ 9 then
      if 8 ≤ w then (if w = 8 then breadthP (f 0) x.toNatClampNeg else pushP (f 0) x.toNatClampNeg, f)
      else (f 0 (gp x.toNatClampNeg w.toNatClampNeg), f)
    else (-1000000001, cntP f 0)
  else (-1000000001, cntP f 0)
theorem nd_X3_of : yX3_of.cls = "SmokeLeansModel" ∧ yX3_of.cls ≠ "java/lang/invoke/MethodHandle" ∧ yX3_of.cls ≠ "java/lang/invoke/VarHandle" ∧ (parseMethodDescriptor yX3_of.desc).map (fun d => d.parameters.length) = some 2 := by decide +kernel
set_option maxHeartbeats 4000000 in
theorem M_of (l : Launch) {G : GD} {A : Nat → Prop} {f : Nat → Nat → Int32} {g : Nat → Nat → Int64} {ad : Nat → Nat} {H0 : Heap} (hW : MW G A f g ad H0) {R N : Nat} (hO : OkN (f 0) R N) (x w : Int32) : MetW l G yX3_of cX3_of 3 (some .int) 2 0 0 A [.ref (ad 23), .int x, .int w] H0 (some (.int ((ofM f x w).1))) (fun H => MW G A (ofM f x w).2 g ad H) := by
  refine mx_of (by decide) (Nat.le_of_ble_eq_true rfl) ?_
  intro p e s m below meth c hx hb hr hc hlk hnm hs0 ls hl
  subst hs0
  have hown := hc.2.2.2.1
  have hts := hc.2.2.2.2.1
  have hK := hc.2.2.2.2.2
  have hl : lv_has ls 3 [(0, .ref (ad 23)), (1, .int x), (2, .int w)] := hl
  have hS : va_S A s.heap s.heap [] := va_S.rf
  refine lv_aload_n hx hb dX3_of_0 rfl (lv_at hl 0 rfl) ?_
  refine lv_iload_n hx hb dX3_of_1 rfl (lv_at hl 1 rfl) ?_
  refine cv_R1 (rest := []) hc (M_isGap l hW x) (lw_V q1105 q1107 qs32 q70 q1108) nd_X3_isGap ⟨Nat.le_of_ble_eq_true rfl, Nat.le_of_ble_eq_true rfl⟩ (MW.recv hK hW) rfl hl.1 rfl (Nat.le_of_ble_eq_true rfl) dX3_of_2 ⟨Nat.le_of_ble_eq_true rfl, Nat.le_of_ble_eq_true rfl⟩ ?_
  refine bi_eq (tgt := 20) hx hb dX3_of_5 (by decide) (fun c_32 => ?_) (fun c_32 => ?_)
  · refine lv_aload_n hx hb dX3_of_20 rfl (lv_at hl 0 rfl) ?_
    refine lv_ldc (v := (-1000000001)) hx hb hown (hts _ q1079) dX3_of_21 ?_
    refine cv_W1 (rest := []) hc (M_finds l hW (-1000000001) 0 (ix_eq (k := 0) (by decide) (by decide) (by decide))) (lw_V q1075 q1077 qs28 q70 q1078) nd_X3_finds ⟨Nat.le_of_ble_eq_true rfl, Nat.le_of_ble_eq_true rfl⟩ (MW.recv hK hW) rfl hl.1 rfl (Nat.le_of_ble_eq_true rfl) dX3_of_23 ⟨Nat.le_of_ble_eq_true rfl, Nat.le_of_ble_eq_true rfl⟩ hS (fun _ h => h) (fun H locs hW hS hz hk => ?_)
    exact ri_W hx hb hr hlk hS (by simp only [ofM, if_neg c_32]) (by simp only [ofM, if_neg c_32]; exact hW) dX3_of_26
  · obtain ⟨i, hi, rfl⟩ := hO.exGap c_32
    have hlti : i < 20 := by have := hO.2.1; omega
    have hcli : (nI i).toNatClampNeg = i := nI_clamp (by omega)
    refine lv_iload_n hx hb dX3_of_8 rfl (lv_at hl 2 rfl) ?_
    refine lv_i2l hx hb dX3_of_9 rfl ?_
    refine lv_lconst (v := (0 : Int32).toInt64) hx hb dX3_of_10 (by decide) ?_
    refine lv_ldc2 (v := 9) hx hb hown (hts _ q1109) dX3_of_11 (sm_topl (v := (9 : Int32).toInt64) (by decide) ?_)
    refine cs_R1 (rest := []) hc (M_in32 l w 0 9) (lw_S q1089 q1090 q70 q1091) nd_X3_in ⟨Nat.le_of_ble_eq_true rfl, Nat.le_of_ble_eq_true rfl⟩ rfl hl.1 rfl (Nat.le_of_ble_eq_true rfl) dX3_of_14 ⟨Nat.le_of_ble_eq_true rfl, Nat.le_of_ble_eq_true rfl⟩ ?_
    refine bi_ne (tgt := 27) hx hb dX3_of_17 (by decide) (fun c_33 => ?_) (fun c_33 => ?_)
    · refine lv_iload_n hx hb dX3_of_27 rfl (lv_at hl 2 rfl) ?_
      refine lv_bipush (v := 8) hx hb dX3_of_28 (by decide) ?_
      refine lv_icmp_ge (tgt := 42) hx hb dX3_of_30 (by decide) (fun c_34 => ?_) (fun c_34 => ?_)
      · refine lv_iload_n hx hb dX3_of_42 rfl (lv_at hl 2 rfl) ?_
        refine lv_bipush (v := 8) hx hb dX3_of_43 (by decide) ?_
        refine lv_icmp_ne (tgt := 56) hx hb dX3_of_45 (by decide) (fun c_35 => ?_) (fun c_35 => ?_)
        · refine lv_aload_n hx hb dX3_of_56 rfl (lv_at hl 0 rfl) ?_
          refine lv_iload_n hx hb dX3_of_57 rfl (lv_at hl 1 rfl) ?_
          refine cv_R1 (rest := []) hc (M_push l hW i (by omega)) (lw_V q1118 q1120 qs35 q70 q1121) nd_X3_push ⟨Nat.le_of_ble_eq_true rfl, Nat.le_of_ble_eq_true rfl⟩ (MW.recv hK hW) rfl hl.1 rfl (Nat.le_of_ble_eq_true rfl) dX3_of_58 ⟨Nat.le_of_ble_eq_true rfl, Nat.le_of_ble_eq_true rfl⟩ ?_
          exact ri_W hx hb hr hlk hS (by simp only [ofM, if_pos c_32, if_pos c_33, if_pos c_34, if_neg c_35, hcli]) (by simp only [ofM, if_pos c_32, if_pos c_33, if_pos c_34, if_neg c_35]; exact hW) dX3_of_61
        · refine lv_aload_n hx hb dX3_of_48 rfl (lv_at hl 0 rfl) ?_
          refine lv_iload_n hx hb dX3_of_49 rfl (lv_at hl 1 rfl) ?_
          refine cv_R1 (rest := []) hc (M_breadth l hW i (by omega)) (lw_V q1114 q1116 qs34 q70 q1117) nd_X3_breadth ⟨Nat.le_of_ble_eq_true rfl, Nat.le_of_ble_eq_true rfl⟩ (MW.recv hK hW) rfl hl.1 rfl (Nat.le_of_ble_eq_true rfl) dX3_of_50 ⟨Nat.le_of_ble_eq_true rfl, Nat.le_of_ble_eq_true rfl⟩ ?_
          refine lv_goto (tgt := 61) hx hb dX3_of_53 (by decide) ?_
          exact ri_W hx hb hr hlk hS (by simp only [ofM, if_pos c_32, if_pos c_33, if_pos c_34, if_pos c_35, hcli]) (by simp only [ofM, if_pos c_32, if_pos c_33, if_pos c_34, if_pos c_35]; exact hW) dX3_of_61
      · obtain ⟨j, hj, rfl⟩ := ex_lt 8 (hi := 8) rfl (by decide) c_33.1 c_34
        have hclj : (nI j).toNatClampNeg = j := nI_clamp (by omega)
        refine lv_aload_n hx hb dX3_of_33 rfl (lv_at hl 0 rfl) ?_
        refine lv_iload_n hx hb dX3_of_34 rfl (lv_at hl 1 rfl) ?_
        refine lv_iload_n hx hb dX3_of_35 rfl (lv_at hl 2 rfl) ?_
        refine cv_R1 (rest := []) hc (M_has l hW i j (by omega)) (lw_V q1110 q1112 qs33 q70 q1113) nd_X3_has ⟨Nat.le_of_ble_eq_true rfl, Nat.le_of_ble_eq_true rfl⟩ (MW.recv hK hW) rfl hl.1 rfl (Nat.le_of_ble_eq_true rfl) dX3_of_36 ⟨Nat.le_of_ble_eq_true rfl, Nat.le_of_ble_eq_true rfl⟩ ?_
        refine lv_goto (tgt := 61) hx hb dX3_of_39 (by decide) ?_
        exact ri_W hx hb hr hlk hS (by simp only [ofM, if_pos c_32, if_pos c_33, if_neg c_34, hcli, hclj]) (by simp only [ofM, if_pos c_32, if_pos c_33, if_neg c_34]; exact hW) dX3_of_61
    · refine lv_aload_n hx hb dX3_of_20 rfl (lv_at hl 0 rfl) ?_
      refine lv_ldc (v := (-1000000001)) hx hb hown (hts _ q1079) dX3_of_21 ?_
      refine cv_W1 (rest := []) hc (M_finds l hW (-1000000001) 0 (ix_eq (k := 0) (by decide) (by decide) (by decide))) (lw_V q1075 q1077 qs28 q70 q1078) nd_X3_finds ⟨Nat.le_of_ble_eq_true rfl, Nat.le_of_ble_eq_true rfl⟩ (MW.recv hK hW) rfl hl.1 rfl (Nat.le_of_ble_eq_true rfl) dX3_of_23 ⟨Nat.le_of_ble_eq_true rfl, Nat.le_of_ble_eq_true rfl⟩ hS (fun _ h => h) (fun H locs hW hS hz hk => ?_)
      exact ri_W hx hb hr hlk hS (by simp only [ofM, if_pos c_32, if_neg c_33, hcli]) (by simp only [ofM, if_pos c_32, if_neg c_33]; exact hW) dX3_of_26
def widthM (f : Nat → Nat → Int32) (x v : Int32) : Int32 × (Nat → Nat → Int32) :=
  if 0 ≤ x ∧ x ≤ f 0 1 - 1 then
    if 0 ≤ v ∧ v ≤ 99 then (f 0 (gp x.toNatClampNeg 3), up2 f 0 (gp x.toNatClampNeg 3) v)
    else (-1000000001, cntP f 0)
  else (-1000000001, cntP f 0)
theorem nd_X3_width : yX3_width.cls = "SmokeLeansModel" ∧ yX3_width.cls ≠ "java/lang/invoke/MethodHandle" ∧ yX3_width.cls ≠ "java/lang/invoke/VarHandle" ∧ (parseMethodDescriptor yX3_width.desc).map (fun d => d.parameters.length) = some 2 := by decide +kernel
set_option maxHeartbeats 4000000 in
theorem M_width (l : Launch) {G : GD} {A : Nat → Prop} {f : Nat → Nat → Int32} {g : Nat → Nat → Int64} {ad : Nat → Nat} {H0 : Heap} (hW : MW G A f g ad H0) {R N : Nat} (hO : OkN (f 0) R N) (x v : Int32) : MetW l G yX3_width cX3_width 4 (some .int) 2 0 0 A [.ref (ad 23), .int x, .int v] H0 (some (.int ((widthM f x v).1))) (fun H => MW G A (widthM f x v).2 g ad H) := by
  refine mx_of (by decide) (Nat.le_of_ble_eq_true rfl) ?_
  intro p e s m below meth c hx hb hr hc hlk hnm hs0 ls hl
  subst hs0
  have hown := hc.2.2.2.1
  have hts := hc.2.2.2.2.1
  have hK := hc.2.2.2.2.2
  have hl : lv_has ls 4 [(0, .ref (ad 23)), (1, .int x), (2, .int v)] := hl
  have hS : va_S A s.heap s.heap [] := va_S.rf
  refine lv_aload_n hx hb dX3_width_0 rfl (lv_at hl 0 rfl) ?_
  refine lv_iload_n hx hb dX3_width_1 rfl (lv_at hl 1 rfl) ?_
  refine cv_R1 (rest := []) hc (M_isGap l hW x) (lw_V q1105 q1107 qs32 q70 q1108) nd_X3_isGap ⟨Nat.le_of_ble_eq_true rfl, Nat.le_of_ble_eq_true rfl⟩ (MW.recv hK hW) rfl hl.1 rfl (Nat.le_of_ble_eq_true rfl) dX3_width_2 ⟨Nat.le_of_ble_eq_true rfl, Nat.le_of_ble_eq_true rfl⟩ ?_
  refine bi_eq (tgt := 20) hx hb dX3_width_5 (by decide) (fun c_36 => ?_) (fun c_36 => ?_)
  · refine lv_aload_n hx hb dX3_width_20 rfl (lv_at hl 0 rfl) ?_
    refine lv_ldc (v := (-1000000001)) hx hb hown (hts _ q1079) dX3_width_21 ?_
    refine cv_W1 (rest := []) hc (M_finds l hW (-1000000001) 0 (ix_eq (k := 0) (by decide) (by decide) (by decide))) (lw_V q1075 q1077 qs28 q70 q1078) nd_X3_finds ⟨Nat.le_of_ble_eq_true rfl, Nat.le_of_ble_eq_true rfl⟩ (MW.recv hK hW) rfl hl.1 rfl (Nat.le_of_ble_eq_true rfl) dX3_width_23 ⟨Nat.le_of_ble_eq_true rfl, Nat.le_of_ble_eq_true rfl⟩ hS (fun _ h => h) (fun H locs hW hS hz hk => ?_)
    exact ri_W hx hb hr hlk hS (by simp only [widthM, if_neg c_36]) (by simp only [widthM, if_neg c_36]; exact hW) dX3_width_26
  · obtain ⟨i, hi, rfl⟩ := hO.exGap c_36
    have hlti : i < 20 := by have := hO.2.1; omega
    have hcli : (nI i).toNatClampNeg = i := nI_clamp (by omega)
    refine lv_iload_n hx hb dX3_width_8 rfl (lv_at hl 2 rfl) ?_
    refine lv_i2l hx hb dX3_width_9 rfl ?_
    refine lv_lconst (v := (0 : Int32).toInt64) hx hb dX3_width_10 (by decide) ?_
    refine lv_ldc2 (v := 99) hx hb hown (hts _ q1126) dX3_width_11 (sm_topl (v := (99 : Int32).toInt64) (by decide) ?_)
    refine cs_R1 (rest := []) hc (M_in32 l v 0 99) (lw_S q1089 q1090 q70 q1091) nd_X3_in ⟨Nat.le_of_ble_eq_true rfl, Nat.le_of_ble_eq_true rfl⟩ rfl hl.1 rfl (Nat.le_of_ble_eq_true rfl) dX3_width_14 ⟨Nat.le_of_ble_eq_true rfl, Nat.le_of_ble_eq_true rfl⟩ ?_
    refine bi_ne (tgt := 27) hx hb dX3_width_17 (by decide) (fun c_37 => ?_) (fun c_37 => ?_)
    · refine lv_aload_n hx hb dX3_width_27 rfl (lv_at hl 0 rfl) ?_
      refine lv_iload_n hx hb dX3_width_28 rfl (lv_at hl 1 rfl) ?_
      refine lv_iconst (v := 3) hx hb dX3_width_29 (by decide) ?_
      refine cv_R1 (rest := []) hc (M_has l hW i 3 (by omega)) (lw_V q1110 q1112 qs33 q70 q1113) nd_X3_has ⟨Nat.le_of_ble_eq_true rfl, Nat.le_of_ble_eq_true rfl⟩ (MW.recv hK hW) rfl hl.1 rfl (Nat.le_of_ble_eq_true rfl) dX3_width_30 ⟨Nat.le_of_ble_eq_true rfl, Nat.le_of_ble_eq_true rfl⟩ ?_
      refine lv_istore_n (lv' := [(3, .int (f 0 (gp i 3))), (0, .ref (ad 23)), (1, .int (nI i)), (2, .int v)]) hx hb dX3_width_33 rfl hl (by decide) rfl (fun ls hl => ?_)
      refine lv_aload_n hx hb dX3_width_34 rfl (lv_at hl 1 rfl) ?_
      refine m_get hc hW 0 (by decide) rfl q1000 rfl rfl dX3_width_35 ?_
      refine lv_bipush (v := 9) hx hb dX3_width_38 (by decide) ?_
      refine lv_bipush (v := 8) hx hb dX3_width_40 (by decide) ?_
      refine lv_iload_n hx hb dX3_width_42 rfl (lv_at hl 2 rfl) ?_
      refine lv_imul hx hb dX3_width_43 (sm_topi (v := nI (8 * i)) (pk_mul _ _) ?_)
      refine lv_iadd hx hb dX3_width_44 (sm_topi (v := nI (9 + 8 * i)) (nI_add _ _) ?_)
      refine lv_iconst (v := 3) hx hb dX3_width_45 (by decide) ?_
      refine lv_iadd hx hb dX3_width_46 (sm_topi (v := nI (9 + 8 * i + 3)) (nI_add _ _) ?_)
      refine lv_iload_n hx hb dX3_width_47 rfl (lv_at hl 3 rfl) ?_
      refine m_ist hc hW hS 0 rfl (n := 169) rfl (ix_nI (by omega) (by decide)) dX3_width_48 (fun H locs hW hS hz => ?_)
      refine lv_iload_n hx hb dX3_width_49 rfl (lv_at hl 0 rfl) ?_
      exact ri_W hx hb hr hlk hS (by simp only [widthM, if_pos c_36, if_pos c_37, hcli]) (by simp only [widthM, if_pos c_36, if_pos c_37, hcli]; exact hW) dX3_width_50
    · refine lv_aload_n hx hb dX3_width_20 rfl (lv_at hl 0 rfl) ?_
      refine lv_ldc (v := (-1000000001)) hx hb hown (hts _ q1079) dX3_width_21 ?_
      refine cv_W1 (rest := []) hc (M_finds l hW (-1000000001) 0 (ix_eq (k := 0) (by decide) (by decide) (by decide))) (lw_V q1075 q1077 qs28 q70 q1078) nd_X3_finds ⟨Nat.le_of_ble_eq_true rfl, Nat.le_of_ble_eq_true rfl⟩ (MW.recv hK hW) rfl hl.1 rfl (Nat.le_of_ble_eq_true rfl) dX3_width_23 ⟨Nat.le_of_ble_eq_true rfl, Nat.le_of_ble_eq_true rfl⟩ hS (fun _ h => h) (fun H locs hW hS hz hk => ?_)
      exact ri_W hx hb hr hlk hS (by simp only [widthM, if_pos c_36, if_neg c_37, hcli]) (by simp only [widthM, if_pos c_36, if_neg c_37, hcli]; exact hW) dX3_width_26
def shutM (f : Nat → Nat → Int32) (x b : Int32) : Int32 × (Nat → Nat → Int32) :=
  if 0 ≤ x ∧ x ≤ f 0 1 - 1 then
    if b = 0 then (if f 0 (gp x.toNatClampNeg 7) = 0 then 0 else 1, up2 f 0 (gp x.toNatClampNeg 7) 0)
    else (if f 0 (gp x.toNatClampNeg 7) = 1 then 0 else 1, up2 f 0 (gp x.toNatClampNeg 7) 1)
  else (-1000000001, cntP f 0)
theorem nd_X3_shut : yX3_shut.cls = "SmokeLeansModel" ∧ yX3_shut.cls ≠ "java/lang/invoke/MethodHandle" ∧ yX3_shut.cls ≠ "java/lang/invoke/VarHandle" ∧ (parseMethodDescriptor yX3_shut.desc).map (fun d => d.parameters.length) = some 2 := by decide +kernel
set_option maxHeartbeats 4000000 in
theorem M_shut (l : Launch) {G : GD} {A : Nat → Prop} {f : Nat → Nat → Int32} {g : Nat → Nat → Int64} {ad : Nat → Nat} {H0 : Heap} (hW : MW G A f g ad H0) {R N : Nat} (hO : OkN (f 0) R N) (x b : Int32) : MetW l G yX3_shut cX3_shut 4 (some .int) 2 0 0 A [.ref (ad 23), .int x, .int b] H0 (some (.int ((shutM f x b).1))) (fun H => MW G A (shutM f x b).2 g ad H) := by
  refine mx_of (by decide) (Nat.le_of_ble_eq_true rfl) ?_
  intro p e s m below meth c hx hb hr hc hlk hnm hs0 ls hl
  subst hs0
  have hown := hc.2.2.2.1
  have hts := hc.2.2.2.2.1
  have hK := hc.2.2.2.2.2
  have hl : lv_has ls 4 [(0, .ref (ad 23)), (1, .int x), (2, .int b)] := hl
  have hS : va_S A s.heap s.heap [] := va_S.rf
  refine lv_aload_n hx hb dX3_shut_0 rfl (lv_at hl 0 rfl) ?_
  refine lv_iload_n hx hb dX3_shut_1 rfl (lv_at hl 1 rfl) ?_
  refine cv_R1 (rest := []) hc (M_isGap l hW x) (lw_V q1105 q1107 qs32 q70 q1108) nd_X3_isGap ⟨Nat.le_of_ble_eq_true rfl, Nat.le_of_ble_eq_true rfl⟩ (MW.recv hK hW) rfl hl.1 rfl (Nat.le_of_ble_eq_true rfl) dX3_shut_2 ⟨Nat.le_of_ble_eq_true rfl, Nat.le_of_ble_eq_true rfl⟩ ?_
  refine bi_ne (tgt := 15) hx hb dX3_shut_5 (by decide) (fun c_38 => ?_) (fun c_38 => ?_)
  · obtain ⟨i, hi, rfl⟩ := hO.exGap c_38
    have hlti : i < 20 := by have := hO.2.1; omega
    have hcli : (nI i).toNatClampNeg = i := nI_clamp (by omega)
    refine lv_aload_n hx hb dX3_shut_15 rfl (lv_at hl 0 rfl) ?_
    refine lv_iload_n hx hb dX3_shut_16 rfl (lv_at hl 1 rfl) ?_
    refine lv_bipush (v := 7) hx hb dX3_shut_17 (by decide) ?_
    refine cv_R1 (rest := []) hc (M_has l hW i 7 (by omega)) (lw_V q1110 q1112 qs33 q70 q1113) nd_X3_has ⟨Nat.le_of_ble_eq_true rfl, Nat.le_of_ble_eq_true rfl⟩ (MW.recv hK hW) rfl hl.1 rfl (Nat.le_of_ble_eq_true rfl) dX3_shut_19 ⟨Nat.le_of_ble_eq_true rfl, Nat.le_of_ble_eq_true rfl⟩ ?_
    refine lv_istore_n (lv' := [(3, .int (f 0 (gp i 7))), (0, .ref (ad 23)), (1, .int (nI i)), (2, .int b)]) hx hb dX3_shut_22 rfl hl (by decide) rfl (fun ls hl => ?_)
    refine lv_aload_n hx hb dX3_shut_23 rfl (lv_at hl 1 rfl) ?_
    refine m_get hc hW 0 (by decide) rfl q1000 rfl rfl dX3_shut_24 ?_
    refine lv_bipush (v := 9) hx hb dX3_shut_27 (by decide) ?_
    refine lv_bipush (v := 8) hx hb dX3_shut_29 (by decide) ?_
    refine lv_iload_n hx hb dX3_shut_31 rfl (lv_at hl 2 rfl) ?_
    refine lv_imul hx hb dX3_shut_32 (sm_topi (v := nI (8 * i)) (pk_mul _ _) ?_)
    refine lv_iadd hx hb dX3_shut_33 (sm_topi (v := nI (9 + 8 * i)) (nI_add _ _) ?_)
    refine lv_bipush (v := 7) hx hb dX3_shut_34 (by decide) ?_
    refine lv_iadd hx hb dX3_shut_36 (sm_topi (v := nI (9 + 8 * i + 7)) (nI_add _ _) ?_)
    refine lv_iload_n hx hb dX3_shut_37 rfl (lv_at hl 3 rfl) ?_
    refine lv_if_eq (tgt := 45) hx hb dX3_shut_38 (by decide) (fun c_39 => ?_) (fun c_39 => ?_)
    · refine lv_iconst (v := 0) hx hb dX3_shut_45 (by decide) ?_
      refine m_ist hc hW hS 0 rfl (n := 169) rfl (ix_nI (by omega) (by decide)) dX3_shut_46 (fun H locs hW hS hz => ?_)
      refine lv_iload_n hx hb dX3_shut_47 rfl (lv_at hl 0 rfl) ?_
      refine lv_aload_n hx hb dX3_shut_48 rfl (lv_at hl 1 rfl) ?_
      refine lv_iload_n hx hb dX3_shut_49 rfl (lv_at hl 2 rfl) ?_
      refine lv_bipush (v := 7) hx hb dX3_shut_50 (by decide) ?_
      refine cv_R1 (rest := [.int (f 0 (gp i 7))]) hc (M_has l hW i 7 (by omega)) (lw_V q1110 q1112 qs33 q70 q1113) nd_X3_has ⟨Nat.le_of_ble_eq_true rfl, Nat.le_of_ble_eq_true rfl⟩ (MW.recv hK hW) rfl hl.1 rfl (Nat.le_of_ble_eq_true rfl) dX3_shut_52 ⟨Nat.le_of_ble_eq_true rfl, Nat.le_of_ble_eq_true rfl⟩ ?_
      refine sm_topi (v := 0) (up2_at) ?_
      refine lv_icmp_ne (tgt := 62) hx hb dX3_shut_55 (by decide) (fun c_40 => ?_) (fun c_40 => ?_)
      · refine lv_iconst (v := 1) hx hb dX3_shut_62 (by decide) ?_
        exact ri_W hx hb hr hlk hS (by simp only [shutM, if_pos c_38, if_pos c_39, if_neg c_40, hcli]) (by simp only [shutM, if_pos c_38, if_pos c_39, hcli]; exact hW) dX3_shut_63
      · refine lv_iconst (v := 0) hx hb dX3_shut_58 (by decide) ?_
        refine lv_goto (tgt := 63) hx hb dX3_shut_59 (by decide) ?_
        exact ri_W hx hb hr hlk hS (by simp only [shutM, if_pos c_38, if_pos c_39, if_pos c_40, hcli]) (by simp only [shutM, if_pos c_38, if_pos c_39, hcli]; exact hW) dX3_shut_63
    · refine lv_iconst (v := 1) hx hb dX3_shut_41 (by decide) ?_
      refine lv_goto (tgt := 46) hx hb dX3_shut_42 (by decide) ?_
      refine m_ist hc hW hS 0 rfl (n := 169) rfl (ix_nI (by omega) (by decide)) dX3_shut_46 (fun H locs hW hS hz => ?_)
      refine lv_iload_n hx hb dX3_shut_47 rfl (lv_at hl 0 rfl) ?_
      refine lv_aload_n hx hb dX3_shut_48 rfl (lv_at hl 1 rfl) ?_
      refine lv_iload_n hx hb dX3_shut_49 rfl (lv_at hl 2 rfl) ?_
      refine lv_bipush (v := 7) hx hb dX3_shut_50 (by decide) ?_
      refine cv_R1 (rest := [.int (f 0 (gp i 7))]) hc (M_has l hW i 7 (by omega)) (lw_V q1110 q1112 qs33 q70 q1113) nd_X3_has ⟨Nat.le_of_ble_eq_true rfl, Nat.le_of_ble_eq_true rfl⟩ (MW.recv hK hW) rfl hl.1 rfl (Nat.le_of_ble_eq_true rfl) dX3_shut_52 ⟨Nat.le_of_ble_eq_true rfl, Nat.le_of_ble_eq_true rfl⟩ ?_
      refine sm_topi (v := 1) (up2_at) ?_
      refine lv_icmp_ne (tgt := 62) hx hb dX3_shut_55 (by decide) (fun c_41 => ?_) (fun c_41 => ?_)
      · refine lv_iconst (v := 1) hx hb dX3_shut_62 (by decide) ?_
        exact ri_W hx hb hr hlk hS (by simp only [shutM, if_pos c_38, if_neg c_39, if_neg c_41, hcli]) (by simp only [shutM, if_pos c_38, if_neg c_39, hcli]; exact hW) dX3_shut_63
      · refine lv_iconst (v := 0) hx hb dX3_shut_58 (by decide) ?_
        refine lv_goto (tgt := 63) hx hb dX3_shut_59 (by decide) ?_
        exact ri_W hx hb hr hlk hS (by simp only [shutM, if_pos c_38, if_neg c_39, if_pos c_41, hcli]) (by simp only [shutM, if_pos c_38, if_neg c_39, hcli]; exact hW) dX3_shut_63
  · refine lv_aload_n hx hb dX3_shut_8 rfl (lv_at hl 0 rfl) ?_
    refine lv_ldc (v := (-1000000001)) hx hb hown (hts _ q1079) dX3_shut_9 ?_
    refine cv_W1 (rest := []) hc (M_finds l hW (-1000000001) 0 (ix_eq (k := 0) (by decide) (by decide) (by decide))) (lw_V q1075 q1077 qs28 q70 q1078) nd_X3_finds ⟨Nat.le_of_ble_eq_true rfl, Nat.le_of_ble_eq_true rfl⟩ (MW.recv hK hW) rfl hl.1 rfl (Nat.le_of_ble_eq_true rfl) dX3_shut_11 ⟨Nat.le_of_ble_eq_true rfl, Nat.le_of_ble_eq_true rfl⟩ hS (fun _ h => h) (fun H locs hW hS hz hk => ?_)
    exact ri_W hx hb hr hlk hS (by simp only [shutM, if_neg c_38]) (by simp only [shutM, if_neg c_38]; exact hW) dX3_shut_14
def asM (f : Nat → Nat → Int32) (x k : Int32) : Int32 × (Nat → Nat → Int32) :=
  if 0 ≤ x ∧ x ≤ f 0 1 - 1 then
    if 0 ≤ k ∧ k ≤ 5 then
      if k = 0 then (breadthP (f 0) x.toNatClampNeg, f)
      else if f 0 (gp x.toNatClampNeg 0) = k then (breadthP (f 0) x.toNatClampNeg, f)
      else if k = 2 then (if needP (f 0) x.toNatClampNeg then (breadthP (f 0) x.toNatClampNeg, f) else (-1000000003, cntP f 2))
      else (-1000000003, cntP f 2)
    else (-1000000001, cntP f 0)
  else (-1000000001, cntP f 0)
theorem nd_X3_as : yX3_as.cls = "SmokeLeansModel" ∧ yX3_as.cls ≠ "java/lang/invoke/MethodHandle" ∧ yX3_as.cls ≠ "java/lang/invoke/VarHandle" ∧ (parseMethodDescriptor yX3_as.desc).map (fun d => d.parameters.length) = some 2 := by decide +kernel
set_option maxHeartbeats 4000000 in
theorem M_as (l : Launch) {G : GD} {A : Nat → Prop} {f : Nat → Nat → Int32} {g : Nat → Nat → Int64} {ad : Nat → Nat} {H0 : Heap} (hW : MW G A f g ad H0) {R N : Nat} (hO : OkN (f 0) R N) (x k : Int32) : MetW l G yX3_as cX3_as 4 (some .int) 2 0 0 A [.ref (ad 23), .int x, .int k] H0 (some (.int ((asM f x k).1))) (fun H => MW G A (asM f x k).2 g ad H) := by
  refine mx_of (by decide) (Nat.le_of_ble_eq_true rfl) ?_
  intro p e s m below meth c hx hb hr hc hlk hnm hs0 ls hl
  subst hs0
  have hown := hc.2.2.2.1
  have hts := hc.2.2.2.2.1
  have hK := hc.2.2.2.2.2
  have hl : lv_has ls 4 [(0, .ref (ad 23)), (1, .int x), (2, .int k)] := hl
  have hS : va_S A s.heap s.heap [] := va_S.rf
  refine lv_aload_n hx hb dX3_as_0 rfl (lv_at hl 0 rfl) ?_
  refine lv_iload_n hx hb dX3_as_1 rfl (lv_at hl 1 rfl) ?_
  refine cv_R1 (rest := []) hc (M_isGap l hW x) (lw_V q1105 q1107 qs32 q70 q1108) nd_X3_isGap ⟨Nat.le_of_ble_eq_true rfl, Nat.le_of_ble_eq_true rfl⟩ (MW.recv hK hW) rfl hl.1 rfl (Nat.le_of_ble_eq_true rfl) dX3_as_2 ⟨Nat.le_of_ble_eq_true rfl, Nat.le_of_ble_eq_true rfl⟩ ?_
  refine bi_eq (tgt := 20) hx hb dX3_as_5 (by decide) (fun c_42 => ?_) (fun c_42 => ?_)
  · refine lv_aload_n hx hb dX3_as_20 rfl (lv_at hl 0 rfl) ?_
    refine lv_ldc (v := (-1000000001)) hx hb hown (hts _ q1079) dX3_as_21 ?_
    refine cv_W1 (rest := []) hc (M_finds l hW (-1000000001) 0 (ix_eq (k := 0) (by decide) (by decide) (by decide))) (lw_V q1075 q1077 qs28 q70 q1078) nd_X3_finds ⟨Nat.le_of_ble_eq_true rfl, Nat.le_of_ble_eq_true rfl⟩ (MW.recv hK hW) rfl hl.1 rfl (Nat.le_of_ble_eq_true rfl) dX3_as_23 ⟨Nat.le_of_ble_eq_true rfl, Nat.le_of_ble_eq_true rfl⟩ hS (fun _ h => h) (fun H locs hW hS hz hk => ?_)
    exact ri_W hx hb hr hlk hS (by simp only [asM, if_neg c_42]) (by simp only [asM, if_neg c_42]; exact hW) dX3_as_26
  · obtain ⟨i, hi, rfl⟩ := hO.exGap c_42
    have hlti : i < 20 := by have := hO.2.1; omega
    have hcli : (nI i).toNatClampNeg = i := nI_clamp (by omega)
    refine lv_iload_n hx hb dX3_as_8 rfl (lv_at hl 2 rfl) ?_
    refine lv_i2l hx hb dX3_as_9 rfl ?_
    refine lv_lconst (v := (0 : Int32).toInt64) hx hb dX3_as_10 (by decide) ?_
    refine lv_ldc2 (v := 5) hx hb hown (hts _ q1088) dX3_as_11 (sm_topl (v := (5 : Int32).toInt64) (by decide) ?_)
    refine cs_R1 (rest := []) hc (M_in32 l k 0 5) (lw_S q1089 q1090 q70 q1091) nd_X3_in ⟨Nat.le_of_ble_eq_true rfl, Nat.le_of_ble_eq_true rfl⟩ rfl hl.1 rfl (Nat.le_of_ble_eq_true rfl) dX3_as_14 ⟨Nat.le_of_ble_eq_true rfl, Nat.le_of_ble_eq_true rfl⟩ ?_
    refine bi_ne (tgt := 27) hx hb dX3_as_17 (by decide) (fun c_43 => ?_) (fun c_43 => ?_)
    · refine lv_iload_n hx hb dX3_as_27 rfl (lv_at hl 2 rfl) ?_
      refine lv_if_eq (tgt := 54) hx hb dX3_as_28 (by decide) (fun c_44 => ?_) (fun c_44 => ?_)
      · refine lv_iconst (v := 1) hx hb dX3_as_54 (by decide) ?_
        refine lv_goto (tgt := 59) hx hb dX3_as_55 (by decide) ?_
        refine lv_istore_n (lv' := [(3, .int 1), (0, .ref (ad 23)), (1, .int (nI i)), (2, .int k)]) hx hb dX3_as_59 rfl hl (by decide) rfl (fun ls hl => ?_)
        refine lv_iload_n hx hb dX3_as_60 rfl (lv_at hl 0 rfl) ?_
        refine lv_if_eq (tgt := 72) hx hb dX3_as_61 (by decide) (fun h => absurd h (by decide)) (fun _ => ?_)
        refine lv_aload_n hx hb dX3_as_64 rfl (lv_at hl 1 rfl) ?_
        refine lv_iload_n hx hb dX3_as_65 rfl (lv_at hl 2 rfl) ?_
        refine cv_R1 (rest := []) hc (M_breadth l hW i (by omega)) (lw_V q1114 q1116 qs34 q70 q1117) nd_X3_breadth ⟨Nat.le_of_ble_eq_true rfl, Nat.le_of_ble_eq_true rfl⟩ (MW.recv hK hW) rfl hl.1 rfl (Nat.le_of_ble_eq_true rfl) dX3_as_66 ⟨Nat.le_of_ble_eq_true rfl, Nat.le_of_ble_eq_true rfl⟩ ?_
        refine lv_goto (tgt := 78) hx hb dX3_as_69 (by decide) ?_
        exact ri_W hx hb hr hlk hS (by simp only [asM, hcli, if_pos c_42, if_pos c_43, if_pos c_44]) (by simp only [asM, hcli, if_pos c_42, if_pos c_43, if_pos c_44]; exact hW) dX3_as_78
      · refine lv_aload_n hx hb dX3_as_31 rfl (lv_at hl 0 rfl) ?_
        refine lv_iload_n hx hb dX3_as_32 rfl (lv_at hl 1 rfl) ?_
        refine lv_iconst (v := 0) hx hb dX3_as_33 (by decide) ?_
        refine cv_R1 (rest := []) hc (M_has l hW i 0 (by omega)) (lw_V q1110 q1112 qs33 q70 q1113) nd_X3_has ⟨Nat.le_of_ble_eq_true rfl, Nat.le_of_ble_eq_true rfl⟩ (MW.recv hK hW) rfl hl.1 rfl (Nat.le_of_ble_eq_true rfl) dX3_as_34 ⟨Nat.le_of_ble_eq_true rfl, Nat.le_of_ble_eq_true rfl⟩ ?_
        refine lv_iload_n hx hb dX3_as_37 rfl (lv_at hl 2 rfl) ?_
        refine lv_icmp_eq (tgt := 54) hx hb dX3_as_38 (by decide) (fun c_45 => ?_) (fun c_45 => ?_)
        · refine lv_iconst (v := 1) hx hb dX3_as_54 (by decide) ?_
          refine lv_goto (tgt := 59) hx hb dX3_as_55 (by decide) ?_
          refine lv_istore_n (lv' := [(3, .int 1), (0, .ref (ad 23)), (1, .int (nI i)), (2, .int k)]) hx hb dX3_as_59 rfl hl (by decide) rfl (fun ls hl => ?_)
          refine lv_iload_n hx hb dX3_as_60 rfl (lv_at hl 0 rfl) ?_
          refine lv_if_eq (tgt := 72) hx hb dX3_as_61 (by decide) (fun h => absurd h (by decide)) (fun _ => ?_)
          refine lv_aload_n hx hb dX3_as_64 rfl (lv_at hl 1 rfl) ?_
          refine lv_iload_n hx hb dX3_as_65 rfl (lv_at hl 2 rfl) ?_
          refine cv_R1 (rest := []) hc (M_breadth l hW i (by omega)) (lw_V q1114 q1116 qs34 q70 q1117) nd_X3_breadth ⟨Nat.le_of_ble_eq_true rfl, Nat.le_of_ble_eq_true rfl⟩ (MW.recv hK hW) rfl hl.1 rfl (Nat.le_of_ble_eq_true rfl) dX3_as_66 ⟨Nat.le_of_ble_eq_true rfl, Nat.le_of_ble_eq_true rfl⟩ ?_
          refine lv_goto (tgt := 78) hx hb dX3_as_69 (by decide) ?_
          exact ri_W hx hb hr hlk hS (by simp only [asM, hcli, if_pos c_42, if_pos c_43, if_neg c_44, if_pos c_45]) (by simp only [asM, hcli, if_pos c_42, if_pos c_43, if_neg c_44, if_pos c_45]; exact hW) dX3_as_78
        · refine lv_iload_n hx hb dX3_as_41 rfl (lv_at hl 2 rfl) ?_
          refine lv_iconst (v := 2) hx hb dX3_as_42 (by decide) ?_
          refine lv_icmp_ne (tgt := 58) hx hb dX3_as_43 (by decide) (fun c_46 => ?_) (fun c_46 => ?_)
          · refine lv_iconst (v := 0) hx hb dX3_as_58 (by decide) ?_
            refine lv_istore_n (lv' := [(3, .int 0), (0, .ref (ad 23)), (1, .int (nI i)), (2, .int k)]) hx hb dX3_as_59 rfl hl (by decide) rfl (fun ls hl => ?_)
            refine lv_iload_n hx hb dX3_as_60 rfl (lv_at hl 0 rfl) ?_
            refine lv_if_eq (tgt := 72) hx hb dX3_as_61 (by decide) (fun _ => ?_) (fun h => absurd (by decide) h)
            refine lv_aload_n hx hb dX3_as_72 rfl (lv_at hl 1 rfl) ?_
            refine lv_ldc (v := (-1000000003)) hx hb hown (hts _ q1139) dX3_as_73 ?_
            refine cv_W1 (rest := []) hc (M_finds l hW (-1000000003) 2 (ix_eq (k := 2) (by decide) (by decide) (by decide))) (lw_V q1075 q1077 qs28 q70 q1078) nd_X3_finds ⟨Nat.le_of_ble_eq_true rfl, Nat.le_of_ble_eq_true rfl⟩ (MW.recv hK hW) rfl hl.1 rfl (Nat.le_of_ble_eq_true rfl) dX3_as_75 ⟨Nat.le_of_ble_eq_true rfl, Nat.le_of_ble_eq_true rfl⟩ hS (fun _ h => h) (fun H locs hW hS hz hk => ?_)
            exact ri_W hx hb hr hlk hS (by simp only [asM, hcli, if_pos c_42, if_pos c_43, if_neg c_44, if_neg c_45, if_neg c_46]) (by simp only [asM, hcli, if_pos c_42, if_pos c_43, if_neg c_44, if_neg c_45, if_neg c_46]; exact hW) dX3_as_78
          · refine lv_aload_n hx hb dX3_as_46 rfl (lv_at hl 0 rfl) ?_
            refine lv_iload_n hx hb dX3_as_47 rfl (lv_at hl 1 rfl) ?_
            refine cv_R1 (rest := []) hc (M_isNeeded l hW i (by omega)) (lw_V q1135 q1137 qs36 q70 q1138) nd_X3_isNeeded ⟨Nat.le_of_ble_eq_true rfl, Nat.le_of_ble_eq_true rfl⟩ (MW.recv hK hW) rfl hl.1 rfl (Nat.le_of_ble_eq_true rfl) dX3_as_48 ⟨Nat.le_of_ble_eq_true rfl, Nat.le_of_ble_eq_true rfl⟩ ?_
            refine bi_eq (tgt := 58) hx hb dX3_as_51 (by decide) (fun c_47 => ?_) (fun c_47 => ?_)
            · refine lv_iconst (v := 0) hx hb dX3_as_58 (by decide) ?_
              refine lv_istore_n (lv' := [(3, .int 0), (0, .ref (ad 23)), (1, .int (nI i)), (2, .int k)]) hx hb dX3_as_59 rfl hl (by decide) rfl (fun ls hl => ?_)
              refine lv_iload_n hx hb dX3_as_60 rfl (lv_at hl 0 rfl) ?_
              refine lv_if_eq (tgt := 72) hx hb dX3_as_61 (by decide) (fun _ => ?_) (fun h => absurd (by decide) h)
              refine lv_aload_n hx hb dX3_as_72 rfl (lv_at hl 1 rfl) ?_
              refine lv_ldc (v := (-1000000003)) hx hb hown (hts _ q1139) dX3_as_73 ?_
              refine cv_W1 (rest := []) hc (M_finds l hW (-1000000003) 2 (ix_eq (k := 2) (by decide) (by decide) (by decide))) (lw_V q1075 q1077 qs28 q70 q1078) nd_X3_finds ⟨Nat.le_of_ble_eq_true rfl, Nat.le_of_ble_eq_true rfl⟩ (MW.recv hK hW) rfl hl.1 rfl (Nat.le_of_ble_eq_true rfl) dX3_as_75 ⟨Nat.le_of_ble_eq_true rfl, Nat.le_of_ble_eq_true rfl⟩ hS (fun _ h => h) (fun H locs hW hS hz hk => ?_)
              exact ri_W hx hb hr hlk hS (by simp only [asM, hcli, if_pos c_42, if_pos c_43, if_neg c_44, if_neg c_45, if_pos c_46, if_neg c_47]) (by simp only [asM, hcli, if_pos c_42, if_pos c_43, if_neg c_44, if_neg c_45, if_pos c_46, if_neg c_47]; exact hW) dX3_as_78
            · refine lv_iconst (v := 1) hx hb dX3_as_54 (by decide) ?_
              refine lv_goto (tgt := 59) hx hb dX3_as_55 (by decide) ?_
              refine lv_istore_n (lv' := [(3, .int 1), (0, .ref (ad 23)), (1, .int (nI i)), (2, .int k)]) hx hb dX3_as_59 rfl hl (by decide) rfl (fun ls hl => ?_)
              refine lv_iload_n hx hb dX3_as_60 rfl (lv_at hl 0 rfl) ?_
              refine lv_if_eq (tgt := 72) hx hb dX3_as_61 (by decide) (fun h => absurd h (by decide)) (fun _ => ?_)
              refine lv_aload_n hx hb dX3_as_64 rfl (lv_at hl 1 rfl) ?_
              refine lv_iload_n hx hb dX3_as_65 rfl (lv_at hl 2 rfl) ?_
              refine cv_R1 (rest := []) hc (M_breadth l hW i (by omega)) (lw_V q1114 q1116 qs34 q70 q1117) nd_X3_breadth ⟨Nat.le_of_ble_eq_true rfl, Nat.le_of_ble_eq_true rfl⟩ (MW.recv hK hW) rfl hl.1 rfl (Nat.le_of_ble_eq_true rfl) dX3_as_66 ⟨Nat.le_of_ble_eq_true rfl, Nat.le_of_ble_eq_true rfl⟩ ?_
              refine lv_goto (tgt := 78) hx hb dX3_as_69 (by decide) ?_
              exact ri_W hx hb hr hlk hS (by simp only [asM, hcli, if_pos c_42, if_pos c_43, if_neg c_44, if_neg c_45, if_pos c_46, if_pos c_47]) (by simp only [asM, hcli, if_pos c_42, if_pos c_43, if_neg c_44, if_neg c_45, if_pos c_46, if_pos c_47]; exact hW) dX3_as_78
    · refine lv_aload_n hx hb dX3_as_20 rfl (lv_at hl 0 rfl) ?_
      refine lv_ldc (v := (-1000000001)) hx hb hown (hts _ q1079) dX3_as_21 ?_
      refine cv_W1 (rest := []) hc (M_finds l hW (-1000000001) 0 (ix_eq (k := 0) (by decide) (by decide) (by decide))) (lw_V q1075 q1077 qs28 q70 q1078) nd_X3_finds ⟨Nat.le_of_ble_eq_true rfl, Nat.le_of_ble_eq_true rfl⟩ (MW.recv hK hW) rfl hl.1 rfl (Nat.le_of_ble_eq_true rfl) dX3_as_23 ⟨Nat.le_of_ble_eq_true rfl, Nat.le_of_ble_eq_true rfl⟩ hS (fun _ h => h) (fun H locs hW hS hz hk => ?_)
      exact ri_W hx hb hr hlk hS (by simp only [asM, hcli, if_pos c_42, if_neg c_43]) (by simp only [asM, hcli, if_pos c_42, if_neg c_43]; exact hW) dX3_as_26
def leastP (w : Int32) : Int32 := if w = 3 then -99 else 0
def mostP (w : Int32) : Int32 := if w = 0 then 40 else if w = 2 then 3 else if w = 5 then 100 else 99
theorem nd_X3_leastOf : yX3_leastOf.cls ≠ "java/lang/invoke/MethodHandle" ∧ yX3_leastOf.cls ≠ "java/lang/invoke/VarHandle" ∧ (parseMethodDescriptor yX3_leastOf.desc).map (fun d => d.parameters.length) = some 1 := by decide +kernel
set_option maxHeartbeats 4000000 in
theorem M_leastOf (l : Launch) {G : GD} {H0 : Heap} (w : Int32) : MetR l G yX3_leastOf cX3_leastOf 1 (some .int) 0 [.int w] H0 (some (.int (leastP w))) := by
  refine mx_of (by decide) (Nat.le_of_ble_eq_true rfl) ?_
  intro p e s m below meth c hx hb hr hc hlk hnm hs0 ls hl
  subst hs0
  have hown := hc.2.2.2.1
  have hts := hc.2.2.2.2.1
  have hK := hc.2.2.2.2.2
  have hl : lv_has ls 1 [(0, .int w)] := hl
  refine lv_iload_n hx hb dX3_leastOf_0 rfl (lv_at hl 0 rfl) ?_
  refine lv_iconst (v := 3) hx hb dX3_leastOf_1 (by decide) ?_
  refine lv_icmp_ne (tgt := 10) hx hb dX3_leastOf_2 (by decide) (fun c_48 => ?_) (fun c_48 => ?_)
  · refine lv_iconst (v := 0) hx hb dX3_leastOf_10 (by decide) ?_
    exact ri_R hx hb hr hlk (by simp only [leastP, if_neg c_48]) dX3_leastOf_11
  · refine lv_bipush (v := (-99)) hx hb dX3_leastOf_5 (by decide) ?_
    refine lv_goto (tgt := 11) hx hb dX3_leastOf_7 (by decide) ?_
    exact ri_R hx hb hr hlk (by simp only [leastP, if_pos c_48]) dX3_leastOf_11
theorem nd_X3_mostOf : yX3_mostOf.cls ≠ "java/lang/invoke/MethodHandle" ∧ yX3_mostOf.cls ≠ "java/lang/invoke/VarHandle" ∧ (parseMethodDescriptor yX3_mostOf.desc).map (fun d => d.parameters.length) = some 1 := by decide +kernel
set_option maxHeartbeats 4000000 in
theorem M_mostOf (l : Launch) {G : GD} {H0 : Heap} (w : Int32) : MetR l G yX3_mostOf cX3_mostOf 1 (some .int) 0 [.int w] H0 (some (.int (mostP w))) := by
  refine mx_of (by decide) (Nat.le_of_ble_eq_true rfl) ?_
  intro p e s m below meth c hx hb hr hc hlk hnm hs0 ls hl
  subst hs0
  have hown := hc.2.2.2.1
  have hts := hc.2.2.2.2.1
  have hK := hc.2.2.2.2.2
  have hl : lv_has ls 1 [(0, .int w)] := hl
  refine lv_iload_n hx hb dX3_mostOf_0 rfl (lv_at hl 0 rfl) ?_
  refine lv_if_ne (tgt := 9) hx hb dX3_mostOf_1 (by decide) (fun c_49 => ?_) (fun c_49 => ?_)
  · refine lv_iload_n hx hb dX3_mostOf_9 rfl (lv_at hl 0 rfl) ?_
    refine lv_iconst (v := 2) hx hb dX3_mostOf_10 (by decide) ?_
    refine lv_icmp_ne (tgt := 18) hx hb dX3_mostOf_11 (by decide) (fun c_50 => ?_) (fun c_50 => ?_)
    · refine lv_iload_n hx hb dX3_mostOf_18 rfl (lv_at hl 0 rfl) ?_
      refine lv_iconst (v := 5) hx hb dX3_mostOf_19 (by decide) ?_
      refine lv_icmp_ne (tgt := 28) hx hb dX3_mostOf_20 (by decide) (fun c_51 => ?_) (fun c_51 => ?_)
      · refine lv_bipush (v := 99) hx hb dX3_mostOf_28 (by decide) ?_
        exact ri_R hx hb hr hlk (by simp only [mostP, if_neg c_49, if_neg c_50, if_neg c_51]) dX3_mostOf_30
      · refine lv_bipush (v := 100) hx hb dX3_mostOf_23 (by decide) ?_
        refine lv_goto (tgt := 30) hx hb dX3_mostOf_25 (by decide) ?_
        exact ri_R hx hb hr hlk (by simp only [mostP, if_neg c_49, if_neg c_50, if_pos c_51]) dX3_mostOf_30
    · refine lv_iconst (v := 3) hx hb dX3_mostOf_14 (by decide) ?_
      refine lv_goto (tgt := 30) hx hb dX3_mostOf_15 (by decide) ?_
      exact ri_R hx hb hr hlk (by simp only [mostP, if_neg c_49, if_pos c_50]) dX3_mostOf_30
  · refine lv_bipush (v := 40) hx hb dX3_mostOf_4 (by decide) ?_
    refine lv_goto (tgt := 30) hx hb dX3_mostOf_6 (by decide) ?_
    exact ri_R hx hb hr hlk (by simp only [mostP, if_pos c_49]) dX3_mostOf_30
def nightM (f : Nat → Nat → Int32) (w v : Int32) : Int32 × (Nat → Nat → Int32) :=
  if 0 ≤ w ∧ w ≤ 5 then
    if leastP w ≤ v ∧ v ≤ mostP w then (f 0 (2 + w.toNatClampNeg), up2 f 0 (2 + w.toNatClampNeg) v)
    else (-1000000001, cntP f 0)
  else (-1000000001, cntP f 0)
theorem nd_X3_night : yX3_night.cls = "SmokeLeansModel" ∧ yX3_night.cls ≠ "java/lang/invoke/MethodHandle" ∧ yX3_night.cls ≠ "java/lang/invoke/VarHandle" ∧ (parseMethodDescriptor yX3_night.desc).map (fun d => d.parameters.length) = some 2 := by decide +kernel
set_option maxHeartbeats 4000000 in
theorem M_night (l : Launch) {G : GD} {A : Nat → Prop} {f : Nat → Nat → Int32} {g : Nat → Nat → Int64} {ad : Nat → Nat} {H0 : Heap} (hW : MW G A f g ad H0) (w v : Int32) : MetW l G yX3_night cX3_night 4 (some .int) 1 0 0 A [.ref (ad 23), .int w, .int v] H0 (some (.int ((nightM f w v).1))) (fun H => MW G A (nightM f w v).2 g ad H) := by
  refine mx_of (by decide) (Nat.le_of_ble_eq_true rfl) ?_
  intro p e s m below meth c hx hb hr hc hlk hnm hs0 ls hl
  subst hs0
  have hown := hc.2.2.2.1
  have hts := hc.2.2.2.2.1
  have hK := hc.2.2.2.2.2
  have hl : lv_has ls 4 [(0, .ref (ad 23)), (1, .int w), (2, .int v)] := hl
  have hS : va_S A s.heap s.heap [] := va_S.rf
  refine lv_iload_n hx hb dX3_night_0 rfl (lv_at hl 1 rfl) ?_
  refine lv_i2l hx hb dX3_night_1 rfl ?_
  refine lv_lconst (v := (0 : Int32).toInt64) hx hb dX3_night_2 (by decide) ?_
  refine lv_ldc2 (v := 5) hx hb hown (hts _ q1088) dX3_night_3 (sm_topl (v := (5 : Int32).toInt64) (by decide) ?_)
  refine cs_R1 (rest := []) hc (M_in32 l w 0 5) (lw_S q1089 q1090 q70 q1091) nd_X3_in ⟨Nat.le_of_ble_eq_true rfl, Nat.le_of_ble_eq_true rfl⟩ rfl hl.1 rfl (Nat.le_of_ble_eq_true rfl) dX3_night_6 ⟨Nat.le_of_ble_eq_true rfl, Nat.le_of_ble_eq_true rfl⟩ ?_
  refine bi_eq (tgt := 30) hx hb dX3_night_9 (by decide) (fun c_52 => ?_) (fun c_52 => ?_)
  · refine lv_aload_n hx hb dX3_night_30 rfl (lv_at hl 0 rfl) ?_
    refine lv_ldc (v := (-1000000001)) hx hb hown (hts _ q1079) dX3_night_31 ?_
    refine cv_W1 (rest := []) hc (M_finds l hW (-1000000001) 0 (ix_eq (k := 0) (by decide) (by decide) (by decide))) (lw_V q1075 q1077 qs28 q70 q1078) nd_X3_finds ⟨Nat.le_of_ble_eq_true rfl, Nat.le_of_ble_eq_true rfl⟩ (MW.recv hK hW) rfl hl.1 rfl (Nat.le_of_ble_eq_true rfl) dX3_night_33 ⟨Nat.le_of_ble_eq_true rfl, Nat.le_of_ble_eq_true rfl⟩ hS (fun _ h => h) (fun H locs hW hS hz hk => ?_)
    exact ri_W hx hb hr hlk hS (by simp only [nightM, if_neg c_52]) (by simp only [nightM, if_neg c_52]; exact hW) dX3_night_36
  · refine lv_iload_n hx hb dX3_night_12 rfl (lv_at hl 2 rfl) ?_
    refine lv_i2l hx hb dX3_night_13 rfl ?_
    refine lv_iload_n hx hb dX3_night_14 rfl (lv_at hl 1 rfl) ?_
    refine cs_R1 (rest := [.long v.toInt64]) hc (M_leastOf l w) (lw_S q1144 q1145 q70 q1146) nd_X3_leastOf ⟨Nat.le_of_ble_eq_true rfl, Nat.le_of_ble_eq_true rfl⟩ rfl hl.1 rfl (Nat.le_of_ble_eq_true rfl) dX3_night_15 ⟨Nat.le_of_ble_eq_true rfl, Nat.le_of_ble_eq_true rfl⟩ ?_
    refine lv_i2l hx hb dX3_night_18 rfl ?_
    refine lv_iload_n hx hb dX3_night_19 rfl (lv_at hl 1 rfl) ?_
    refine cs_R1 (rest := [.long ((leastP w).toInt64), .long v.toInt64]) hc (M_mostOf l w) (lw_S q1147 q1148 q70 q1149) nd_X3_mostOf ⟨Nat.le_of_ble_eq_true rfl, Nat.le_of_ble_eq_true rfl⟩ rfl hl.1 rfl (Nat.le_of_ble_eq_true rfl) dX3_night_20 ⟨Nat.le_of_ble_eq_true rfl, Nat.le_of_ble_eq_true rfl⟩ ?_
    refine lv_i2l hx hb dX3_night_23 rfl ?_
    refine cs_R1 (rest := []) hc (M_in32 l v (leastP w) (mostP w)) (lw_S q1089 q1090 q70 q1091) nd_X3_in ⟨Nat.le_of_ble_eq_true rfl, Nat.le_of_ble_eq_true rfl⟩ rfl hl.1 rfl (Nat.le_of_ble_eq_true rfl) dX3_night_24 ⟨Nat.le_of_ble_eq_true rfl, Nat.le_of_ble_eq_true rfl⟩ ?_
    refine bi_ne (tgt := 37) hx hb dX3_night_27 (by decide) (fun c_53 => ?_) (fun c_53 => ?_)
    · obtain ⟨j, hj, rfl⟩ := ex_le 5 (hi := 5) rfl (by decide) c_52.1 c_52.2
      have hclj : (nI j).toNatClampNeg = j := nI_clamp (by omega)
      refine lv_aload_n hx hb dX3_night_37 rfl (lv_at hl 0 rfl) ?_
      refine m_get hc hW 0 (by decide) rfl q1000 rfl rfl dX3_night_38 ?_
      refine lv_iconst (v := 2) hx hb dX3_night_41 (by decide) ?_
      refine lv_iload_n hx hb dX3_night_42 rfl (lv_at hl 1 rfl) ?_
      refine lv_iadd hx hb dX3_night_43 (sm_topi (v := nI (2 + j)) (nI_add _ _) ?_)
      refine m_ild hc hW 0 rfl (n := 169) rfl (ix_nI (by omega) (by decide)) dX3_night_44 ?_
      refine lv_istore_n (lv' := [(3, .int (f 0 (2 + j))), (0, .ref (ad 23)), (1, .int (nI j)), (2, .int v)]) hx hb dX3_night_45 rfl hl (by decide) rfl (fun ls hl => ?_)
      refine lv_aload_n hx hb dX3_night_46 rfl (lv_at hl 1 rfl) ?_
      refine m_get hc hW 0 (by decide) rfl q1000 rfl rfl dX3_night_47 ?_
      refine lv_iconst (v := 2) hx hb dX3_night_50 (by decide) ?_
      refine lv_iload_n hx hb dX3_night_51 rfl (lv_at hl 2 rfl) ?_
      refine lv_iadd hx hb dX3_night_52 (sm_topi (v := nI (2 + j)) (nI_add _ _) ?_)
      refine lv_iload_n hx hb dX3_night_53 rfl (lv_at hl 3 rfl) ?_
      refine m_ist hc hW hS 0 rfl (n := 169) rfl (ix_nI (by omega) (by decide)) dX3_night_54 (fun H locs hW hS hz => ?_)
      refine lv_iload_n hx hb dX3_night_55 rfl (lv_at hl 0 rfl) ?_
      exact ri_W hx hb hr hlk hS (by simp only [nightM, if_pos c_52, if_pos c_53, hclj]) (by simp only [nightM, if_pos c_52, if_pos c_53, hclj]; exact hW) dX3_night_56
    · refine lv_aload_n hx hb dX3_night_30 rfl (lv_at hl 0 rfl) ?_
      refine lv_ldc (v := (-1000000001)) hx hb hown (hts _ q1079) dX3_night_31 ?_
      refine cv_W1 (rest := []) hc (M_finds l hW (-1000000001) 0 (ix_eq (k := 0) (by decide) (by decide) (by decide))) (lw_V q1075 q1077 qs28 q70 q1078) nd_X3_finds ⟨Nat.le_of_ble_eq_true rfl, Nat.le_of_ble_eq_true rfl⟩ (MW.recv hK hW) rfl hl.1 rfl (Nat.le_of_ble_eq_true rfl) dX3_night_33 ⟨Nat.le_of_ble_eq_true rfl, Nat.le_of_ble_eq_true rfl⟩ hS (fun _ h => h) (fun H locs hW hS hz hk => ?_)
      exact ri_W hx hb hr hlk hS (by simp only [nightM, if_pos c_52, if_neg c_53]) (by simp only [nightM, if_pos c_52, if_neg c_53]; exact hW) dX3_night_36
