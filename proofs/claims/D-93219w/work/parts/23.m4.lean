/-! the reference's methods, 4: what is asked of the air, the stick -/
set_option maxRecDepth 100000
abbrev BEY (f : Nat → Nat → Int32) : Int32 × (Nat → Nat → Int32) := (-1000000001, cntP f 0)
abbrev NON (f : Nat → Nat → Int32) : Int32 × (Nat → Nat → Int32) := (-1000000004, cntP f 3)

def pressureM (f : Nat → Nat → Int32) (x : Int32) : Int32 × (Nat → Nat → Int32) := if 0 ≤ x ∧ x ≤ f 0 0 - 1 then (prP (f 0) x.toNatClampNeg, f) else BEY f
theorem nd_X3_pressure : yX3_pressure.cls = "SmokeLeansModel" ∧ yX3_pressure.cls ≠ "java/lang/invoke/MethodHandle" ∧ yX3_pressure.cls ≠ "java/lang/invoke/VarHandle" ∧ (parseMethodDescriptor yX3_pressure.desc).map (fun d => d.parameters.length) = some 1 := by decide +kernel
set_option maxHeartbeats 4000000 in
theorem M_pressure (l : Launch) {G : GD} {A : Nat → Prop} {f : Nat → Nat → Int32} {g : Nat → Nat → Int64} {ad : Nat → Nat} {H0 : Heap} (hW : MW G A f g ad H0) {R N : Nat} (hO : OkN (f 0) R N) (x : Int32) : MetW l G yX3_pressure cX3_pressure 2 (some .int) 5 0 0 A [.ref (ad 23), .int x] H0 (some (.int ((pressureM f x).1))) (fun H => MP G A (pressureM f x).2 g ad H) := by
  refine mx_of (by decide) (Nat.le_of_ble_eq_true rfl) ?_
  intro p e s m below meth c hx hb hr hc hlk hnm hs0 ls hl
  subst hs0
  have hown := hc.2.2.2.1
  have hts := hc.2.2.2.2.1
  have hK := hc.2.2.2.2.2
  have hl : lv_has ls 2 [(0, .ref (ad 23)), (1, .int x)] := hl
  have hS : va_S A s.heap s.heap [] := va_S.rf
  refine lv_aload_n hx hb dX3_pressure_0 rfl (lv_at hl 0 rfl) ?_
  refine lv_iload_n hx hb dX3_pressure_1 rfl (lv_at hl 1 rfl) ?_
  refine cv_R1 (rest := []) hc (M_isRoom l hW x) (lw_V q1092 q1094 qs30 q70 q1095) nd_X3_isRoom ⟨Nat.le_of_ble_eq_true rfl, Nat.le_of_ble_eq_true rfl⟩ (MW.recv hK hW) rfl hl.1 rfl (Nat.le_of_ble_eq_true rfl) dX3_pressure_2 ⟨Nat.le_of_ble_eq_true rfl, Nat.le_of_ble_eq_true rfl⟩ ?_
  refine bi_ne (tgt := 15) hx hb dX3_pressure_5 (by decide) (fun c_75 => ?_) (fun c_75 => ?_)
  · obtain ⟨i, hi, rfl⟩ := hO.exRoom c_75
    have hlti : i < 6 := by have := hO.1; omega
    have hcli : (nI i).toNatClampNeg = i := nI_clamp (by omega)
    refine lv_aload_n hx hb dX3_pressure_15 rfl (lv_at hl 0 rfl) ?_
    refine cv_W0 (rest := []) hc (M_rests l hW (R := R) (N := N) hO) (lw_V q1233 q1235 qs51 q70 q1236) nd_X3_rests ⟨Nat.le_of_ble_eq_true rfl, Nat.le_of_ble_eq_true rfl⟩ (MW.recv hK hW) rfl hl.1 rfl (Nat.le_of_ble_eq_true rfl) dX3_pressure_16 ⟨Nat.le_of_ble_eq_true rfl, Nat.le_of_ble_eq_true rfl⟩ hS (fun _ h => h) (fun H locs hq hS hz hk => ?_)
    obtain ⟨b_76, hW⟩ := hq
    have hW : AR G A f g ad b_76 H := hW
    refine lv_aload_n hx hb dX3_pressure_19 rfl (lv_at hl 0 rfl) ?_
    refine m_get hc hW 11 (by decide) rfl q1011 rfl rfl dX3_pressure_20 ?_
    refine lv_iload_n hx hb dX3_pressure_23 rfl (lv_at hl 1 rfl) ?_
    refine m_ild hc hW 11 rfl (n := 6) rfl (ix_nI (by omega) (by decide)) dX3_pressure_24 ?_
    refine sm_topi (v := (prP (f 0)) i) rfl ?_
    exact ri_W hx hb hr hlk hS (by simp only [pressureM, if_pos c_75, hcli]) (by simp only [pressureM, if_pos c_75]; exact AX.mp (AR.ax hW)) dX3_pressure_25
  · refine lv_aload_n hx hb dX3_pressure_8 rfl (lv_at hl 0 rfl) ?_
    refine lv_ldc (v := (-1000000001)) hx hb hown (hts _ q1079) dX3_pressure_9 ?_
    refine cv_W1 (rest := []) hc (M_finds l hW (-1000000001) 0 (ix_eq (k := 0) (by decide) (by decide) (by decide))) (lw_V q1075 q1077 qs28 q70 q1078) nd_X3_finds ⟨Nat.le_of_ble_eq_true rfl, Nat.le_of_ble_eq_true rfl⟩ (MW.recv hK hW) rfl hl.1 rfl (Nat.le_of_ble_eq_true rfl) dX3_pressure_11 ⟨Nat.le_of_ble_eq_true rfl, Nat.le_of_ble_eq_true rfl⟩ hS (fun _ h => h) (fun H locs hW hS hz hk => ?_)
    exact ri_W hx hb hr hlk hS (by simp only [pressureM, if_neg c_75]) (by simp only [pressureM, if_neg c_75]; exact MW.mp hW) dX3_pressure_14
def flowM (f : Nat → Nat → Int32) (x : Int32) : Int32 × (Nat → Nat → Int32) := if 0 ≤ x ∧ x ≤ f 0 1 - 1 then (flowP (f 0) x.toNatClampNeg, f) else BEY f
theorem nd_X3_flow : yX3_flow.cls = "SmokeLeansModel" ∧ yX3_flow.cls ≠ "java/lang/invoke/MethodHandle" ∧ yX3_flow.cls ≠ "java/lang/invoke/VarHandle" ∧ (parseMethodDescriptor yX3_flow.desc).map (fun d => d.parameters.length) = some 1 := by decide +kernel
set_option maxHeartbeats 4000000 in
theorem M_flow (l : Launch) {G : GD} {A : Nat → Prop} {f : Nat → Nat → Int32} {g : Nat → Nat → Int64} {ad : Nat → Nat} {H0 : Heap} (hW : MW G A f g ad H0) {R N : Nat} (hO : OkN (f 0) R N) (x : Int32) : MetW l G yX3_flow cX3_flow 2 (some .int) 5 0 0 A [.ref (ad 23), .int x] H0 (some (.int ((flowM f x).1))) (fun H => MP G A (flowM f x).2 g ad H) := by
  refine mx_of (by decide) (Nat.le_of_ble_eq_true rfl) ?_
  intro p e s m below meth c hx hb hr hc hlk hnm hs0 ls hl
  subst hs0
  have hown := hc.2.2.2.1
  have hts := hc.2.2.2.2.1
  have hK := hc.2.2.2.2.2
  have hl : lv_has ls 2 [(0, .ref (ad 23)), (1, .int x)] := hl
  have hS : va_S A s.heap s.heap [] := va_S.rf
  refine lv_aload_n hx hb dX3_flow_0 rfl (lv_at hl 0 rfl) ?_
  refine lv_iload_n hx hb dX3_flow_1 rfl (lv_at hl 1 rfl) ?_
  refine cv_R1 (rest := []) hc (M_isGap l hW x) (lw_V q1105 q1107 qs32 q70 q1108) nd_X3_isGap ⟨Nat.le_of_ble_eq_true rfl, Nat.le_of_ble_eq_true rfl⟩ (MW.recv hK hW) rfl hl.1 rfl (Nat.le_of_ble_eq_true rfl) dX3_flow_2 ⟨Nat.le_of_ble_eq_true rfl, Nat.le_of_ble_eq_true rfl⟩ ?_
  refine bi_ne (tgt := 15) hx hb dX3_flow_5 (by decide) (fun c_77 => ?_) (fun c_77 => ?_)
  · obtain ⟨i, hi, rfl⟩ := hO.exGap c_77
    have hlti : i < 20 := by have := hO.2.1; omega
    have hcli : (nI i).toNatClampNeg = i := nI_clamp (by omega)
    refine lv_aload_n hx hb dX3_flow_15 rfl (lv_at hl 0 rfl) ?_
    refine cv_W0 (rest := []) hc (M_rests l hW (R := R) (N := N) hO) (lw_V q1233 q1235 qs51 q70 q1236) nd_X3_rests ⟨Nat.le_of_ble_eq_true rfl, Nat.le_of_ble_eq_true rfl⟩ (MW.recv hK hW) rfl hl.1 rfl (Nat.le_of_ble_eq_true rfl) dX3_flow_16 ⟨Nat.le_of_ble_eq_true rfl, Nat.le_of_ble_eq_true rfl⟩ hS (fun _ h => h) (fun H locs hq hS hz hk => ?_)
    obtain ⟨b_78, hW⟩ := hq
    have hW : AR G A f g ad b_78 H := hW
    refine lv_aload_n hx hb dX3_flow_19 rfl (lv_at hl 0 rfl) ?_
    refine lv_iload_n hx hb dX3_flow_20 rfl (lv_at hl 1 rfl) ?_
    refine cv_R1 (rest := []) hc (M_flowOf l hW (R := R) (N := N) hO i (by omega)) (lw_V q1249 q1251 qs54 q70 q1252) nd_X3_flowOf ⟨Nat.le_of_ble_eq_true rfl, Nat.le_of_ble_eq_true rfl⟩ (MW.recv hK hW) rfl hl.1 rfl (Nat.le_of_ble_eq_true rfl) dX3_flow_21 ⟨Nat.le_of_ble_eq_true rfl, Nat.le_of_ble_eq_true rfl⟩ ?_
    refine sm_topi (v := flowQ (f 0) (prP (f 0)) i) rfl ?_
    exact ri_W hx hb hr hlk hS (by simp only [flowM, if_pos c_77, hcli]; rfl) (by simp only [flowM, if_pos c_77]; exact AX.mp (AR.ax hW)) dX3_flow_24
  · refine lv_aload_n hx hb dX3_flow_8 rfl (lv_at hl 0 rfl) ?_
    refine lv_ldc (v := (-1000000001)) hx hb hown (hts _ q1079) dX3_flow_9 ?_
    refine cv_W1 (rest := []) hc (M_finds l hW (-1000000001) 0 (ix_eq (k := 0) (by decide) (by decide) (by decide))) (lw_V q1075 q1077 qs28 q70 q1078) nd_X3_finds ⟨Nat.le_of_ble_eq_true rfl, Nat.le_of_ble_eq_true rfl⟩ (MW.recv hK hW) rfl hl.1 rfl (Nat.le_of_ble_eq_true rfl) dX3_flow_11 ⟨Nat.le_of_ble_eq_true rfl, Nat.le_of_ble_eq_true rfl⟩ hS (fun _ h => h) (fun H locs hW hS hz hk => ?_)
    exact ri_W hx hb hr hlk hS (by simp only [flowM, if_neg c_77]) (by simp only [flowM, if_neg c_77]; exact MW.mp hW) dX3_flow_14
def leanM (f : Nat → Nat → Int32) (x : Int32) : Int32 × (Nat → Nat → Int32) := if 0 ≤ x ∧ x ≤ f 0 1 - 1 then (leanP (f 0) x.toNatClampNeg, f) else BEY f
theorem nd_X3_lean : yX3_lean.cls = "SmokeLeansModel" ∧ yX3_lean.cls ≠ "java/lang/invoke/MethodHandle" ∧ yX3_lean.cls ≠ "java/lang/invoke/VarHandle" ∧ (parseMethodDescriptor yX3_lean.desc).map (fun d => d.parameters.length) = some 1 := by decide +kernel
set_option maxHeartbeats 4000000 in
theorem M_lean (l : Launch) {G : GD} {A : Nat → Prop} {f : Nat → Nat → Int32} {g : Nat → Nat → Int64} {ad : Nat → Nat} {H0 : Heap} (hW : MW G A f g ad H0) {R N : Nat} (hO : OkN (f 0) R N) (x : Int32) : MetW l G yX3_lean cX3_lean 2 (some .int) 5 0 0 A [.ref (ad 23), .int x] H0 (some (.int ((leanM f x).1))) (fun H => MP G A (leanM f x).2 g ad H) := by
  refine mx_of (by decide) (Nat.le_of_ble_eq_true rfl) ?_
  intro p e s m below meth c hx hb hr hc hlk hnm hs0 ls hl
  subst hs0
  have hown := hc.2.2.2.1
  have hts := hc.2.2.2.2.1
  have hK := hc.2.2.2.2.2
  have hl : lv_has ls 2 [(0, .ref (ad 23)), (1, .int x)] := hl
  have hS : va_S A s.heap s.heap [] := va_S.rf
  refine lv_aload_n hx hb dX3_lean_0 rfl (lv_at hl 0 rfl) ?_
  refine lv_iload_n hx hb dX3_lean_1 rfl (lv_at hl 1 rfl) ?_
  refine cv_R1 (rest := []) hc (M_isGap l hW x) (lw_V q1105 q1107 qs32 q70 q1108) nd_X3_isGap ⟨Nat.le_of_ble_eq_true rfl, Nat.le_of_ble_eq_true rfl⟩ (MW.recv hK hW) rfl hl.1 rfl (Nat.le_of_ble_eq_true rfl) dX3_lean_2 ⟨Nat.le_of_ble_eq_true rfl, Nat.le_of_ble_eq_true rfl⟩ ?_
  refine bi_ne (tgt := 15) hx hb dX3_lean_5 (by decide) (fun c_79 => ?_) (fun c_79 => ?_)
  · obtain ⟨i, hi, rfl⟩ := hO.exGap c_79
    have hlti : i < 20 := by have := hO.2.1; omega
    have hcli : (nI i).toNatClampNeg = i := nI_clamp (by omega)
    refine lv_aload_n hx hb dX3_lean_15 rfl (lv_at hl 0 rfl) ?_
    refine cv_W0 (rest := []) hc (M_rests l hW (R := R) (N := N) hO) (lw_V q1233 q1235 qs51 q70 q1236) nd_X3_rests ⟨Nat.le_of_ble_eq_true rfl, Nat.le_of_ble_eq_true rfl⟩ (MW.recv hK hW) rfl hl.1 rfl (Nat.le_of_ble_eq_true rfl) dX3_lean_16 ⟨Nat.le_of_ble_eq_true rfl, Nat.le_of_ble_eq_true rfl⟩ hS (fun _ h => h) (fun H locs hq hS hz hk => ?_)
    obtain ⟨b_80, hW⟩ := hq
    have hW : AR G A f g ad b_80 H := hW
    refine lv_aload_n hx hb dX3_lean_19 rfl (lv_at hl 0 rfl) ?_
    refine lv_iload_n hx hb dX3_lean_20 rfl (lv_at hl 1 rfl) ?_
    refine cv_R1 (rest := []) hc (M_leanOf l hW (R := R) (N := N) hO i (by omega)) (lw_V q1257 q1259 qs55 q70 q1260) nd_X3_leanOf ⟨Nat.le_of_ble_eq_true rfl, Nat.le_of_ble_eq_true rfl⟩ (MW.recv hK hW) rfl hl.1 rfl (Nat.le_of_ble_eq_true rfl) dX3_lean_21 ⟨Nat.le_of_ble_eq_true rfl, Nat.le_of_ble_eq_true rfl⟩ ?_
    refine sm_topi (v := leanV (flowQ (f 0) (prP (f 0)) i)) rfl ?_
    exact ri_W hx hb hr hlk hS (by simp only [leanM, if_pos c_79, hcli]; rfl) (by simp only [leanM, if_pos c_79]; exact AX.mp (AR.ax hW)) dX3_lean_24
  · refine lv_aload_n hx hb dX3_lean_8 rfl (lv_at hl 0 rfl) ?_
    refine lv_ldc (v := (-1000000001)) hx hb hown (hts _ q1079) dX3_lean_9 ?_
    refine cv_W1 (rest := []) hc (M_finds l hW (-1000000001) 0 (ix_eq (k := 0) (by decide) (by decide) (by decide))) (lw_V q1075 q1077 qs28 q70 q1078) nd_X3_finds ⟨Nat.le_of_ble_eq_true rfl, Nat.le_of_ble_eq_true rfl⟩ (MW.recv hK hW) rfl hl.1 rfl (Nat.le_of_ble_eq_true rfl) dX3_lean_11 ⟨Nat.le_of_ble_eq_true rfl, Nat.le_of_ble_eq_true rfl⟩ hS (fun _ h => h) (fun H locs hW hS hz hk => ?_)
    exact ri_W hx hb hr hlk hS (by simp only [leanM, if_neg c_79]) (by simp only [leanM, if_neg c_79]; exact MW.mp hW) dX3_lean_14
theorem nd_X3_rounds : yX3_rounds.cls = "SmokeLeansModel" ∧ yX3_rounds.cls ≠ "java/lang/invoke/MethodHandle" ∧ yX3_rounds.cls ≠ "java/lang/invoke/VarHandle" ∧ (parseMethodDescriptor yX3_rounds.desc).map (fun d => d.parameters.length) = some 0 := by decide +kernel
set_option maxHeartbeats 4000000 in
theorem M_rounds (l : Launch) {G : GD} {A : Nat → Prop} {f : Nat → Nat → Int32} {g : Nat → Nat → Int64} {ad : Nat → Nat} {H0 : Heap} (hW : MW G A f g ad H0) {R N : Nat} (hO : OkN (f 0) R N)  : MetW l G yX3_rounds cX3_rounds 1 (some .int) 5 0 0 A [.ref (ad 23)] H0 (some (.int (nI (rdP (f 0))))) (fun H => MP G A f g ad H) := by
  refine mx_of (by decide) (Nat.le_of_ble_eq_true rfl) ?_
  intro p e s m below meth c hx hb hr hc hlk hnm hs0 ls hl
  subst hs0
  have hown := hc.2.2.2.1
  have hts := hc.2.2.2.2.1
  have hK := hc.2.2.2.2.2
  have hl : lv_has ls 1 [(0, .ref (ad 23))] := hl
  have hS : va_S A s.heap s.heap [] := va_S.rf
  refine lv_aload_n hx hb dX3_rounds_0 rfl (lv_at hl 0 rfl) ?_
  refine cv_W0 (rest := []) hc (M_rests l hW (R := R) (N := N) hO) (lw_V q1233 q1235 qs51 q70 q1236) nd_X3_rests ⟨Nat.le_of_ble_eq_true rfl, Nat.le_of_ble_eq_true rfl⟩ (MW.recv hK hW) rfl hl.1 rfl (Nat.le_of_ble_eq_true rfl) dX3_rounds_1 ⟨Nat.le_of_ble_eq_true rfl, Nat.le_of_ble_eq_true rfl⟩ hS (fun _ h => h) (fun H locs hq hS hz hk => ?_)
  obtain ⟨b_81, hW⟩ := hq
  have hW : AR G A f g ad b_81 H := hW
  refine lv_aload_n hx hb dX3_rounds_4 rfl (lv_at hl 0 rfl) ?_
  refine m_get hc hW 13 (by decide) rfl q1013 rfl rfl dX3_rounds_5 ?_
  refine sm_topi (v := nI (rdP (f 0))) rfl ?_
  exact ri_W hx hb hr hlk hS (rfl) (AX.mp (AR.ax hW)) dX3_rounds_8
def restN (s p : Nat → Int32) (x : Int32) : Nat → Int32
  | 0 => 0
  | n + 1 => restN s p x n + (if s (gp n 1) = x then flowQ s p n else if s (gp n 2) = x then 0 - flowQ s p n else 0)
def restM (f : Nat → Nat → Int32) (x : Int32) : Int32 × (Nat → Nat → Int32) := if 0 ≤ x ∧ x ≤ f 0 0 - 1 then (restN (f 0) (prP (f 0)) x (f 0 1).toNatClampNeg, f) else BEY f
theorem nd_X3_rest : yX3_rest.cls = "SmokeLeansModel" ∧ yX3_rest.cls ≠ "java/lang/invoke/MethodHandle" ∧ yX3_rest.cls ≠ "java/lang/invoke/VarHandle" ∧ (parseMethodDescriptor yX3_rest.desc).map (fun d => d.parameters.length) = some 1 := by decide +kernel
set_option maxHeartbeats 4000000 in
theorem M_rest (l : Launch) {G : GD} {A : Nat → Prop} {f : Nat → Nat → Int32} {g : Nat → Nat → Int64} {ad : Nat → Nat} {H0 : Heap} (hW : MW G A f g ad H0) {R N : Nat} (hO : OkN (f 0) R N) (x : Int32) : MetW l G yX3_rest cX3_rest 4 (some .int) 5 0 0 A [.ref (ad 23), .int x] H0 (some (.int ((restM f x).1))) (fun H => MP G A (restM f x).2 g ad H) := by
  refine mx_of (by decide) (Nat.le_of_ble_eq_true rfl) ?_
  intro p e s m below meth c hx hb hr hc hlk hnm hs0 ls hl
  subst hs0
  have hown := hc.2.2.2.1
  have hts := hc.2.2.2.2.1
  have hK := hc.2.2.2.2.2
  have hl : lv_has ls 4 [(0, .ref (ad 23)), (1, .int x)] := hl
  have hS : va_S A s.heap s.heap [] := va_S.rf
  refine lv_aload_n hx hb dX3_rest_0 rfl (lv_at hl 0 rfl) ?_
  refine lv_iload_n hx hb dX3_rest_1 rfl (lv_at hl 1 rfl) ?_
  refine cv_R1 (rest := []) hc (M_isRoom l hW x) (lw_V q1092 q1094 qs30 q70 q1095) nd_X3_isRoom ⟨Nat.le_of_ble_eq_true rfl, Nat.le_of_ble_eq_true rfl⟩ (MW.recv hK hW) rfl hl.1 rfl (Nat.le_of_ble_eq_true rfl) dX3_rest_2 ⟨Nat.le_of_ble_eq_true rfl, Nat.le_of_ble_eq_true rfl⟩ ?_
  refine bi_ne (tgt := 15) hx hb dX3_rest_5 (by decide) (fun c_82 => ?_) (fun c_82 => ?_)
  · refine lv_aload_n hx hb dX3_rest_15 rfl (lv_at hl 0 rfl) ?_
    refine cv_W0 (rest := []) hc (M_rests l hW (R := R) (N := N) hO) (lw_V q1233 q1235 qs51 q70 q1236) nd_X3_rests ⟨Nat.le_of_ble_eq_true rfl, Nat.le_of_ble_eq_true rfl⟩ (MW.recv hK hW) rfl hl.1 rfl (Nat.le_of_ble_eq_true rfl) dX3_rest_16 ⟨Nat.le_of_ble_eq_true rfl, Nat.le_of_ble_eq_true rfl⟩ hS (fun _ h => h) (fun H locs hq hS hz hk => ?_)
    obtain ⟨b_83, hW⟩ := hq
    have hW : AR G A f g ad b_83 H := hW
    refine lv_iconst (v := 0) hx hb dX3_rest_19 (by decide) ?_
    refine lv_istore_n (lv' := [(2, .int 0), (0, .ref (ad 23)), (1, .int x)]) hx hb dX3_rest_20 rfl hl (by decide) rfl (fun ls hl => ?_)
    refine lv_iconst (v := 0) hx hb dX3_rest_21 (by decide) ?_
    refine lv_istore_n (lv' := [(3, .int 0), (2, .int 0), (0, .ref (ad 23)), (1, .int x)]) hx hb dX3_rest_22 rfl hl (by decide) rfl (fun ls hl => ?_)
    refine w_loop (σ := Nat) (fun i fr => ∃ ls, fr = F0 m 23 ls [] ∧ lv_has ls 4 [(3, .int (nI i)), (2, .int (restN (f 0) (prP (f 0)) x i)), (1, .int x), (0, .ref (ad 23))] ∧ (i ≤ N)) (fun i => N - i) 0 ⟨ls, rfl, lv_sub hl [0, 1, 3, 2] rfl, Nat.zero_le _⟩ ?_
    intro i fr hI ih
    obtain ⟨ls, rfl, hl, hinv⟩ := hI
    by_cases hi : i < N
    · have hi20 : i < 20 := by have := hO.2.1; omega
      refine lv_iload_n hx hb dX3_rest_23 rfl (lv_at hl 0 rfl) ?_
      refine lv_aload_n hx hb dX3_rest_24 rfl (lv_at hl 3 rfl) ?_
      refine m_get hc hW 0 (by decide) rfl q1000 rfl rfl dX3_rest_25 ?_
      refine lv_iconst (v := 1) hx hb dX3_rest_28 (by decide) ?_
      refine m_ild hc hW 0 rfl (n := 169) rfl (ix_eq (k := 1) rfl (by decide) (by decide)) dX3_rest_29 ?_
      refine sm_topi (v := f 0 1) rfl ?_
      refine sm_topi (v := nI N) (hO.2.2.2.1) ?_
      refine lv_icmp_ge (tgt := 81) hx hb dX3_rest_30 (by decide) (fun h => absurd h (nI_ge hi (by have := hO.2.1; omega))) (fun _ => ?_)
      refine lv_iload_n hx hb dX3_rest_33 rfl (lv_at hl 1 rfl) ?_
      refine lv_aload_n hx hb dX3_rest_34 rfl (lv_at hl 3 rfl) ?_
      refine lv_iload_n hx hb dX3_rest_35 rfl (lv_at hl 0 rfl) ?_
      refine lv_iconst (v := 1) hx hb dX3_rest_36 (by decide) ?_
      refine cv_R1 (rest := [.int (restN (f 0) (prP (f 0)) x i)]) hc (M_has l hW i 1 (by omega)) (lw_V q1110 q1112 qs33 q70 q1113) nd_X3_has ⟨Nat.le_of_ble_eq_true rfl, Nat.le_of_ble_eq_true rfl⟩ (MW.recv hK hW) rfl hl.1 rfl (Nat.le_of_ble_eq_true rfl) dX3_rest_37 ⟨Nat.le_of_ble_eq_true rfl, Nat.le_of_ble_eq_true rfl⟩ ?_
      refine sm_topi (v := f 0 (gp i 1)) rfl ?_
      refine lv_iload_n hx hb dX3_rest_40 rfl (lv_at hl 2 rfl) ?_
      refine lv_icmp_ne (tgt := 52) hx hb dX3_rest_41 (by decide) (fun c_84 => ?_) (fun c_84 => ?_)
      · refine lv_aload_n hx hb dX3_rest_52 rfl (lv_at hl 3 rfl) ?_
        refine lv_iload_n hx hb dX3_rest_53 rfl (lv_at hl 0 rfl) ?_
        refine lv_iconst (v := 2) hx hb dX3_rest_54 (by decide) ?_
        refine cv_R1 (rest := [.int (restN (f 0) (prP (f 0)) x i)]) hc (M_has l hW i 2 (by omega)) (lw_V q1110 q1112 qs33 q70 q1113) nd_X3_has ⟨Nat.le_of_ble_eq_true rfl, Nat.le_of_ble_eq_true rfl⟩ (MW.recv hK hW) rfl hl.1 rfl (Nat.le_of_ble_eq_true rfl) dX3_rest_55 ⟨Nat.le_of_ble_eq_true rfl, Nat.le_of_ble_eq_true rfl⟩ ?_
        refine sm_topi (v := f 0 (gp i 2)) rfl ?_
        refine lv_iload_n hx hb dX3_rest_58 rfl (lv_at hl 2 rfl) ?_
        refine lv_icmp_ne (tgt := 72) hx hb dX3_rest_59 (by decide) (fun c_85 => ?_) (fun c_85 => ?_)
        · refine lv_iconst (v := 0) hx hb dX3_rest_72 (by decide) ?_
          refine lv_iadd hx hb dX3_rest_73 ?_
          refine lv_istore_n (lv' := [(2, .int ((restN (f 0) (prP (f 0)) x i) + 0)), (3, .int (nI i)), (1, .int x), (0, .ref (ad 23))]) hx hb dX3_rest_74 rfl hl (by decide) rfl (fun ls hl => ?_)
          refine lv_iinc (v := nI (i + 1)) (lv' := [(3, .int (nI (i + 1))), (2, .int ((restN (f 0) (prP (f 0)) x i) + 0)), (1, .int x), (0, .ref (ad 23))]) hx hb dX3_rest_75 hl (k := 1) rfl (nI_1 _) (by decide) rfl (fun ls hl => ?_)
          refine lv_goto (tgt := 23) hx hb dX3_rest_78 (by decide) ?_
          refine ih (i + 1) _ ⟨ls, rfl, ?_, hi⟩ (by omega)
          rw [show restN (f 0) (prP (f 0)) x (i + 1) = (restN (f 0) (prP (f 0)) x i) + 0 from by simp only [restN, if_neg c_84, if_neg c_85]]
          exact lv_sub hl [0, 1, 2, 3] rfl
        · refine lv_iconst (v := 0) hx hb dX3_rest_62 (by decide) ?_
          refine lv_aload_n hx hb dX3_rest_63 rfl (lv_at hl 3 rfl) ?_
          refine lv_iload_n hx hb dX3_rest_64 rfl (lv_at hl 0 rfl) ?_
          refine cv_R1 (rest := [.int 0, .int (restN (f 0) (prP (f 0)) x i)]) hc (M_flowOf l hW (R := R) (N := N) hO i (by omega)) (lw_V q1249 q1251 qs54 q70 q1252) nd_X3_flowOf ⟨Nat.le_of_ble_eq_true rfl, Nat.le_of_ble_eq_true rfl⟩ (MW.recv hK hW) rfl hl.1 rfl (Nat.le_of_ble_eq_true rfl) dX3_rest_65 ⟨Nat.le_of_ble_eq_true rfl, Nat.le_of_ble_eq_true rfl⟩ ?_
          refine sm_topi (v := flowQ (f 0) (prP (f 0)) i) rfl ?_
          refine lv_isub hx hb dX3_rest_68 ?_
          refine lv_goto (tgt := 73) hx hb dX3_rest_69 (by decide) ?_
          refine lv_iadd hx hb dX3_rest_73 ?_
          refine lv_istore_n (lv' := [(2, .int ((restN (f 0) (prP (f 0)) x i) + (0 - (flowQ (f 0) (prP (f 0)) i)))), (3, .int (nI i)), (1, .int x), (0, .ref (ad 23))]) hx hb dX3_rest_74 rfl hl (by decide) rfl (fun ls hl => ?_)
          refine lv_iinc (v := nI (i + 1)) (lv' := [(3, .int (nI (i + 1))), (2, .int ((restN (f 0) (prP (f 0)) x i) + (0 - (flowQ (f 0) (prP (f 0)) i)))), (1, .int x), (0, .ref (ad 23))]) hx hb dX3_rest_75 hl (k := 1) rfl (nI_1 _) (by decide) rfl (fun ls hl => ?_)
          refine lv_goto (tgt := 23) hx hb dX3_rest_78 (by decide) ?_
          refine ih (i + 1) _ ⟨ls, rfl, ?_, hi⟩ (by omega)
          rw [show restN (f 0) (prP (f 0)) x (i + 1) = (restN (f 0) (prP (f 0)) x i) + (0 - (flowQ (f 0) (prP (f 0)) i)) from by simp only [restN, if_neg c_84, if_pos c_85]]
          exact lv_sub hl [0, 1, 2, 3] rfl
      · refine lv_aload_n hx hb dX3_rest_44 rfl (lv_at hl 3 rfl) ?_
        refine lv_iload_n hx hb dX3_rest_45 rfl (lv_at hl 0 rfl) ?_
        refine cv_R1 (rest := [.int (restN (f 0) (prP (f 0)) x i)]) hc (M_flowOf l hW (R := R) (N := N) hO i (by omega)) (lw_V q1249 q1251 qs54 q70 q1252) nd_X3_flowOf ⟨Nat.le_of_ble_eq_true rfl, Nat.le_of_ble_eq_true rfl⟩ (MW.recv hK hW) rfl hl.1 rfl (Nat.le_of_ble_eq_true rfl) dX3_rest_46 ⟨Nat.le_of_ble_eq_true rfl, Nat.le_of_ble_eq_true rfl⟩ ?_
        refine sm_topi (v := flowQ (f 0) (prP (f 0)) i) rfl ?_
        refine lv_goto (tgt := 73) hx hb dX3_rest_49 (by decide) ?_
        refine lv_iadd hx hb dX3_rest_73 ?_
        refine lv_istore_n (lv' := [(2, .int ((restN (f 0) (prP (f 0)) x i) + (flowQ (f 0) (prP (f 0)) i))), (3, .int (nI i)), (1, .int x), (0, .ref (ad 23))]) hx hb dX3_rest_74 rfl hl (by decide) rfl (fun ls hl => ?_)
        refine lv_iinc (v := nI (i + 1)) (lv' := [(3, .int (nI (i + 1))), (2, .int ((restN (f 0) (prP (f 0)) x i) + (flowQ (f 0) (prP (f 0)) i))), (1, .int x), (0, .ref (ad 23))]) hx hb dX3_rest_75 hl (k := 1) rfl (nI_1 _) (by decide) rfl (fun ls hl => ?_)
        refine lv_goto (tgt := 23) hx hb dX3_rest_78 (by decide) ?_
        refine ih (i + 1) _ ⟨ls, rfl, ?_, hi⟩ (by omega)
        rw [show restN (f 0) (prP (f 0)) x (i + 1) = (restN (f 0) (prP (f 0)) x i) + (flowQ (f 0) (prP (f 0)) i) from by simp only [restN, if_pos c_84]]
        exact lv_sub hl [0, 1, 2, 3] rfl
    · have hiN : i = N := by omega
      subst hiN
      refine lv_iload_n hx hb dX3_rest_23 rfl (lv_at hl 0 rfl) ?_
      refine lv_aload_n hx hb dX3_rest_24 rfl (lv_at hl 3 rfl) ?_
      refine m_get hc hW 0 (by decide) rfl q1000 rfl rfl dX3_rest_25 ?_
      refine lv_iconst (v := 1) hx hb dX3_rest_28 (by decide) ?_
      refine m_ild hc hW 0 rfl (n := 169) rfl (ix_eq (k := 1) rfl (by decide) (by decide)) dX3_rest_29 ?_
      refine sm_topi (v := f 0 1) rfl ?_
      refine sm_topi (v := nI i) (hO.2.2.2.1) ?_
      refine lv_icmp_ge (tgt := 81) hx hb dX3_rest_30 (by decide) (fun _ => ?_) (fun h => absurd (nI_le (by omega) (by have := hO.2.1; omega)) h)
      refine lv_iload_n hx hb dX3_rest_81 rfl (lv_at hl 1 rfl) ?_
      exact ri_W hx hb hr hlk hS (by simp only [restM, if_pos c_82, hO.cl1]) (by simp only [restM, if_pos c_82]; exact AX.mp (AR.ax hW)) dX3_rest_82
  · refine lv_aload_n hx hb dX3_rest_8 rfl (lv_at hl 0 rfl) ?_
    refine lv_ldc (v := (-1000000001)) hx hb hown (hts _ q1079) dX3_rest_9 ?_
    refine cv_W1 (rest := []) hc (M_finds l hW (-1000000001) 0 (ix_eq (k := 0) (by decide) (by decide) (by decide))) (lw_V q1075 q1077 qs28 q70 q1078) nd_X3_finds ⟨Nat.le_of_ble_eq_true rfl, Nat.le_of_ble_eq_true rfl⟩ (MW.recv hK hW) rfl hl.1 rfl (Nat.le_of_ble_eq_true rfl) dX3_rest_11 ⟨Nat.le_of_ble_eq_true rfl, Nat.le_of_ble_eq_true rfl⟩ hS (fun _ h => h) (fun H locs hW hS hz hk => ?_)
    exact ri_W hx hb hr hlk hS (by simp only [restM, if_neg c_82]) (by simp only [restM, if_neg c_82]; exact MW.mp hW) dX3_rest_14
def airM (f : Nat → Nat → Int32) (x : Int32) : Int32 × (Nat → Nat → Int32) :=
  if 0 ≤ x ∧ x ≤ 3 then (if x = 0 then freshP (f 0) else if x = 1 then lostP (f 0) else if x = 2 then b2i (smokesP (f 0) = true) else b2i (rdP (f 0) = 60), f) else BEY f
theorem nd_X3_air : yX3_air.cls = "SmokeLeansModel" ∧ yX3_air.cls ≠ "java/lang/invoke/MethodHandle" ∧ yX3_air.cls ≠ "java/lang/invoke/VarHandle" ∧ (parseMethodDescriptor yX3_air.desc).map (fun d => d.parameters.length) = some 1 := by decide +kernel
set_option maxHeartbeats 4000000 in
theorem M_air (l : Launch) {G : GD} {A : Nat → Prop} {f : Nat → Nat → Int32} {g : Nat → Nat → Int64} {ad : Nat → Nat} {H0 : Heap} (hW : MW G A f g ad H0) {R N : Nat} (hO : OkN (f 0) R N) (x : Int32) : MetW l G yX3_air cX3_air 2 (some .int) 5 0 0 A [.ref (ad 23), .int x] H0 (some (.int ((airM f x).1))) (fun H => MP G A (airM f x).2 g ad H) := by
  refine mx_of (by decide) (Nat.le_of_ble_eq_true rfl) ?_
  intro p e s m below meth c hx hb hr hc hlk hnm hs0 ls hl
  subst hs0
  have hown := hc.2.2.2.1
  have hts := hc.2.2.2.2.1
  have hK := hc.2.2.2.2.2
  have hl : lv_has ls 2 [(0, .ref (ad 23)), (1, .int x)] := hl
  have hS : va_S A s.heap s.heap [] := va_S.rf
  refine lv_iload_n hx hb dX3_air_0 rfl (lv_at hl 1 rfl) ?_
  refine lv_i2l hx hb dX3_air_1 rfl ?_
  refine lv_lconst (v := (0 : Int32).toInt64) hx hb dX3_air_2 (by decide) ?_
  refine lv_ldc2 (v := 3) hx hb hown (hts _ q1276) dX3_air_3 (sm_topl (v := (3 : Int32).toInt64) (by decide) ?_)
  refine cs_R1 (rest := []) hc (M_in32 l x 0 3) (lw_S q1089 q1090 q70 q1091) nd_X3_in ⟨Nat.le_of_ble_eq_true rfl, Nat.le_of_ble_eq_true rfl⟩ rfl hl.1 rfl (Nat.le_of_ble_eq_true rfl) dX3_air_6 ⟨Nat.le_of_ble_eq_true rfl, Nat.le_of_ble_eq_true rfl⟩ ?_
  refine bi_ne (tgt := 19) hx hb dX3_air_9 (by decide) (fun c_86 => ?_) (fun c_86 => ?_)
  · refine lv_aload_n hx hb dX3_air_19 rfl (lv_at hl 0 rfl) ?_
    refine cv_W0 (rest := []) hc (M_rests l hW (R := R) (N := N) hO) (lw_V q1233 q1235 qs51 q70 q1236) nd_X3_rests ⟨Nat.le_of_ble_eq_true rfl, Nat.le_of_ble_eq_true rfl⟩ (MW.recv hK hW) rfl hl.1 rfl (Nat.le_of_ble_eq_true rfl) dX3_air_20 ⟨Nat.le_of_ble_eq_true rfl, Nat.le_of_ble_eq_true rfl⟩ hS (fun _ h => h) (fun H locs hq hS hz hk => ?_)
    obtain ⟨b_87, hW⟩ := hq
    have hW : AR G A f g ad b_87 H := hW
    refine lv_iload_n hx hb dX3_air_23 rfl (lv_at hl 1 rfl) ?_
    refine lv_if_ne (tgt := 34) hx hb dX3_air_24 (by decide) (fun c_88 => ?_) (fun c_88 => ?_)
    · refine lv_iload_n hx hb dX3_air_34 rfl (lv_at hl 1 rfl) ?_
      refine lv_iconst (v := 1) hx hb dX3_air_35 (by decide) ?_
      refine lv_icmp_ne (tgt := 46) hx hb dX3_air_36 (by decide) (fun c_89 => ?_) (fun c_89 => ?_)
      · refine lv_iload_n hx hb dX3_air_46 rfl (lv_at hl 1 rfl) ?_
        refine lv_iconst (v := 2) hx hb dX3_air_47 (by decide) ?_
        refine lv_icmp_ne (tgt := 66) hx hb dX3_air_48 (by decide) (fun c_90 => ?_) (fun c_90 => ?_)
        · refine lv_aload_n hx hb dX3_air_66 rfl (lv_at hl 0 rfl) ?_
          refine m_get hc hW 14 (by decide) rfl q1014 rfl rfl dX3_air_67 ?_
          refine sm_topi (v := b2i (rdP (f 0) = 60)) rfl ?_
          refine bi_eq (tgt := 77) hx hb dX3_air_70 (by decide) (fun c_91 => ?_) (fun c_91 => ?_)
          · refine lv_iconst (v := 0) hx hb dX3_air_77 (by decide) ?_
            exact ri_W hx hb hr hlk hS (by simp only [airM, if_pos c_86, if_neg c_88, if_neg c_89, if_neg c_90, smokesP, hO.cl1]; exact (b2i_f c_91).symm) (by simp only [airM, if_pos c_86]; exact AX.mp (AR.ax hW)) dX3_air_78
          · refine lv_iconst (v := 1) hx hb dX3_air_73 (by decide) ?_
            refine lv_goto (tgt := 78) hx hb dX3_air_74 (by decide) ?_
            exact ri_W hx hb hr hlk hS (by simp only [airM, if_pos c_86, if_neg c_88, if_neg c_89, if_neg c_90, smokesP, hO.cl1]; exact (b2i_t c_91).symm) (by simp only [airM, if_pos c_86]; exact AX.mp (AR.ax hW)) dX3_air_78
        · refine lv_aload_n hx hb dX3_air_51 rfl (lv_at hl 0 rfl) ?_
          refine cv_R1 (rest := []) hc (M_smokes l hW (R := R) (N := N) hO) (lw_V q1285 q1287 qs58 q70 q1288) nd_X3_smokes ⟨Nat.le_of_ble_eq_true rfl, Nat.le_of_ble_eq_true rfl⟩ (MW.recv hK hW) rfl hl.1 rfl (Nat.le_of_ble_eq_true rfl) dX3_air_52 ⟨Nat.le_of_ble_eq_true rfl, Nat.le_of_ble_eq_true rfl⟩ ?_
          refine sm_topi (v := b2i (smkN (f 0) (prP (f 0)) N = true)) rfl ?_
          refine bi_eq (tgt := 62) hx hb dX3_air_55 (by decide) (fun c_92 => ?_) (fun c_92 => ?_)
          · refine lv_iconst (v := 0) hx hb dX3_air_62 (by decide) ?_
            refine lv_goto (tgt := 78) hx hb dX3_air_63 (by decide) ?_
            exact ri_W hx hb hr hlk hS (by simp only [airM, if_pos c_86, if_neg c_88, if_neg c_89, if_pos c_90, smokesP, hO.cl1]; exact (b2i_f c_92).symm) (by simp only [airM, if_pos c_86]; exact AX.mp (AR.ax hW)) dX3_air_78
          · refine lv_iconst (v := 1) hx hb dX3_air_58 (by decide) ?_
            refine lv_goto (tgt := 78) hx hb dX3_air_59 (by decide) ?_
            exact ri_W hx hb hr hlk hS (by simp only [airM, if_pos c_86, if_neg c_88, if_neg c_89, if_pos c_90, smokesP, hO.cl1]; exact (b2i_t c_92).symm) (by simp only [airM, if_pos c_86]; exact AX.mp (AR.ax hW)) dX3_air_78
      · refine lv_aload_n hx hb dX3_air_39 rfl (lv_at hl 0 rfl) ?_
        refine cv_R1 (rest := []) hc (M_lost l hW (R := R) (N := N) hO) (lw_V q1281 q1283 qs57 q70 q1284) nd_X3_lost ⟨Nat.le_of_ble_eq_true rfl, Nat.le_of_ble_eq_true rfl⟩ (MW.recv hK hW) rfl hl.1 rfl (Nat.le_of_ble_eq_true rfl) dX3_air_40 ⟨Nat.le_of_ble_eq_true rfl, Nat.le_of_ble_eq_true rfl⟩ ?_
        refine sm_topi (v := freshN (f 0) (prP (f 0)) N * (f 0) 2) rfl ?_
        refine lv_goto (tgt := 78) hx hb dX3_air_43 (by decide) ?_
        exact ri_W hx hb hr hlk hS (by simp only [airM, if_pos c_86, if_neg c_88, if_pos c_89, freshP, lostP, smokesP, hO.cl1]) (by simp only [airM, if_pos c_86]; exact AX.mp (AR.ax hW)) dX3_air_78
    · refine lv_aload_n hx hb dX3_air_27 rfl (lv_at hl 0 rfl) ?_
      refine cv_R1 (rest := []) hc (M_fresh l hW (R := R) (N := N) hO) (lw_V q1277 q1279 qs56 q70 q1280) nd_X3_fresh ⟨Nat.le_of_ble_eq_true rfl, Nat.le_of_ble_eq_true rfl⟩ (MW.recv hK hW) rfl hl.1 rfl (Nat.le_of_ble_eq_true rfl) dX3_air_28 ⟨Nat.le_of_ble_eq_true rfl, Nat.le_of_ble_eq_true rfl⟩ ?_
      refine sm_topi (v := freshN (f 0) (prP (f 0)) N) rfl ?_
      refine lv_goto (tgt := 78) hx hb dX3_air_31 (by decide) ?_
      exact ri_W hx hb hr hlk hS (by simp only [airM, if_pos c_86, if_pos c_88, freshP, lostP, smokesP, hO.cl1]) (by simp only [airM, if_pos c_86]; exact AX.mp (AR.ax hW)) dX3_air_78
  · refine lv_aload_n hx hb dX3_air_12 rfl (lv_at hl 0 rfl) ?_
    refine lv_ldc (v := (-1000000001)) hx hb hown (hts _ q1079) dX3_air_13 ?_
    refine cv_W1 (rest := []) hc (M_finds l hW (-1000000001) 0 (ix_eq (k := 0) (by decide) (by decide) (by decide))) (lw_V q1075 q1077 qs28 q70 q1078) nd_X3_finds ⟨Nat.le_of_ble_eq_true rfl, Nat.le_of_ble_eq_true rfl⟩ (MW.recv hK hW) rfl hl.1 rfl (Nat.le_of_ble_eq_true rfl) dX3_air_15 ⟨Nat.le_of_ble_eq_true rfl, Nat.le_of_ble_eq_true rfl⟩ hS (fun _ h => h) (fun H locs hW hS hz hk => ?_)
    exact ri_W hx hb hr hlk hS (by simp only [airM, if_neg c_86]) (by simp only [airM, if_neg c_86]; exact MW.mp hW) dX3_air_18
theorem nd_X3_seed : yX3_seed.cls = "SmokeLeansModel" ∧ yX3_seed.cls ≠ "java/lang/invoke/MethodHandle" ∧ yX3_seed.cls ≠ "java/lang/invoke/VarHandle" ∧ (parseMethodDescriptor yX3_seed.desc).map (fun d => d.parameters.length) = some 1 := by decide +kernel
set_option maxHeartbeats 4000000 in
theorem M_seed (l : Launch) {G : GD} {A : Nat → Prop} {f : Nat → Nat → Int32} {g : Nat → Nat → Int64} {ad : Nat → Nat} {H0 : Heap} (hW : MW G A f g ad H0) (v : Int32) : MetW l G yX3_seed cX3_seed 3 (some .int) 0 0 0 A [.ref (ad 23), .int v] H0 (some (.int (f 0 8))) (fun H => MW G A (up2 f 0 8 v) g ad H) := by
  refine mx_of (by decide) (Nat.le_of_ble_eq_true rfl) ?_
  intro p e s m below meth c hx hb hr hc hlk hnm hs0 ls hl
  subst hs0
  have hown := hc.2.2.2.1
  have hts := hc.2.2.2.2.1
  have hK := hc.2.2.2.2.2
  have hl : lv_has ls 3 [(0, .ref (ad 23)), (1, .int v)] := hl
  have hS : va_S A s.heap s.heap [] := va_S.rf
  refine lv_aload_n hx hb dX3_seed_0 rfl (lv_at hl 0 rfl) ?_
  refine m_get hc hW 0 (by decide) rfl q1000 rfl rfl dX3_seed_1 ?_
  refine lv_bipush (v := 8) hx hb dX3_seed_4 (by decide) ?_
  refine m_ild hc hW 0 rfl (n := 169) rfl (ix_eq (k := 8) rfl (by decide) (by decide)) dX3_seed_6 ?_
  refine lv_istore_n (lv' := [(2, .int (f 0 8)), (0, .ref (ad 23)), (1, .int v)]) hx hb dX3_seed_7 rfl hl (by decide) rfl (fun ls hl => ?_)
  refine lv_aload_n hx hb dX3_seed_8 rfl (lv_at hl 1 rfl) ?_
  refine m_get hc hW 0 (by decide) rfl q1000 rfl rfl dX3_seed_9 ?_
  refine lv_bipush (v := 8) hx hb dX3_seed_12 (by decide) ?_
  refine lv_iload_n hx hb dX3_seed_14 rfl (lv_at hl 2 rfl) ?_
  refine m_ist hc hW hS 0 rfl (n := 169) rfl (ix_eq (k := 8) rfl (by decide) (by decide)) dX3_seed_15 (fun H locs hW hS hz => ?_)
  refine lv_iload_n hx hb dX3_seed_16 rfl (lv_at hl 0 rfl) ?_
  exact ri_W hx hb hr hlk hS (rfl) (hW) dX3_seed_17
def drawP (z : Int32) : Int32 := z * 1103515245 + 12345
def slipP (z sl : Int32) : Prop := ¬ sl ≤ remP ((z.toUInt32 >>> ((8 : Int32).toUInt32 &&& Int32.toUInt32 31)).toInt32) 100
def seenV (s p : Nat → Int32) (i : Nat) : Int32 :=
  if s 7 ≤ remP (((drawP (s 8)).toUInt32 >>> ((8 : Int32).toUInt32 &&& Int32.toUInt32 31)).toInt32) 100 then (if s (gp i 0) = 1 then 0 else leanV (flowQ s p i)) else 0
theorem nd_X3_seen : yX3_seen.cls = "SmokeLeansModel" ∧ yX3_seen.cls ≠ "java/lang/invoke/MethodHandle" ∧ yX3_seen.cls ≠ "java/lang/invoke/VarHandle" ∧ (parseMethodDescriptor yX3_seen.desc).map (fun d => d.parameters.length) = some 1 := by decide +kernel
set_option maxHeartbeats 4000000 in
theorem M_seen (l : Launch) {G : GD} {A : Nat → Prop} {f : Nat → Nat → Int32} {g : Nat → Nat → Int64} {ad : Nat → Nat} {H0 : Heap} (hW : MW G A f g ad H0) {R N : Nat} (hO : OkN (f 0) R N) (i : Nat) (hi : i < N)  : MetW l G yX3_seen cX3_seen 3 (some .int) 4 0 0 A [.ref (ad 23), .int (nI i)] H0 (some (.int (seenV (f 0) (f 11) i))) (fun H => MW G A (up2 f 0 8 (drawP (f 0 8))) g ad H) := by
  refine mx_of (by decide) (Nat.le_of_ble_eq_true rfl) ?_
  intro p e s m below meth c hx hb hr hc hlk hnm hs0 ls hl
  subst hs0
  have hown := hc.2.2.2.1
  have hts := hc.2.2.2.2.1
  have hK := hc.2.2.2.2.2
  have hl : lv_has ls 3 [(0, .ref (ad 23)), (1, .int (nI i))] := hl
  have hS : va_S A s.heap s.heap [] := va_S.rf
  have hi20 : i < 20 := by have := hO.2.1; omega
  have hO8 : OkN (up2 f 0 8 (drawP (f 0 8)) 0) R N := by rw [up2_row]; exact OkN_8 eq8_upd hO
  refine lv_aload_n hx hb dX3_seen_0 rfl (lv_at hl 0 rfl) ?_
  refine m_get hc hW 0 (by decide) rfl q1000 rfl rfl dX3_seen_1 ?_
  refine lv_bipush (v := 8) hx hb dX3_seen_4 (by decide) ?_
  refine lv_aload_n hx hb dX3_seen_6 rfl (lv_at hl 0 rfl) ?_
  refine m_get hc hW 0 (by decide) rfl q1000 rfl rfl dX3_seen_7 ?_
  refine lv_bipush (v := 8) hx hb dX3_seen_10 (by decide) ?_
  refine m_ild hc hW 0 rfl (n := 169) rfl (ix_eq (k := 8) rfl (by decide) (by decide)) dX3_seen_12 ?_
  refine lv_ldc (v := 1103515245) hx hb hown (hts _ q1301) dX3_seen_13 ?_
  refine lv_imul hx hb dX3_seen_15 ?_
  refine lv_sipush (v := 12345) hx hb dX3_seen_16 (by decide) ?_
  refine lv_iadd hx hb dX3_seen_19 ?_
  refine sm_topi (v := drawP (f 0 8)) rfl ?_
  refine m_ist hc hW hS 0 rfl (n := 169) rfl (ix_eq (k := 8) rfl (by decide) (by decide)) dX3_seen_20 (fun H locs hW hS hz => ?_)
  refine lv_aload_n hx hb dX3_seen_21 rfl (lv_at hl 0 rfl) ?_
  refine m_get hc hW 0 (by decide) rfl q1000 rfl rfl dX3_seen_22 ?_
  refine lv_bipush (v := 8) hx hb dX3_seen_25 (by decide) ?_
  refine m_ild hc hW 0 rfl (n := 169) rfl (ix_eq (k := 8) rfl (by decide) (by decide)) dX3_seen_27 ?_
  refine sm_topi (v := drawP (f 0 8)) (by simp [up2]) ?_
  refine lv_bipush (v := 8) hx hb dX3_seen_28 (by decide) ?_
  refine lv_iushr hx hb dX3_seen_30 rfl ?_
  refine lv_bipush (v := 100) hx hb dX3_seen_31 (by decide) ?_
  refine lv_irem hx hb dX3_seen_33 (by decide) (sm_topi (v := remP (((drawP (f 0 8)).toUInt32 >>> ((8 : Int32).toUInt32 &&& Int32.toUInt32 31)).toInt32) 100) rfl ?_)
  refine lv_aload_n hx hb dX3_seen_34 rfl (lv_at hl 0 rfl) ?_
  refine m_get hc hW 0 (by decide) rfl q1000 rfl rfl dX3_seen_35 ?_
  refine lv_bipush (v := 7) hx hb dX3_seen_38 (by decide) ?_
  refine m_ild hc hW 0 rfl (n := 169) rfl (ix_eq (k := 7) rfl (by decide) (by decide)) dX3_seen_40 ?_
  refine sm_topi (v := f 0 7) (by simp [up2]) ?_
  refine lv_icmp_ge (tgt := 48) hx hb dX3_seen_41 (by decide) (fun c_93 => ?_) (fun c_93 => ?_)
  · refine lv_iconst (v := 0) hx hb dX3_seen_48 (by decide) ?_
    refine lv_istore_n (lv' := [(2, .int 0), (0, .ref (ad 23)), (1, .int (nI i))]) hx hb dX3_seen_49 rfl hl (by decide) rfl (fun ls hl => ?_)
    refine lv_iload_n hx hb dX3_seen_50 rfl (lv_at hl 0 rfl) ?_
    refine lv_if_ne (tgt := 64) hx hb dX3_seen_51 (by decide) (fun h => absurd (by decide) h) (fun _ => ?_)
    refine lv_aload_n hx hb dX3_seen_54 rfl (lv_at hl 1 rfl) ?_
    refine lv_iload_n hx hb dX3_seen_55 rfl (lv_at hl 2 rfl) ?_
    refine lv_iconst (v := 0) hx hb dX3_seen_56 (by decide) ?_
    refine cv_R1 (rest := []) hc (M_has l hW i 0 (by omega)) (lw_V q1110 q1112 qs33 q70 q1113) nd_X3_has ⟨Nat.le_of_ble_eq_true rfl, Nat.le_of_ble_eq_true rfl⟩ (MW.recv hK hW) rfl hl.1 rfl (Nat.le_of_ble_eq_true rfl) dX3_seen_57 ⟨Nat.le_of_ble_eq_true rfl, Nat.le_of_ble_eq_true rfl⟩ ?_
    refine sm_topi (v := f 0 (gp i 0)) (up2_ne2 (show 9 + 8 * i + 0 ≠ 8 by omega)) ?_
    refine lv_iconst (v := 1) hx hb dX3_seen_60 (by decide) ?_
    refine lv_icmp_ne (tgt := 68) hx hb dX3_seen_61 (by decide) (fun c_94 => ?_) (fun c_94 => ?_)
    · refine lv_aload_n hx hb dX3_seen_68 rfl (lv_at hl 1 rfl) ?_
      refine lv_iload_n hx hb dX3_seen_69 rfl (lv_at hl 2 rfl) ?_
      refine cv_R1 (rest := []) hc (M_leanOf l hW (R := R) (N := N) hO8 i hi) (lw_V q1257 q1259 qs55 q70 q1260) nd_X3_leanOf ⟨Nat.le_of_ble_eq_true rfl, Nat.le_of_ble_eq_true rfl⟩ (MW.recv hK hW) rfl hl.1 rfl (Nat.le_of_ble_eq_true rfl) dX3_seen_70 ⟨Nat.le_of_ble_eq_true rfl, Nat.le_of_ble_eq_true rfl⟩ ?_
      refine sm_topi (v := leanV (flowQ (f 0) (f 11) i)) (by rw [up2_row, flowQ_8 eq8_upd, up2_ne (by decide)]) ?_
      exact ri_W hx hb hr hlk hS (by simp only [seenV, if_pos c_93, if_neg c_94]) (hW) dX3_seen_73
    · refine lv_iconst (v := 0) hx hb dX3_seen_64 (by decide) ?_
      refine lv_goto (tgt := 73) hx hb dX3_seen_65 (by decide) ?_
      exact ri_W hx hb hr hlk hS (by simp only [seenV, if_pos c_93, if_pos c_94]) (hW) dX3_seen_73
  · refine lv_iconst (v := 1) hx hb dX3_seen_44 (by decide) ?_
    refine lv_goto (tgt := 49) hx hb dX3_seen_45 (by decide) ?_
    refine lv_istore_n (lv' := [(2, .int 1), (0, .ref (ad 23)), (1, .int (nI i))]) hx hb dX3_seen_49 rfl hl (by decide) rfl (fun ls hl => ?_)
    refine lv_iload_n hx hb dX3_seen_50 rfl (lv_at hl 0 rfl) ?_
    refine lv_if_ne (tgt := 64) hx hb dX3_seen_51 (by decide) (fun _ => ?_) (fun h => absurd h (by decide))
    refine lv_iconst (v := 0) hx hb dX3_seen_64 (by decide) ?_
    refine lv_goto (tgt := 73) hx hb dX3_seen_65 (by decide) ?_
    exact ri_W hx hb hr hlk hS (by simp only [seenV, if_neg c_93]) (hW) dX3_seen_73
def stickM (f : Nat → Nat → Int32) (x : Int32) : Int32 × (Nat → Nat → Int32) :=
  if 0 ≤ x ∧ x ≤ f 0 1 - 1 then (seenV (f 0) (prP (f 0)) x.toNatClampNeg, up2 f 0 8 (drawP (f 0 8))) else BEY f
theorem nd_X3_stick : yX3_stick.cls = "SmokeLeansModel" ∧ yX3_stick.cls ≠ "java/lang/invoke/MethodHandle" ∧ yX3_stick.cls ≠ "java/lang/invoke/VarHandle" ∧ (parseMethodDescriptor yX3_stick.desc).map (fun d => d.parameters.length) = some 1 := by decide +kernel
set_option maxHeartbeats 4000000 in
theorem M_stick (l : Launch) {G : GD} {A : Nat → Prop} {f : Nat → Nat → Int32} {g : Nat → Nat → Int64} {ad : Nat → Nat} {H0 : Heap} (hW : MW G A f g ad H0) {R N : Nat} (hO : OkN (f 0) R N) (x : Int32) : MetW l G yX3_stick cX3_stick 2 (some .int) 5 0 0 A [.ref (ad 23), .int x] H0 (some (.int ((stickM f x).1))) (fun H => MP G A (stickM f x).2 g ad H) := by
  refine mx_of (by decide) (Nat.le_of_ble_eq_true rfl) ?_
  intro p e s m below meth c hx hb hr hc hlk hnm hs0 ls hl
  subst hs0
  have hown := hc.2.2.2.1
  have hts := hc.2.2.2.2.1
  have hK := hc.2.2.2.2.2
  have hl : lv_has ls 2 [(0, .ref (ad 23)), (1, .int x)] := hl
  have hS : va_S A s.heap s.heap [] := va_S.rf
  refine lv_aload_n hx hb dX3_stick_0 rfl (lv_at hl 0 rfl) ?_
  refine lv_iload_n hx hb dX3_stick_1 rfl (lv_at hl 1 rfl) ?_
  refine cv_R1 (rest := []) hc (M_isGap l hW x) (lw_V q1105 q1107 qs32 q70 q1108) nd_X3_isGap ⟨Nat.le_of_ble_eq_true rfl, Nat.le_of_ble_eq_true rfl⟩ (MW.recv hK hW) rfl hl.1 rfl (Nat.le_of_ble_eq_true rfl) dX3_stick_2 ⟨Nat.le_of_ble_eq_true rfl, Nat.le_of_ble_eq_true rfl⟩ ?_
  refine bi_ne (tgt := 15) hx hb dX3_stick_5 (by decide) (fun c_95 => ?_) (fun c_95 => ?_)
  · obtain ⟨i, hi, rfl⟩ := hO.exGap c_95
    have hlti : i < 20 := by have := hO.2.1; omega
    have hcli : (nI i).toNatClampNeg = i := nI_clamp (by omega)
    refine lv_aload_n hx hb dX3_stick_15 rfl (lv_at hl 0 rfl) ?_
    refine cv_W0 (rest := []) hc (M_rests l hW (R := R) (N := N) hO) (lw_V q1233 q1235 qs51 q70 q1236) nd_X3_rests ⟨Nat.le_of_ble_eq_true rfl, Nat.le_of_ble_eq_true rfl⟩ (MW.recv hK hW) rfl hl.1 rfl (Nat.le_of_ble_eq_true rfl) dX3_stick_16 ⟨Nat.le_of_ble_eq_true rfl, Nat.le_of_ble_eq_true rfl⟩ hS (fun _ h => h) (fun H locs hq hS hz hk => ?_)
    obtain ⟨b_96, hW⟩ := hq
    have hW : AR G A f g ad b_96 H := hW
    refine lv_aload_n hx hb dX3_stick_19 rfl (lv_at hl 0 rfl) ?_
    refine lv_iload_n hx hb dX3_stick_20 rfl (lv_at hl 1 rfl) ?_
    refine cv_W1 (rest := []) hc (M_seen l hW (R := R) (N := N) hO i (by omega)) (lw_V q1297 q1299 qs59 q70 q1300) nd_X3_seen ⟨Nat.le_of_ble_eq_true rfl, Nat.le_of_ble_eq_true rfl⟩ (MW.recv hK hW) rfl hl.1 rfl (Nat.le_of_ble_eq_true rfl) dX3_stick_21 ⟨Nat.le_of_ble_eq_true rfl, Nat.le_of_ble_eq_true rfl⟩ hS (fun _ h => h) (fun H locs hW hS hz hk => ?_)
    rw [airF_up (by decide)] at hW
    refine sm_topi (v := seenV (f 0) (prP (f 0)) i) rfl ?_
    exact ri_W hx hb hr hlk hS (by simp only [stickM, if_pos c_95, hcli]) (by simp only [stickM, if_pos c_95]; exact AX.mp ⟨_, _, _, _, hW⟩) dX3_stick_24
  · refine lv_aload_n hx hb dX3_stick_8 rfl (lv_at hl 0 rfl) ?_
    refine lv_ldc (v := (-1000000001)) hx hb hown (hts _ q1079) dX3_stick_9 ?_
    refine cv_W1 (rest := []) hc (M_finds l hW (-1000000001) 0 (ix_eq (k := 0) (by decide) (by decide) (by decide))) (lw_V q1075 q1077 qs28 q70 q1078) nd_X3_finds ⟨Nat.le_of_ble_eq_true rfl, Nat.le_of_ble_eq_true rfl⟩ (MW.recv hK hW) rfl hl.1 rfl (Nat.le_of_ble_eq_true rfl) dX3_stick_11 ⟨Nat.le_of_ble_eq_true rfl, Nat.le_of_ble_eq_true rfl⟩ hS (fun _ h => h) (fun H locs hW hS hz hk => ?_)
    exact ri_W hx hb hr hlk hS (by simp only [stickM, if_neg c_95]) (by simp only [stickM, if_neg c_95]; exact MW.mp hW) dX3_stick_14
/-- the gap with the most flow among the first n + 1 -/
def mostN (s p : Nat → Int32) : Nat → Nat
  | 0 => 0
  | n + 1 => if sizeP (flowQ s p (n + 1)) ≤ sizeP (flowQ s p (mostN s p n)) then mostN s p n else n + 1
theorem mostN_le {s p : Nat → Int32} : ∀ n, mostN s p n ≤ n
  | 0 => Nat.le_refl _
  | n + 1 => by
    unfold mostN
    split
    · have := mostN_le (s := s) (p := p) n; omega
    · omega
def mostM (f : Nat → Nat → Int32) : Int32 × (Nat → Nat → Int32) :=
  if f 0 1 = 0 then NON f else (nI (mostN (f 0) (prP (f 0)) ((f 0 1).toNatClampNeg - 1)), f)
theorem nd_X3_most : yX3_most.cls = "SmokeLeansModel" ∧ yX3_most.cls ≠ "java/lang/invoke/MethodHandle" ∧ yX3_most.cls ≠ "java/lang/invoke/VarHandle" ∧ (parseMethodDescriptor yX3_most.desc).map (fun d => d.parameters.length) = some 0 := by decide +kernel
set_option maxHeartbeats 4000000 in
theorem M_most (l : Launch) {G : GD} {A : Nat → Prop} {f : Nat → Nat → Int32} {g : Nat → Nat → Int64} {ad : Nat → Nat} {H0 : Heap} (hW : MW G A f g ad H0) {R N : Nat} (hO : OkN (f 0) R N)  : MetW l G yX3_most cX3_most 3 (some .int) 5 0 0 A [.ref (ad 23)] H0 (some (.int ((mostM f).1))) (fun H => MP G A (mostM f).2 g ad H) := by
  refine mx_of (by decide) (Nat.le_of_ble_eq_true rfl) ?_
  intro p e s m below meth c hx hb hr hc hlk hnm hs0 ls hl
  subst hs0
  have hown := hc.2.2.2.1
  have hts := hc.2.2.2.2.1
  have hK := hc.2.2.2.2.2
  have hl : lv_has ls 3 [(0, .ref (ad 23))] := hl
  have hS : va_S A s.heap s.heap [] := va_S.rf
  refine lv_aload_n hx hb dX3_most_0 rfl (lv_at hl 0 rfl) ?_
  refine m_get hc hW 0 (by decide) rfl q1000 rfl rfl dX3_most_1 ?_
  refine lv_iconst (v := 1) hx hb dX3_most_4 (by decide) ?_
  refine m_ild hc hW 0 rfl (n := 169) rfl (ix_eq (k := 1) rfl (by decide) (by decide)) dX3_most_5 ?_
  refine lv_if_ne (tgt := 16) hx hb dX3_most_6 (by decide) (fun c_97 => ?_) (fun c_97 => ?_)
  · refine lv_aload_n hx hb dX3_most_16 rfl (lv_at hl 0 rfl) ?_
    refine cv_W0 (rest := []) hc (M_rests l hW (R := R) (N := N) hO) (lw_V q1233 q1235 qs51 q70 q1236) nd_X3_rests ⟨Nat.le_of_ble_eq_true rfl, Nat.le_of_ble_eq_true rfl⟩ (MW.recv hK hW) rfl hl.1 rfl (Nat.le_of_ble_eq_true rfl) dX3_most_17 ⟨Nat.le_of_ble_eq_true rfl, Nat.le_of_ble_eq_true rfl⟩ hS (fun _ h => h) (fun H locs hq hS hz hk => ?_)
    obtain ⟨b_98, hW⟩ := hq
    have hW : AR G A f g ad b_98 H := hW
    refine lv_iconst (v := 0) hx hb dX3_most_20 (by decide) ?_
    refine lv_istore_n (lv' := [(1, .int 0), (0, .ref (ad 23))]) hx hb dX3_most_21 rfl hl (by decide) rfl (fun ls hl => ?_)
    refine lv_iconst (v := 1) hx hb dX3_most_22 (by decide) ?_
    refine lv_istore_n (lv' := [(2, .int 1), (1, .int 0), (0, .ref (ad 23))]) hx hb dX3_most_23 rfl hl (by decide) rfl (fun ls hl => ?_)
    have hN0 : 0 < N := Nat.pos_of_ne_zero fun e => c_97 (by rw [hO.2.2.2.1, e]; rfl)
    refine w_loop (σ := Nat) (fun i fr => ∃ ls, fr = F0 m 24 ls [] ∧ lv_has ls 3 [(2, .int (nI (i + 1))), (1, .int (nI (mostN (f 0) (prP (f 0)) i))), (0, .ref (ad 23))] ∧ (i < N)) (fun i => N - i) 0 ⟨ls, rfl, lv_sub hl [0, 1, 2] rfl, hN0⟩ ?_
    intro i fr hI ih
    obtain ⟨ls, rfl, hl, hinv⟩ := hI
    have hbl := mostN_le (s := f 0) (p := prP (f 0)) i
    by_cases hi : i + 1 < N
    · refine lv_iload_n hx hb dX3_most_24 rfl (lv_at hl 0 rfl) ?_
      refine lv_aload_n hx hb dX3_most_25 rfl (lv_at hl 2 rfl) ?_
      refine m_get hc hW 0 (by decide) rfl q1000 rfl rfl dX3_most_26 ?_
      refine lv_iconst (v := 1) hx hb dX3_most_29 (by decide) ?_
      refine m_ild hc hW 0 rfl (n := 169) rfl (ix_eq (k := 1) rfl (by decide) (by decide)) dX3_most_30 ?_
      refine sm_topi (v := f 0 1) rfl ?_
      refine sm_topi (v := nI N) (hO.2.2.2.1) ?_
      refine lv_icmp_ge (tgt := 65) hx hb dX3_most_31 (by decide) (fun h => absurd h (nI_ge hi (by have := hO.2.1; omega))) (fun _ => ?_)
      refine lv_aload_n hx hb dX3_most_34 rfl (lv_at hl 2 rfl) ?_
      refine lv_iload_n hx hb dX3_most_35 rfl (lv_at hl 0 rfl) ?_
      refine cv_R1 (rest := []) hc (M_flowOf l hW (R := R) (N := N) hO (i + 1) (by omega)) (lw_V q1249 q1251 qs54 q70 q1252) nd_X3_flowOf ⟨Nat.le_of_ble_eq_true rfl, Nat.le_of_ble_eq_true rfl⟩ (MW.recv hK hW) rfl hl.1 rfl (Nat.le_of_ble_eq_true rfl) dX3_most_36 ⟨Nat.le_of_ble_eq_true rfl, Nat.le_of_ble_eq_true rfl⟩ ?_
      refine sm_topi (v := flowQ (f 0) (prP (f 0)) (i + 1)) rfl ?_
      refine cs_R1 (rest := []) hc (M_size l (flowQ (f 0) (prP (f 0)) (i + 1))) (lw_S q1261 q1262 q70 q1263) nd_X3_size ⟨Nat.le_of_ble_eq_true rfl, Nat.le_of_ble_eq_true rfl⟩ rfl hl.1 rfl (Nat.le_of_ble_eq_true rfl) dX3_most_39 ⟨Nat.le_of_ble_eq_true rfl, Nat.le_of_ble_eq_true rfl⟩ ?_
      refine lv_aload_n hx hb dX3_most_42 rfl (lv_at hl 2 rfl) ?_
      refine lv_iload_n hx hb dX3_most_43 rfl (lv_at hl 1 rfl) ?_
      refine cv_R1 (rest := [.int (sizeP (flowQ (f 0) (prP (f 0)) (i + 1)))]) hc (M_flowOf l hW (R := R) (N := N) hO (mostN (f 0) (prP (f 0)) i) (by omega)) (lw_V q1249 q1251 qs54 q70 q1252) nd_X3_flowOf ⟨Nat.le_of_ble_eq_true rfl, Nat.le_of_ble_eq_true rfl⟩ (MW.recv hK hW) rfl hl.1 rfl (Nat.le_of_ble_eq_true rfl) dX3_most_44 ⟨Nat.le_of_ble_eq_true rfl, Nat.le_of_ble_eq_true rfl⟩ ?_
      refine sm_topi (v := flowQ (f 0) (prP (f 0)) (mostN (f 0) (prP (f 0)) i)) rfl ?_
      refine cs_R1 (rest := [.int (sizeP (flowQ (f 0) (prP (f 0)) (i + 1)))]) hc (M_size l (flowQ (f 0) (prP (f 0)) (mostN (f 0) (prP (f 0)) i))) (lw_S q1261 q1262 q70 q1263) nd_X3_size ⟨Nat.le_of_ble_eq_true rfl, Nat.le_of_ble_eq_true rfl⟩ rfl hl.1 rfl (Nat.le_of_ble_eq_true rfl) dX3_most_47 ⟨Nat.le_of_ble_eq_true rfl, Nat.le_of_ble_eq_true rfl⟩ ?_
      refine lv_icmp_le (tgt := 57) hx hb dX3_most_50 (by decide) (fun c_99 => ?_) (fun c_99 => ?_)
      · refine lv_iload_n hx hb dX3_most_57 rfl (lv_at hl 1 rfl) ?_
        refine lv_istore_n (lv' := [(1, .int (nI (mostN (f 0) (prP (f 0)) i))), (2, .int (nI (i + 1))), (0, .ref (ad 23))]) hx hb dX3_most_58 rfl hl (by decide) rfl (fun ls hl => ?_)
        refine lv_iinc (v := nI (i + 1 + 1)) (lv' := [(2, .int (nI (i + 1 + 1))), (1, .int (nI (mostN (f 0) (prP (f 0)) i))), (0, .ref (ad 23))]) hx hb dX3_most_59 hl (k := 1) rfl (nI_1 _) (by decide) rfl (fun ls hl => ?_)
        refine lv_goto (tgt := 24) hx hb dX3_most_62 (by decide) ?_
        refine ih (i + 1) _ ⟨ls, rfl, ?_, hi⟩ (by omega)
        rw [show mostN (f 0) (prP (f 0)) (i + 1) = mostN (f 0) (prP (f 0)) i from by simp only [mostN, if_pos c_99]]
        exact lv_sub hl [0, 1, 2] rfl
      · refine lv_iload_n hx hb dX3_most_53 rfl (lv_at hl 0 rfl) ?_
        refine lv_goto (tgt := 58) hx hb dX3_most_54 (by decide) ?_
        refine lv_istore_n (lv' := [(1, .int (nI (i + 1))), (2, .int (nI (i + 1))), (0, .ref (ad 23))]) hx hb dX3_most_58 rfl hl (by decide) rfl (fun ls hl => ?_)
        refine lv_iinc (v := nI (i + 1 + 1)) (lv' := [(2, .int (nI (i + 1 + 1))), (1, .int (nI (i + 1))), (0, .ref (ad 23))]) hx hb dX3_most_59 hl (k := 1) rfl (nI_1 _) (by decide) rfl (fun ls hl => ?_)
        refine lv_goto (tgt := 24) hx hb dX3_most_62 (by decide) ?_
        refine ih (i + 1) _ ⟨ls, rfl, ?_, hi⟩ (by omega)
        rw [show mostN (f 0) (prP (f 0)) (i + 1) = i + 1 from by simp only [mostN, if_neg c_99]]
        exact lv_sub hl [0, 1, 2] rfl
    · have hiN : N - 1 = i := by omega
      refine lv_iload_n hx hb dX3_most_24 rfl (lv_at hl 0 rfl) ?_
      refine lv_aload_n hx hb dX3_most_25 rfl (lv_at hl 2 rfl) ?_
      refine m_get hc hW 0 (by decide) rfl q1000 rfl rfl dX3_most_26 ?_
      refine lv_iconst (v := 1) hx hb dX3_most_29 (by decide) ?_
      refine m_ild hc hW 0 rfl (n := 169) rfl (ix_eq (k := 1) rfl (by decide) (by decide)) dX3_most_30 ?_
      refine sm_topi (v := f 0 1) rfl ?_
      refine sm_topi (v := nI N) (hO.2.2.2.1) ?_
      refine lv_icmp_ge (tgt := 65) hx hb dX3_most_31 (by decide) (fun _ => ?_) (fun h => absurd (nI_le (by omega) (by have := hO.2.1; omega)) h)
      refine lv_iload_n hx hb dX3_most_65 rfl (lv_at hl 1 rfl) ?_
      exact ri_W hx hb hr hlk hS (by simp only [mostM, if_neg c_97, hO.cl1, hiN]) (by simp only [mostM, if_neg c_97]; exact AX.mp (AR.ax hW)) dX3_most_66
  · refine lv_aload_n hx hb dX3_most_9 rfl (lv_at hl 0 rfl) ?_
    refine lv_ldc (v := (-1000000004)) hx hb hown (hts _ q1308) dX3_most_10 ?_
    refine cv_W1 (rest := []) hc (M_finds l hW (-1000000004) 3 (ix_eq (k := 3) (by decide) (by decide) (by decide))) (lw_V q1075 q1077 qs28 q70 q1078) nd_X3_finds ⟨Nat.le_of_ble_eq_true rfl, Nat.le_of_ble_eq_true rfl⟩ (MW.recv hK hW) rfl hl.1 rfl (Nat.le_of_ble_eq_true rfl) dX3_most_12 ⟨Nat.le_of_ble_eq_true rfl, Nat.le_of_ble_eq_true rfl⟩ hS (fun _ h => h) (fun H locs hW hS hz hk => ?_)
    exact ri_W hx hb hr hlk hS (by simp only [mostM, if_pos c_97]) (by simp only [mostM, if_pos c_97]; exact MW.mp hW) dX3_most_15
