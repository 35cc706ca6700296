/-! the reference's methods, 6: the line, the worst side, one alone, what turns -/
set_option maxRecDepth 100000
def lnW (n : Nat) : Int32 := if n < 100 then nI (99 - n) else -1
theorem lnW_s {n : Nat} (h : n < 100) : nI (99 - n) + (-1) = lnW (n + 1) := by
  unfold lnW
  split
  · rw [show 99 - n = (99 - (n + 1)) + 1 by omega, pk_m1]
  · rw [show 99 - n = 0 by omega]; rfl
/-- the least wind at which it smokes, of the n highest -/
def lnN (s : Nat → Int32) : Nat → Int32
  | 0 => -1
  | n + 1 => if smokesP (upd s 3 (nI (99 - n))) = true then nI (99 - n) else lnN s n
def lineM (f : Nat → Nat → Int32) : Int32 × (Nat → Nat → Int32) := if 0 ≤ lnN (f 0) 100 then (lnN (f 0) 100, f) else NON f

theorem nd_X3_line : yX3_line.cls = "SmokeLeansModel" ∧ yX3_line.cls ≠ "java/lang/invoke/MethodHandle" ∧ yX3_line.cls ≠ "java/lang/invoke/VarHandle" ∧ (parseMethodDescriptor yX3_line.desc).map (fun d => d.parameters.length) = some 0 := by decide +kernel
set_option maxHeartbeats 4000000 in
theorem M_line (l : Launch) {G : GD} {A : Nat → Prop} {f : Nat → Nat → Int32} {g : Nat → Nat → Int64} {ad : Nat → Nat} {H0 : Heap} (hW : MW G A f g ad H0) {R N : Nat} (hO : OkN (f 0) R N)  : MetW l G yX3_line cX3_line 4 (some .int) 5 0 0 A [.ref (ad 23)] H0 (some (.int ((lineM f).1))) (fun H => MP G A (lineM f).2 g ad H) := by
  refine mx_of (by decide) (Nat.le_of_ble_eq_true rfl) ?_
  intro p e s m below meth c hx hb hr hc hlk hnm hs0 ls hl
  subst hs0
  have hown := hc.2.2.2.1
  have hts := hc.2.2.2.2.1
  have hK := hc.2.2.2.2.2
  have hl : lv_has ls 4 [(0, .ref (ad 23))] := hl
  have hS : va_S A s.heap s.heap [] := va_S.rf
  obtain ⟨a0, b0, n0, z0, hW⟩ := AX.of hW
  rw [← upA_self (f := f) (k := 0)] at hW
  refine lv_aload_n hx hb dX3_line_0 rfl (lv_at hl 0 rfl) ?_
  refine m_get hc hW 0 (by decide) rfl q1000 rfl rfl dX3_line_1 ?_
  refine lv_iconst (v := 3) hx hb dX3_line_4 (by decide) ?_
  refine m_ild hc hW 0 rfl (n := 169) rfl (ix_eq (k := 3) rfl (by decide) (by decide)) dX3_line_5 ?_
  refine sm_topi (v := (f 0) 3) rfl ?_
  refine lv_istore_n (lv' := [(1, .int ((f 0) 3)), (0, .ref (ad 23))]) hx hb dX3_line_6 rfl hl (by decide) rfl (fun ls hl => ?_)
  refine lv_iconst (v := (-1)) hx hb dX3_line_7 (by decide) ?_
  refine lv_istore_n (lv' := [(2, .int (-1)), (1, .int ((f 0) 3)), (0, .ref (ad 23))]) hx hb dX3_line_8 rfl hl (by decide) rfl (fun ls hl => ?_)
  refine lv_bipush (v := 99) hx hb dX3_line_9 (by decide) ?_
  refine lv_istore_n (lv' := [(3, .int 99), (2, .int (-1)), (1, .int ((f 0) 3)), (0, .ref (ad 23))]) hx hb dX3_line_11 rfl hl (by decide) rfl (fun ls hl => ?_)
  refine w_loopH (σ := Nat) (fun n H locs cells slots fr => cells = 0 ∧ slots = 0 ∧ (∃ ls, fr = F0 m 12 ls [] ∧ lv_has ls 4 [(3, .int (lnW n)), (2, .int (lnN (f 0) n)), (1, .int (f 0 3)), (0, .ref (ad 23))]) ∧ va_S A s.heap H locs ∧ (n ≤ 100 ∧ ∃ y a b k z, MW G A (airF (upA f 0 (upd (f 0) 3 y)) a b k z) g ad H)) (fun n => 100 - n) 0 ⟨rfl, rfl, ⟨ls, rfl, lv_sub hl [0, 1, 2, 3] rfl⟩, hS, ⟨Nat.zero_le _, f 0 3, a0, b0, n0, z0, by rw [upd_self]; exact hW⟩⟩ ?_
  intro n H locs cells slots fr hI ih
  obtain ⟨rfl, rfl, ⟨ls, rfl, hl⟩, hS, ⟨hle, y, a0, b0, n0, z0, hW⟩⟩ := hI
  by_cases hi : n < 100
  · rw [show lnW n = nI (99 - n) from if_pos hi] at hl
    have hO1 : OkN (upd (f 0) 3 (nI (99 - n))) R N := OkN_wind hO (by omega)
    refine lv_iload_n hx hb dX3_line_12 rfl (lv_at hl 0 rfl) ?_
    refine lv_if_lt (tgt := 46) hx hb dX3_line_13 (by decide) (fun h => absurd h (nI_pos (by omega))) (fun _ => ?_)
    refine lv_aload_n hx hb dX3_line_16 rfl (lv_at hl 3 rfl) ?_
    refine m_get hc hW 0 (by decide) rfl q1000 rfl rfl dX3_line_17 ?_
    refine lv_iconst (v := 3) hx hb dX3_line_20 (by decide) ?_
    refine lv_iload_n hx hb dX3_line_21 rfl (lv_at hl 0 rfl) ?_
    refine m_ist hc hW hS 0 rfl (n := 169) rfl (ix_eq (k := 3) rfl (by decide) (by decide)) dX3_line_22 (fun H locs hW hS hz => ?_)
    rw [airF_up (by decide), up2_upA] at hW
    rw [upd_upd] at hW
    refine lv_aload_n hx hb dX3_line_23 rfl (lv_at hl 3 rfl) ?_
    refine cv_W0 (rest := []) hc (M_restsX l hW (R := R) (N := N) hO1) (lw_V q1233 q1235 qs51 q70 q1236) nd_X3_rests ⟨Nat.le_of_ble_eq_true rfl, Nat.le_of_ble_eq_true rfl⟩ (MW.recv hK hW) rfl hl.1 rfl (Nat.le_of_ble_eq_true rfl) dX3_line_24 ⟨Nat.le_of_ble_eq_true rfl, Nat.le_of_ble_eq_true rfl⟩ hS (fun _ h => h) (fun H locs hq hS hz hk => ?_)
    obtain ⟨b_116, hW⟩ := hq
    have hW : AR G A (upA f 0 (upd (f 0) 3 (nI (99 - n)))) g ad b_116 H := hW
    refine lv_aload_n hx hb dX3_line_27 rfl (lv_at hl 3 rfl) ?_
    refine cv_R1 (rest := []) hc (M_smokes l hW (R := R) (N := N) hO1) (lw_V q1285 q1287 qs58 q70 q1288) nd_X3_smokes ⟨Nat.le_of_ble_eq_true rfl, Nat.le_of_ble_eq_true rfl⟩ (MW.recv hK hW) rfl hl.1 rfl (Nat.le_of_ble_eq_true rfl) dX3_line_28 ⟨Nat.le_of_ble_eq_true rfl, Nat.le_of_ble_eq_true rfl⟩ ?_
    refine sm_topi (v := b2i (smkN (upd (f 0) 3 (nI (99 - n))) (prP (upd (f 0) 3 (nI (99 - n)))) N = true)) rfl ?_
    refine sm_topi (v := b2i (smokesP (upd (f 0) 3 (nI (99 - n))) = true)) (by rw [smokesP, hO1.cl1]) ?_
    refine bi_eq (tgt := 38) hx hb dX3_line_31 (by decide) (fun c_117 => ?_) (fun c_117 => ?_)
    · refine lv_iload_n hx hb dX3_line_38 rfl (lv_at hl 1 rfl) ?_
      refine lv_istore_n (lv' := [(2, .int (lnN (f 0) n)), (3, .int (nI (99 - n))), (1, .int (f 0 3)), (0, .ref (ad 23))]) hx hb dX3_line_39 rfl hl (by decide) rfl (fun ls hl => ?_)
      refine lv_iinc (v := (nI (99 - n)) + (-1)) (lv' := [(3, .int ((nI (99 - n)) + (-1))), (2, .int (lnN (f 0) n)), (1, .int (f 0 3)), (0, .ref (ad 23))]) hx hb dX3_line_40 hl (k := 1) rfl rfl (by decide) rfl (fun ls hl => ?_)
      refine lv_goto (tgt := 12) hx hb dX3_line_43 (by decide) ?_
      refine ih (n + 1) _ _ _ _ _ ⟨rfl, rfl, ⟨ls, rfl, ?_⟩, hS, hi, nI (99 - n), _, _, _, _, hW⟩ (by omega)
      rw [← lnW_s hi, show lnN (f 0) (n + 1) = lnN (f 0) n from by simp only [lnN, if_neg c_117]]
      exact lv_sub hl [0, 1, 2, 3] rfl
    · refine lv_iload_n hx hb dX3_line_34 rfl (lv_at hl 0 rfl) ?_
      refine lv_goto (tgt := 39) hx hb dX3_line_35 (by decide) ?_
      refine lv_istore_n (lv' := [(2, .int (nI (99 - n))), (3, .int (nI (99 - n))), (1, .int (f 0 3)), (0, .ref (ad 23))]) hx hb dX3_line_39 rfl hl (by decide) rfl (fun ls hl => ?_)
      refine lv_iinc (v := (nI (99 - n)) + (-1)) (lv' := [(3, .int ((nI (99 - n)) + (-1))), (2, .int (nI (99 - n))), (1, .int (f 0 3)), (0, .ref (ad 23))]) hx hb dX3_line_40 hl (k := 1) rfl rfl (by decide) rfl (fun ls hl => ?_)
      refine lv_goto (tgt := 12) hx hb dX3_line_43 (by decide) ?_
      refine ih (n + 1) _ _ _ _ _ ⟨rfl, rfl, ⟨ls, rfl, ?_⟩, hS, hi, nI (99 - n), _, _, _, _, hW⟩ (by omega)
      rw [← lnW_s hi, show lnN (f 0) (n + 1) = nI (99 - n) from by simp only [lnN, if_pos c_117]]
      exact lv_sub hl [0, 1, 2, 3] rfl
  · have hn : n = 100 := by omega
    subst hn
    refine lv_iload_n hx hb dX3_line_12 rfl (lv_at hl 0 rfl) ?_
    refine lv_if_lt (tgt := 46) hx hb dX3_line_13 (by decide) (fun _ => ?_) (fun h => absurd (show lnW 100 < 0 by decide) h)
    refine lv_aload_n hx hb dX3_line_46 rfl (lv_at hl 3 rfl) ?_
    refine m_get hc hW 0 (by decide) rfl q1000 rfl rfl dX3_line_47 ?_
    refine lv_iconst (v := 3) hx hb dX3_line_50 (by decide) ?_
    refine lv_iload_n hx hb dX3_line_51 rfl (lv_at hl 2 rfl) ?_
    refine m_ist hc hW hS 0 rfl (n := 169) rfl (ix_eq (k := 3) rfl (by decide) (by decide)) dX3_line_52 (fun H locs hW hS hz => ?_)
    rw [airF_up (by decide), up2_upA] at hW
    rw [upd_upd, upd_self, upA_self] at hW
    refine lv_iload_n hx hb dX3_line_53 rfl (lv_at hl 1 rfl) ?_
    refine lv_if_ge (tgt := 66) hx hb dX3_line_54 (by decide) (fun c_118 => ?_) (fun c_118 => ?_)
    · refine lv_iload_n hx hb dX3_line_66 rfl (lv_at hl 1 rfl) ?_
      exact ri_W hx hb hr hlk hS (by simp only [lineM, if_pos c_118]) (by simp only [lineM, if_pos c_118]; exact AX.mp ⟨_, _, _, _, hW⟩) dX3_line_67
    · refine lv_aload_n hx hb dX3_line_57 rfl (lv_at hl 3 rfl) ?_
      refine lv_ldc (v := (-1000000004)) hx hb hown (hts _ q1308) dX3_line_58 ?_
      refine cv_W1 (rest := []) hc (M_finds l hW (-1000000004) 3 (ix_eq (k := 3) (by decide) (by decide) (by decide))) (lw_V q1075 q1077 qs28 q70 q1078) nd_X3_finds ⟨Nat.le_of_ble_eq_true rfl, Nat.le_of_ble_eq_true rfl⟩ (MW.recv hK hW) rfl hl.1 rfl (Nat.le_of_ble_eq_true rfl) dX3_line_60 ⟨Nat.le_of_ble_eq_true rfl, Nat.le_of_ble_eq_true rfl⟩ hS (fun _ h => h) (fun H locs hW hS hz hk => ?_)
      rw [cntP, airF_up (by decide)] at hW
      refine lv_goto (tgt := 67) hx hb dX3_line_63 (by decide) ?_
      exact ri_W hx hb hr hlk hS (by simp only [lineM, if_neg c_118]) (by simp only [lineM, if_neg c_118]; exact AX.mp ⟨_, _, _, _, hW⟩) dX3_line_67
/-- the side, of the first n, from which most is lost; how much -/
def wsN (s : Nat → Int32) : Nat → Nat × Int32
  | 0 => (0, -1)
  | n + 1 => if lostP (upd s 4 (nI n)) ≤ (wsN s n).2 then wsN s n else (n, lostP (upd s 4 (nI n)))
theorem nd_X3_worst : yX3_worst.cls = "SmokeLeansModel" ∧ yX3_worst.cls ≠ "java/lang/invoke/MethodHandle" ∧ yX3_worst.cls ≠ "java/lang/invoke/VarHandle" ∧ (parseMethodDescriptor yX3_worst.desc).map (fun d => d.parameters.length) = some 0 := by decide +kernel
set_option maxHeartbeats 4000000 in
theorem M_worst (l : Launch) {G : GD} {A : Nat → Prop} {f : Nat → Nat → Int32} {g : Nat → Nat → Int64} {ad : Nat → Nat} {H0 : Heap} (hW : MW G A f g ad H0) {R N : Nat} (hO : OkN (f 0) R N)  : MetW l G yX3_worst cX3_worst 5 (some .int) 5 0 0 A [.ref (ad 23)] H0 (some (.int (nI (wsN (f 0) 4).1))) (fun H => MP G A f g ad H) := by
  refine mx_of (by decide) (Nat.le_of_ble_eq_true rfl) ?_
  intro p e s m below meth c hx hb hr hc hlk hnm hs0 ls hl
  subst hs0
  have hown := hc.2.2.2.1
  have hts := hc.2.2.2.2.1
  have hK := hc.2.2.2.2.2
  have hl : lv_has ls 5 [(0, .ref (ad 23))] := hl
  have hS : va_S A s.heap s.heap [] := va_S.rf
  obtain ⟨a0, b0, n0, z0, hW⟩ := AX.of hW
  rw [← upA_self (f := f) (k := 0)] at hW
  refine lv_aload_n hx hb dX3_worst_0 rfl (lv_at hl 0 rfl) ?_
  refine m_get hc hW 0 (by decide) rfl q1000 rfl rfl dX3_worst_1 ?_
  refine lv_iconst (v := 4) hx hb dX3_worst_4 (by decide) ?_
  refine m_ild hc hW 0 rfl (n := 169) rfl (ix_eq (k := 4) rfl (by decide) (by decide)) dX3_worst_5 ?_
  refine sm_topi (v := (f 0) 4) rfl ?_
  refine lv_istore_n (lv' := [(1, .int ((f 0) 4)), (0, .ref (ad 23))]) hx hb dX3_worst_6 rfl hl (by decide) rfl (fun ls hl => ?_)
  refine lv_iconst (v := 0) hx hb dX3_worst_7 (by decide) ?_
  refine lv_istore_n (lv' := [(2, .int 0), (1, .int ((f 0) 4)), (0, .ref (ad 23))]) hx hb dX3_worst_8 rfl hl (by decide) rfl (fun ls hl => ?_)
  refine lv_iconst (v := (-1)) hx hb dX3_worst_9 (by decide) ?_
  refine lv_istore_n (lv' := [(3, .int (-1)), (2, .int 0), (1, .int ((f 0) 4)), (0, .ref (ad 23))]) hx hb dX3_worst_10 rfl hl (by decide) rfl (fun ls hl => ?_)
  refine lv_iconst (v := 0) hx hb dX3_worst_11 (by decide) ?_
  refine lv_istore (lv' := [(4, .int 0), (3, .int (-1)), (2, .int 0), (1, .int ((f 0) 4)), (0, .ref (ad 23))]) hx hb dX3_worst_12 hl (by decide) rfl (fun ls hl => ?_)
  refine w_loopH (σ := Nat) (fun n H locs cells slots fr => cells = 0 ∧ slots = 0 ∧ (∃ ls, fr = F0 m 14 ls [] ∧ lv_has ls 5 [(4, .int (nI n)), (3, .int ((wsN (f 0) n).2)), (2, .int (nI ((wsN (f 0) n).1))), (1, .int (f 0 4)), (0, .ref (ad 23))]) ∧ va_S A s.heap H locs ∧ (n ≤ 4 ∧ ∃ y a b k z, MW G A (airF (upA f 0 (upd (f 0) 4 y)) a b k z) g ad H)) (fun n => 4 - n) 0 ⟨rfl, rfl, ⟨ls, rfl, lv_sub hl [0, 1, 2, 3, 4] rfl⟩, hS, ⟨Nat.zero_le _, f 0 4, a0, b0, n0, z0, by rw [upd_self]; exact hW⟩⟩ ?_
  intro n H locs cells slots fr hI ih
  obtain ⟨rfl, rfl, ⟨ls, rfl, hl⟩, hS, ⟨hle, y, a0, b0, n0, z0, hW⟩⟩ := hI
  by_cases hi : n < 4
  · have hO1 : OkN (upd (f 0) 4 (nI n)) R N := OkN_from hO (by omega)
    refine lv_iload hx hb dX3_worst_14 (lv_at hl 0 rfl) ?_
    refine lv_iconst (v := 4) hx hb dX3_worst_16 (by decide) ?_
    refine lv_icmp_ge (tgt := 54) hx hb dX3_worst_17 (by decide) (fun h => absurd h (nI_ge (b := 4) hi (by decide))) (fun _ => ?_)
    refine lv_aload_n hx hb dX3_worst_20 rfl (lv_at hl 4 rfl) ?_
    refine m_get hc hW 0 (by decide) rfl q1000 rfl rfl dX3_worst_21 ?_
    refine lv_iconst (v := 4) hx hb dX3_worst_24 (by decide) ?_
    refine lv_iload hx hb dX3_worst_25 (lv_at hl 0 rfl) ?_
    refine m_ist hc hW hS 0 rfl (n := 169) rfl (ix_eq (k := 4) rfl (by decide) (by decide)) dX3_worst_27 (fun H locs hW hS hz => ?_)
    rw [airF_up (by decide), up2_upA] at hW
    rw [upd_upd] at hW
    refine lv_aload_n hx hb dX3_worst_28 rfl (lv_at hl 4 rfl) ?_
    refine cv_W0 (rest := []) hc (M_restsX l hW (R := R) (N := N) hO1) (lw_V q1233 q1235 qs51 q70 q1236) nd_X3_rests ⟨Nat.le_of_ble_eq_true rfl, Nat.le_of_ble_eq_true rfl⟩ (MW.recv hK hW) rfl hl.1 rfl (Nat.le_of_ble_eq_true rfl) dX3_worst_29 ⟨Nat.le_of_ble_eq_true rfl, Nat.le_of_ble_eq_true rfl⟩ hS (fun _ h => h) (fun H locs hq hS hz hk => ?_)
    obtain ⟨b_119, hW⟩ := hq
    have hW : AR G A (upA f 0 (upd (f 0) 4 (nI n))) g ad b_119 H := hW
    refine lv_aload_n hx hb dX3_worst_32 rfl (lv_at hl 4 rfl) ?_
    refine cv_R1 (rest := []) hc (M_lost l hW (R := R) (N := N) hO1) (lw_V q1281 q1283 qs57 q70 q1284) nd_X3_lost ⟨Nat.le_of_ble_eq_true rfl, Nat.le_of_ble_eq_true rfl⟩ (MW.recv hK hW) rfl hl.1 rfl (Nat.le_of_ble_eq_true rfl) dX3_worst_33 ⟨Nat.le_of_ble_eq_true rfl, Nat.le_of_ble_eq_true rfl⟩ ?_
    refine sm_topi (v := freshN (upd (f 0) 4 (nI n)) (prP (upd (f 0) 4 (nI n))) N * (upd (f 0) 4 (nI n)) 2) rfl ?_
    refine sm_topi (v := lostP (upd (f 0) 4 (nI n))) (by rw [lostP, freshP, hO1.cl1]) ?_
    refine lv_iload_n hx hb dX3_worst_36 rfl (lv_at hl 1 rfl) ?_
    refine lv_icmp_le (tgt := 48) hx hb dX3_worst_37 (by decide) (fun c_120 => ?_) (fun c_120 => ?_)
    · refine lv_iinc (v := nI (n + 1)) (lv' := [(4, .int (nI (n + 1))), (3, .int ((wsN (f 0) n).2)), (2, .int (nI ((wsN (f 0) n).1))), (1, .int (f 0 4)), (0, .ref (ad 23))]) hx hb dX3_worst_48 hl (k := 0) rfl (nI_1 _) (by decide) rfl (fun ls hl => ?_)
      refine lv_goto (tgt := 14) hx hb dX3_worst_51 (by decide) ?_
      refine ih (n + 1) _ _ _ _ _ ⟨rfl, rfl, ⟨ls, rfl, ?_⟩, hS, hi, nI n, _, _, _, _, hW⟩ (by omega)
      rw [show wsN (f 0) (n + 1) = wsN (f 0) n from by simp only [wsN, if_pos c_120]]
      exact lv_sub hl [0, 1, 2, 3, 4] rfl
    · refine lv_iload hx hb dX3_worst_40 (lv_at hl 0 rfl) ?_
      refine lv_istore_n (lv' := [(2, .int (nI n)), (4, .int (nI n)), (3, .int ((wsN (f 0) n).2)), (1, .int (f 0 4)), (0, .ref (ad 23))]) hx hb dX3_worst_42 rfl hl (by decide) rfl (fun ls hl => ?_)
      refine lv_aload_n hx hb dX3_worst_43 rfl (lv_at hl 4 rfl) ?_
      refine cv_R1 (rest := []) hc (M_lost l hW (R := R) (N := N) hO1) (lw_V q1281 q1283 qs57 q70 q1284) nd_X3_lost ⟨Nat.le_of_ble_eq_true rfl, Nat.le_of_ble_eq_true rfl⟩ (MW.recv hK hW) rfl hl.1 rfl (Nat.le_of_ble_eq_true rfl) dX3_worst_44 ⟨Nat.le_of_ble_eq_true rfl, Nat.le_of_ble_eq_true rfl⟩ ?_
      refine sm_topi (v := freshN (upd (f 0) 4 (nI n)) (prP (upd (f 0) 4 (nI n))) N * (upd (f 0) 4 (nI n)) 2) rfl ?_
      refine sm_topi (v := lostP (upd (f 0) 4 (nI n))) (by rw [lostP, freshP, hO1.cl1]) ?_
      refine lv_istore_n (lv' := [(3, .int (lostP (upd (f 0) 4 (nI n)))), (2, .int (nI n)), (4, .int (nI n)), (1, .int (f 0 4)), (0, .ref (ad 23))]) hx hb dX3_worst_47 rfl hl (by decide) rfl (fun ls hl => ?_)
      refine lv_iinc (v := nI (n + 1)) (lv' := [(4, .int (nI (n + 1))), (3, .int (lostP (upd (f 0) 4 (nI n)))), (2, .int (nI n)), (1, .int (f 0 4)), (0, .ref (ad 23))]) hx hb dX3_worst_48 hl (k := 2) rfl (nI_1 _) (by decide) rfl (fun ls hl => ?_)
      refine lv_goto (tgt := 14) hx hb dX3_worst_51 (by decide) ?_
      refine ih (n + 1) _ _ _ _ _ ⟨rfl, rfl, ⟨ls, rfl, ?_⟩, hS, hi, nI n, _, _, _, _, hW⟩ (by omega)
      rw [show wsN (f 0) (n + 1) = (n, lostP (upd (f 0) 4 (nI n))) from by simp only [wsN, if_neg c_120]]
      exact lv_sub hl [0, 1, 2, 3, 4] rfl
  · have hn : n = 4 := by omega
    subst hn
    refine lv_iload hx hb dX3_worst_14 (lv_at hl 0 rfl) ?_
    refine lv_iconst (v := 4) hx hb dX3_worst_16 (by decide) ?_
    refine lv_icmp_ge (tgt := 54) hx hb dX3_worst_17 (by decide) (fun _ => ?_) (fun h => absurd (nI_le (a := 4) (by omega) (by omega)) h)
    refine lv_aload_n hx hb dX3_worst_54 rfl (lv_at hl 4 rfl) ?_
    refine m_get hc hW 0 (by decide) rfl q1000 rfl rfl dX3_worst_55 ?_
    refine lv_iconst (v := 4) hx hb dX3_worst_58 (by decide) ?_
    refine lv_iload_n hx hb dX3_worst_59 rfl (lv_at hl 3 rfl) ?_
    refine m_ist hc hW hS 0 rfl (n := 169) rfl (ix_eq (k := 4) rfl (by decide) (by decide)) dX3_worst_60 (fun H locs hW hS hz => ?_)
    rw [airF_up (by decide), up2_upA] at hW
    rw [upd_upd, upd_self, upA_self] at hW
    refine lv_iload_n hx hb dX3_worst_61 rfl (lv_at hl 2 rfl) ?_
    exact ri_W hx hb hr hlk hS (rfl) (AX.mp ⟨_, _, _, _, hW⟩) dX3_worst_62
def aloneM (f : Nat → Nat → Int32) (x y : Int32) : Int32 × (Nat → Nat → Int32) :=
  if 0 ≤ x ∧ x ≤ f 0 1 - 1 then
    if 0 ≤ y ∧ y ≤ f 0 1 - 1 then
      if x = y then BEY f
      else (flowP (upd (f 0) (gp y.toNatClampNeg 7) 1) x.toNatClampNeg - flowP (f 0) x.toNatClampNeg, f)
    else BEY f
  else BEY f
theorem nd_X3_alone : yX3_alone.cls = "SmokeLeansModel" ∧ yX3_alone.cls ≠ "java/lang/invoke/MethodHandle" ∧ yX3_alone.cls ≠ "java/lang/invoke/VarHandle" ∧ (parseMethodDescriptor yX3_alone.desc).map (fun d => d.parameters.length) = some 2 := by decide +kernel
set_option maxHeartbeats 4000000 in
theorem M_alone (l : Launch) {G : GD} {A : Nat → Prop} {f : Nat → Nat → Int32} {g : Nat → Nat → Int64} {ad : Nat → Nat} {H0 : Heap} (hW : MW G A f g ad H0) {R N : Nat} (hO : OkN (f 0) R N) (x y : Int32) : MetW l G yX3_alone cX3_alone 6 (some .int) 5 0 0 A [.ref (ad 23), .int x, .int y] H0 (some (.int ((aloneM f x y).1))) (fun H => MP G A (aloneM f x y).2 g ad H) := by
  refine mx_of (by decide) (Nat.le_of_ble_eq_true rfl) ?_
  intro p e s m below meth c hx hb hr hc hlk hnm hs0 ls hl
  subst hs0
  have hown := hc.2.2.2.1
  have hts := hc.2.2.2.2.1
  have hK := hc.2.2.2.2.2
  have hl : lv_has ls 6 [(0, .ref (ad 23)), (1, .int x), (2, .int y)] := hl
  have hS : va_S A s.heap s.heap [] := va_S.rf
  refine lv_aload_n hx hb dX3_alone_0 rfl (lv_at hl 0 rfl) ?_
  refine lv_iload_n hx hb dX3_alone_1 rfl (lv_at hl 1 rfl) ?_
  refine cv_R1 (rest := []) hc (M_isGap l hW x) (lw_V q1105 q1107 qs32 q70 q1108) nd_X3_isGap ⟨Nat.le_of_ble_eq_true rfl, Nat.le_of_ble_eq_true rfl⟩ (MW.recv hK hW) rfl hl.1 rfl (Nat.le_of_ble_eq_true rfl) dX3_alone_2 ⟨Nat.le_of_ble_eq_true rfl, Nat.le_of_ble_eq_true rfl⟩ ?_
  refine bi_eq (tgt := 21) hx hb dX3_alone_5 (by decide) (fun c_121 => ?_) (fun c_121 => ?_)
  · refine lv_aload_n hx hb dX3_alone_21 rfl (lv_at hl 0 rfl) ?_
    refine lv_ldc (v := (-1000000001)) hx hb hown (hts _ q1079) dX3_alone_22 ?_
    refine cv_W1 (rest := []) hc (M_finds l hW (-1000000001) 0 (ix_eq (k := 0) (by decide) (by decide) (by decide))) (lw_V q1075 q1077 qs28 q70 q1078) nd_X3_finds ⟨Nat.le_of_ble_eq_true rfl, Nat.le_of_ble_eq_true rfl⟩ (MW.recv hK hW) rfl hl.1 rfl (Nat.le_of_ble_eq_true rfl) dX3_alone_24 ⟨Nat.le_of_ble_eq_true rfl, Nat.le_of_ble_eq_true rfl⟩ hS (fun _ h => h) (fun H locs hW hS hz hk => ?_)
    exact ri_W hx hb hr hlk hS (by simp only [aloneM, if_neg c_121]) (by simp only [aloneM, if_neg c_121]; exact MW.mp hW) dX3_alone_27
  · obtain ⟨i, hi, rfl⟩ := hO.exGap c_121
    have hlti : i < 20 := by have := hO.2.1; omega
    have hcli : (nI i).toNatClampNeg = i := nI_clamp (by omega)
    refine lv_aload_n hx hb dX3_alone_8 rfl (lv_at hl 0 rfl) ?_
    refine lv_iload_n hx hb dX3_alone_9 rfl (lv_at hl 2 rfl) ?_
    refine cv_R1 (rest := []) hc (M_isGap l hW y) (lw_V q1105 q1107 qs32 q70 q1108) nd_X3_isGap ⟨Nat.le_of_ble_eq_true rfl, Nat.le_of_ble_eq_true rfl⟩ (MW.recv hK hW) rfl hl.1 rfl (Nat.le_of_ble_eq_true rfl) dX3_alone_10 ⟨Nat.le_of_ble_eq_true rfl, Nat.le_of_ble_eq_true rfl⟩ ?_
    refine bi_eq (tgt := 21) hx hb dX3_alone_13 (by decide) (fun c_122 => ?_) (fun c_122 => ?_)
    · refine lv_aload_n hx hb dX3_alone_21 rfl (lv_at hl 0 rfl) ?_
      refine lv_ldc (v := (-1000000001)) hx hb hown (hts _ q1079) dX3_alone_22 ?_
      refine cv_W1 (rest := []) hc (M_finds l hW (-1000000001) 0 (ix_eq (k := 0) (by decide) (by decide) (by decide))) (lw_V q1075 q1077 qs28 q70 q1078) nd_X3_finds ⟨Nat.le_of_ble_eq_true rfl, Nat.le_of_ble_eq_true rfl⟩ (MW.recv hK hW) rfl hl.1 rfl (Nat.le_of_ble_eq_true rfl) dX3_alone_24 ⟨Nat.le_of_ble_eq_true rfl, Nat.le_of_ble_eq_true rfl⟩ hS (fun _ h => h) (fun H locs hW hS hz hk => ?_)
      exact ri_W hx hb hr hlk hS (by simp only [aloneM, if_pos c_121, if_neg c_122]) (by simp only [aloneM, if_pos c_121, if_neg c_122]; exact MW.mp hW) dX3_alone_27
    · obtain ⟨j, hj, rfl⟩ := hO.exGap c_122
      have hltj : j < 20 := by have := hO.2.1; omega
      have hclj : (nI j).toNatClampNeg = j := nI_clamp (by omega)
      refine lv_iload_n hx hb dX3_alone_16 rfl (lv_at hl 1 rfl) ?_
      refine lv_iload_n hx hb dX3_alone_17 rfl (lv_at hl 2 rfl) ?_
      refine lv_icmp_ne (tgt := 28) hx hb dX3_alone_18 (by decide) (fun c_123 => ?_) (fun c_123 => ?_)
      · obtain ⟨a0, b0, n0, z0, hW⟩ := AX.of hW
        rw [← upA_self (f := f) (k := 0)] at hW
        refine lv_aload_n hx hb dX3_alone_28 rfl (lv_at hl 0 rfl) ?_
        refine cv_W0 (rest := []) hc (M_restsX l hW (R := R) (N := N) hO) (lw_V q1233 q1235 qs51 q70 q1236) nd_X3_rests ⟨Nat.le_of_ble_eq_true rfl, Nat.le_of_ble_eq_true rfl⟩ (MW.recv hK hW) rfl hl.1 rfl (Nat.le_of_ble_eq_true rfl) dX3_alone_29 ⟨Nat.le_of_ble_eq_true rfl, Nat.le_of_ble_eq_true rfl⟩ hS (fun _ h => h) (fun H locs hq hS hz hk => ?_)
        obtain ⟨b_124, hW⟩ := hq
        have hW : AR G A (upA f 0 (f 0)) g ad b_124 H := hW
        refine lv_aload_n hx hb dX3_alone_32 rfl (lv_at hl 0 rfl) ?_
        refine lv_iload_n hx hb dX3_alone_33 rfl (lv_at hl 1 rfl) ?_
        refine cv_R1 (rest := []) hc (M_flowOf l hW (R := R) (N := N) hO i (by omega)) (lw_V q1249 q1251 qs54 q70 q1252) nd_X3_flowOf ⟨Nat.le_of_ble_eq_true rfl, Nat.le_of_ble_eq_true rfl⟩ (MW.recv hK hW) rfl hl.1 rfl (Nat.le_of_ble_eq_true rfl) dX3_alone_34 ⟨Nat.le_of_ble_eq_true rfl, Nat.le_of_ble_eq_true rfl⟩ ?_
        refine sm_topi (v := flowQ (f 0) (prP (f 0)) i) rfl ?_
        refine sm_topi (v := flowP (f 0) i) rfl ?_
        refine lv_istore_n (lv' := [(3, .int (flowP (f 0) i)), (0, .ref (ad 23)), (1, .int (nI i)), (2, .int (nI j))]) hx hb dX3_alone_37 rfl hl (by decide) rfl (fun ls hl => ?_)
        refine lv_aload_n hx hb dX3_alone_38 rfl (lv_at hl 1 rfl) ?_
        refine lv_iload_n hx hb dX3_alone_39 rfl (lv_at hl 3 rfl) ?_
        refine lv_bipush (v := 7) hx hb dX3_alone_40 (by decide) ?_
        refine cv_R1 (rest := []) hc (M_has l hW j 7 (by omega)) (lw_V q1110 q1112 qs33 q70 q1113) nd_X3_has ⟨Nat.le_of_ble_eq_true rfl, Nat.le_of_ble_eq_true rfl⟩ (MW.recv hK hW) rfl hl.1 rfl (Nat.le_of_ble_eq_true rfl) dX3_alone_42 ⟨Nat.le_of_ble_eq_true rfl, Nat.le_of_ble_eq_true rfl⟩ ?_
        refine sm_topi (v := f 0 (gp j 7)) rfl ?_
        refine lv_istore (lv' := [(4, .int (f 0 (gp j 7))), (3, .int (flowP (f 0) i)), (0, .ref (ad 23)), (1, .int (nI i)), (2, .int (nI j))]) hx hb dX3_alone_45 hl (by decide) rfl (fun ls hl => ?_)
        refine lv_aload_n hx hb dX3_alone_47 rfl (lv_at hl 2 rfl) ?_
        refine lv_iconst (v := 1) hx hb dX3_alone_48 (by decide) ?_
        refine lv_iload_n hx hb dX3_alone_49 rfl (lv_at hl 4 rfl) ?_
        refine lv_ishl hx hb dX3_alone_50 ?_
        refine lv_iconst (v := 1) hx hb dX3_alone_51 (by decide) ?_
        refine cv_W0 (rest := []) hc (M_shutsX l hW (R := R) (N := N) hO (1 <<< ((nI j) &&& 31)) 1) (lw_V q1330 q1332 qs62 q70 q1333) nd_X3_shuts ⟨Nat.le_of_ble_eq_true rfl, Nat.le_of_ble_eq_true rfl⟩ (MW.recv hK hW) rfl hl.1 rfl (Nat.le_of_ble_eq_true rfl) dX3_alone_52 ⟨Nat.le_of_ble_eq_true rfl, Nat.le_of_ble_eq_true rfl⟩ hS (fun _ h => h) (fun H locs hW hS hz hk => ?_)
        rw [shN_one hj hO.2.1] at hW
        have hO1 : OkN (upd (f 0) (gp j 7) 1) R N := OkN_shut hO (Or.inr rfl)
        refine lv_aload_n hx hb dX3_alone_55 rfl (lv_at hl 2 rfl) ?_
        refine cv_W0 (rest := []) hc (M_restsX l hW (R := R) (N := N) hO1) (lw_V q1233 q1235 qs51 q70 q1236) nd_X3_rests ⟨Nat.le_of_ble_eq_true rfl, Nat.le_of_ble_eq_true rfl⟩ (MW.recv hK hW) rfl hl.1 rfl (Nat.le_of_ble_eq_true rfl) dX3_alone_56 ⟨Nat.le_of_ble_eq_true rfl, Nat.le_of_ble_eq_true rfl⟩ hS (fun _ h => h) (fun H locs hq hS hz hk => ?_)
        obtain ⟨b_125, hW⟩ := hq
        have hW : AR G A (upA f 0 (upd (f 0) (gp j 7) 1)) g ad b_125 H := hW
        refine lv_aload_n hx hb dX3_alone_59 rfl (lv_at hl 2 rfl) ?_
        refine lv_iload_n hx hb dX3_alone_60 rfl (lv_at hl 3 rfl) ?_
        refine cv_R1 (rest := []) hc (M_flowOf l hW (R := R) (N := N) hO1 i (by omega)) (lw_V q1249 q1251 qs54 q70 q1252) nd_X3_flowOf ⟨Nat.le_of_ble_eq_true rfl, Nat.le_of_ble_eq_true rfl⟩ (MW.recv hK hW) rfl hl.1 rfl (Nat.le_of_ble_eq_true rfl) dX3_alone_61 ⟨Nat.le_of_ble_eq_true rfl, Nat.le_of_ble_eq_true rfl⟩ ?_
        refine sm_topi (v := flowQ (upd (f 0) (gp j 7) 1) (prP (upd (f 0) (gp j 7) 1)) i) rfl ?_
        refine sm_topi (v := flowP (upd (f 0) (gp j 7) 1) i) rfl ?_
        refine lv_iload_n hx hb dX3_alone_64 rfl (lv_at hl 1 rfl) ?_
        refine lv_isub hx hb dX3_alone_65 ?_
        refine lv_istore (lv' := [(5, .int ((flowP (upd (f 0) (gp j 7) 1) i) - (flowP (f 0) i))), (4, .int (f 0 (gp j 7))), (3, .int (flowP (f 0) i)), (0, .ref (ad 23)), (1, .int (nI i)), (2, .int (nI j))]) hx hb dX3_alone_66 hl (by decide) rfl (fun ls hl => ?_)
        refine lv_aload_n hx hb dX3_alone_68 rfl (lv_at hl 3 rfl) ?_
        refine lv_iconst (v := 1) hx hb dX3_alone_69 (by decide) ?_
        refine lv_iload_n hx hb dX3_alone_70 rfl (lv_at hl 5 rfl) ?_
        refine lv_ishl hx hb dX3_alone_71 ?_
        refine lv_iload hx hb dX3_alone_72 (lv_at hl 1 rfl) ?_
        refine cv_W0 (rest := []) hc (M_shutsX l hW (R := R) (N := N) hO1 (1 <<< ((nI j) &&& 31)) (f 0 (gp j 7))) (lw_V q1330 q1332 qs62 q70 q1333) nd_X3_shuts ⟨Nat.le_of_ble_eq_true rfl, Nat.le_of_ble_eq_true rfl⟩ (MW.recv hK hW) rfl hl.1 rfl (Nat.le_of_ble_eq_true rfl) dX3_alone_74 ⟨Nat.le_of_ble_eq_true rfl, Nat.le_of_ble_eq_true rfl⟩ hS (fun _ h => h) (fun H locs hW hS hz hk => ?_)
        rw [shN_one hj hO.2.1, upd_upd, upd_self, upA_self] at hW
        refine lv_iload hx hb dX3_alone_77 (lv_at hl 0 rfl) ?_
        exact ri_W hx hb hr hlk hS (by simp only [aloneM, if_pos c_121, if_pos c_122, if_neg c_123, hcli, hclj]) (by simp only [aloneM, if_pos c_121, if_pos c_122, if_neg c_123]; exact AX.mp ⟨_, _, _, _, hW⟩) dX3_alone_79
      · refine lv_aload_n hx hb dX3_alone_21 rfl (lv_at hl 0 rfl) ?_
        refine lv_ldc (v := (-1000000001)) hx hb hown (hts _ q1079) dX3_alone_22 ?_
        refine cv_W1 (rest := []) hc (M_finds l hW (-1000000001) 0 (ix_eq (k := 0) (by decide) (by decide) (by decide))) (lw_V q1075 q1077 qs28 q70 q1078) nd_X3_finds ⟨Nat.le_of_ble_eq_true rfl, Nat.le_of_ble_eq_true rfl⟩ (MW.recv hK hW) rfl hl.1 rfl (Nat.le_of_ble_eq_true rfl) dX3_alone_24 ⟨Nat.le_of_ble_eq_true rfl, Nat.le_of_ble_eq_true rfl⟩ hS (fun _ h => h) (fun H locs hW hS hz hk => ?_)
        exact ri_W hx hb hr hlk hS (by simp only [aloneM, if_pos c_121, if_pos c_122, if_pos c_123]) (by simp only [aloneM, if_pos c_121, if_pos c_122, if_pos c_123]; exact MW.mp hW) dX3_alone_27
/-- the gaps, of the first n, whose lean turns between two rows -/
def trN (s s1 : Nat → Int32) : Nat → Int32
  | 0 => 0
  | n + 1 => trN s s1 n ||| (if 0 ≤ leanP s n * leanP s1 n then (0 : Int32) else (1 : Int32) <<< (nI n &&& 31))
def turnsM (f : Nat → Nat → Int32) (x : Int32) : Int32 × (Nat → Nat → Int32) :=
  if 0 ≤ x ∧ x ≤ f 0 1 - 1 then (trN (f 0) (upd (f 0) (gp x.toNatClampNeg 7) 1) (f 0 1).toNatClampNeg, f) else BEY f
theorem nd_X3_turns : yX3_turns.cls = "SmokeLeansModel" ∧ yX3_turns.cls ≠ "java/lang/invoke/MethodHandle" ∧ yX3_turns.cls ≠ "java/lang/invoke/VarHandle" ∧ (parseMethodDescriptor yX3_turns.desc).map (fun d => d.parameters.length) = some 1 := by decide +kernel
set_option maxHeartbeats 4000000 in
theorem M_turns (l : Launch) {G : GD} {A : Nat → Prop} {f : Nat → Nat → Int32} {g : Nat → Nat → Int64} {ad : Nat → Nat} {H0 : Heap} (hW : MW G A f g ad H0) {R N : Nat} (hO : OkN (f 0) R N) (x : Int32) : MetW l G yX3_turns cX3_turns 5 (some .int) 5 0 0 A [.ref (ad 23), .int x] H0 (some (.int ((turnsM f x).1))) (fun H => MP G A (turnsM f x).2 g ad H) := by
  refine mx_of (by decide) (Nat.le_of_ble_eq_true rfl) ?_
  intro p e s m below meth c hx hb hr hc hlk hnm hs0 ls hl
  subst hs0
  have hown := hc.2.2.2.1
  have hts := hc.2.2.2.2.1
  have hK := hc.2.2.2.2.2
  have hl : lv_has ls 5 [(0, .ref (ad 23)), (1, .int x)] := hl
  have hS : va_S A s.heap s.heap [] := va_S.rf
  refine lv_aload_n hx hb dX3_turns_0 rfl (lv_at hl 0 rfl) ?_
  refine lv_iload_n hx hb dX3_turns_1 rfl (lv_at hl 1 rfl) ?_
  refine cv_R1 (rest := []) hc (M_isGap l hW x) (lw_V q1105 q1107 qs32 q70 q1108) nd_X3_isGap ⟨Nat.le_of_ble_eq_true rfl, Nat.le_of_ble_eq_true rfl⟩ (MW.recv hK hW) rfl hl.1 rfl (Nat.le_of_ble_eq_true rfl) dX3_turns_2 ⟨Nat.le_of_ble_eq_true rfl, Nat.le_of_ble_eq_true rfl⟩ ?_
  refine bi_ne (tgt := 15) hx hb dX3_turns_5 (by decide) (fun c_126 => ?_) (fun c_126 => ?_)
  · obtain ⟨i, hi, rfl⟩ := hO.exGap c_126
    have hlti : i < 20 := by have := hO.2.1; omega
    have hcli : (nI i).toNatClampNeg = i := nI_clamp (by omega)
    obtain ⟨a0, b0, n0, z0, hW⟩ := AX.of hW
    rw [← upA_self (f := f) (k := 0)] at hW
    refine lv_aload_n hx hb dX3_turns_15 rfl (lv_at hl 0 rfl) ?_
    refine cv_W0 (rest := []) hc (M_restsX l hW (R := R) (N := N) hO) (lw_V q1233 q1235 qs51 q70 q1236) nd_X3_rests ⟨Nat.le_of_ble_eq_true rfl, Nat.le_of_ble_eq_true rfl⟩ (MW.recv hK hW) rfl hl.1 rfl (Nat.le_of_ble_eq_true rfl) dX3_turns_16 ⟨Nat.le_of_ble_eq_true rfl, Nat.le_of_ble_eq_true rfl⟩ hS (fun _ h => h) (fun H locs hq hS hz hk => ?_)
    obtain ⟨b_127, hW⟩ := hq
    have hW : AR G A (upA f 0 (f 0)) g ad b_127 H := hW
    refine lv_iconst (v := 0) hx hb dX3_turns_19 (by decide) ?_
    refine lv_istore_n (lv' := [(2, .int 0), (0, .ref (ad 23)), (1, .int (nI i))]) hx hb dX3_turns_20 rfl hl (by decide) rfl (fun ls hl => ?_)
    refine w_loopH (σ := Nat) (fun n H locs cells slots fr => cells = 0 ∧ slots = 0 ∧ (∃ ls, fr = F0 m 21 ls [] ∧ lv_has ls 5 [(2, .int (nI n)), (0, .ref (ad 23)), (1, .int (nI i))]) ∧ va_S A s.heap H locs ∧ (n ≤ N ∧ ∃ f1, Jk f f1 ∧ (∀ j, j < n → f1 18 j = leanP (f 0) j) ∧ AR G A (upA f1 0 (f 0)) g ad b_127 H)) (fun n => N - n) 0 ⟨rfl, rfl, ⟨ls, rfl, lv_sub hl [0, 1, 2] rfl⟩, hS, ⟨Nat.zero_le _, f, Jk.rf, fun _ h => absurd h (Nat.not_lt_zero _), hW⟩⟩ ?_
    intro n H locs cells slots fr hI ih
    obtain ⟨rfl, rfl, ⟨ls, rfl, hl⟩, hS, ⟨hle, f1, hj, h18, hW⟩⟩ := hI
    have hii : i < N := hi
    by_cases hn : n < N
    · have hn20 : n < 20 := by have := hO.2.1; omega
      refine lv_iload_n hx hb dX3_turns_21 rfl (lv_at hl 0 rfl) ?_
      refine lv_aload_n hx hb dX3_turns_22 rfl (lv_at hl 1 rfl) ?_
      refine m_get hc hW 0 (by decide) rfl q1000 rfl rfl dX3_turns_23 ?_
      refine lv_iconst (v := 1) hx hb dX3_turns_26 (by decide) ?_
      refine m_ild hc hW 0 rfl (n := 169) rfl (ix_eq (k := 1) rfl (by decide) (by decide)) dX3_turns_27 ?_
      refine sm_topi (v := (f 0) 1) rfl ?_
      refine sm_topi (v := nI N) (hO.2.2.2.1) ?_
      refine lv_icmp_ge (tgt := 48) hx hb dX3_turns_28 (by decide) (fun h => absurd h (nI_ge hn (by have := hO.2.1; omega))) (fun _ => ?_)
      refine lv_aload_n hx hb dX3_turns_31 rfl (lv_at hl 1 rfl) ?_
      refine m_get hc hW 18 (by decide) rfl q1018 rfl rfl dX3_turns_32 ?_
      refine lv_iload_n hx hb dX3_turns_35 rfl (lv_at hl 0 rfl) ?_
      refine lv_aload_n hx hb dX3_turns_36 rfl (lv_at hl 1 rfl) ?_
      refine lv_iload_n hx hb dX3_turns_37 rfl (lv_at hl 0 rfl) ?_
      refine cv_R1 (rest := [.int (nI n), .ref (ad 18)]) hc (M_leanOf l hW (R := R) (N := N) hO n (by omega)) (lw_V q1257 q1259 qs55 q70 q1260) nd_X3_leanOf ⟨Nat.le_of_ble_eq_true rfl, Nat.le_of_ble_eq_true rfl⟩ (MW.recv hK hW) rfl hl.1 rfl (Nat.le_of_ble_eq_true rfl) dX3_turns_38 ⟨Nat.le_of_ble_eq_true rfl, Nat.le_of_ble_eq_true rfl⟩ ?_
      refine sm_topi (v := leanV (flowQ (f 0) (prP (f 0)) n)) rfl ?_
      refine sm_topi (v := leanP (f 0) n) rfl ?_
      refine m_ist hc hW hS 18 rfl (n := 20) rfl (ix_nI (by omega) (by decide)) dX3_turns_41 (fun H locs hW hS hz => ?_)
      refine lv_iinc (v := nI (n + 1)) (lv' := [(2, .int (nI (n + 1))), (0, .ref (ad 23)), (1, .int (nI i))]) hx hb dX3_turns_42 hl (k := 0) rfl (nI_1 _) (by decide) rfl (fun ls hl => ?_)
      refine lv_goto (tgt := 21) hx hb dX3_turns_45 (by decide) ?_
      rw [airF_upJ (by decide), upA_up2 (by decide)] at hW
      refine ih (n + 1) _ _ _ _ _ ⟨rfl, rfl, ⟨ls, rfl, lv_sub hl [0, 1, 2] rfl⟩, hS, hn, up2 f1 18 n (leanP (f 0) n), Jk.tr hj ⟨up2_ne (by decide), up2_ne (by decide), up2_ne (by decide), up2_ne (by decide), up2_ne (by decide), up2_ne (by decide), up2_ne (by decide), up2_ne (by decide)⟩, ?_, hW⟩ (by omega)
      intro j hjn
      by_cases q : j = n
      · subst q; exact up2_at
      · rw [up2_ne2 q]; exact h18 j (by omega)
    · refine lv_iload_n hx hb dX3_turns_21 rfl (lv_at hl 0 rfl) ?_
      refine lv_aload_n hx hb dX3_turns_22 rfl (lv_at hl 1 rfl) ?_
      refine m_get hc hW 0 (by decide) rfl q1000 rfl rfl dX3_turns_23 ?_
      refine lv_iconst (v := 1) hx hb dX3_turns_26 (by decide) ?_
      refine m_ild hc hW 0 rfl (n := 169) rfl (ix_eq (k := 1) rfl (by decide) (by decide)) dX3_turns_27 ?_
      refine sm_topi (v := (f 0) 1) rfl ?_
      refine sm_topi (v := nI N) (hO.2.2.2.1) ?_
      refine lv_icmp_ge (tgt := 48) hx hb dX3_turns_28 (by decide) (fun _ => ?_) (fun h => absurd (nI_le (by omega) (by have := hO.2.1; omega)) h)
      refine lv_aload_n hx hb dX3_turns_48 rfl (lv_at hl 1 rfl) ?_
      refine lv_iload_n hx hb dX3_turns_49 rfl (lv_at hl 2 rfl) ?_
      refine lv_bipush (v := 7) hx hb dX3_turns_50 (by decide) ?_
      refine cv_R1 (rest := []) hc (M_has l hW i 7 (by omega)) (lw_V q1110 q1112 qs33 q70 q1113) nd_X3_has ⟨Nat.le_of_ble_eq_true rfl, Nat.le_of_ble_eq_true rfl⟩ (MW.recv hK hW) rfl hl.1 rfl (Nat.le_of_ble_eq_true rfl) dX3_turns_52 ⟨Nat.le_of_ble_eq_true rfl, Nat.le_of_ble_eq_true rfl⟩ ?_
      refine sm_topi (v := f 0 (gp i 7)) rfl ?_
      refine lv_istore_n (lv' := [(2, .int (f 0 (gp i 7))), (0, .ref (ad 23)), (1, .int (nI i))]) hx hb dX3_turns_55 rfl hl (by decide) rfl (fun ls hl => ?_)
      refine lv_aload_n hx hb dX3_turns_56 rfl (lv_at hl 1 rfl) ?_
      refine lv_iconst (v := 1) hx hb dX3_turns_57 (by decide) ?_
      refine lv_iload_n hx hb dX3_turns_58 rfl (lv_at hl 2 rfl) ?_
      refine lv_ishl hx hb dX3_turns_59 ?_
      refine lv_iconst (v := 1) hx hb dX3_turns_60 (by decide) ?_
      refine cv_W0 (rest := []) hc (M_shutsX l hW (R := R) (N := N) hO (1 <<< ((nI i) &&& 31)) 1) (lw_V q1330 q1332 qs62 q70 q1333) nd_X3_shuts ⟨Nat.le_of_ble_eq_true rfl, Nat.le_of_ble_eq_true rfl⟩ (MW.recv hK hW) rfl hl.1 rfl (Nat.le_of_ble_eq_true rfl) dX3_turns_61 ⟨Nat.le_of_ble_eq_true rfl, Nat.le_of_ble_eq_true rfl⟩ hS (fun _ h => h) (fun H locs hW hS hz hk => ?_)
      rw [shN_one hii hO.2.1] at hW
      have hO1 : OkN (upd (f 0) (gp i 7) 1) R N := OkN_shut hO (Or.inr rfl)
      refine lv_aload_n hx hb dX3_turns_64 rfl (lv_at hl 1 rfl) ?_
      refine cv_W0 (rest := []) hc (M_restsX l hW (R := R) (N := N) hO1) (lw_V q1233 q1235 qs51 q70 q1236) nd_X3_rests ⟨Nat.le_of_ble_eq_true rfl, Nat.le_of_ble_eq_true rfl⟩ (MW.recv hK hW) rfl hl.1 rfl (Nat.le_of_ble_eq_true rfl) dX3_turns_65 ⟨Nat.le_of_ble_eq_true rfl, Nat.le_of_ble_eq_true rfl⟩ hS (fun _ h => h) (fun H locs hq hS hz hk => ?_)
      obtain ⟨b_128, hW⟩ := hq
      have hW : AR G A (upA f1 0 (upd (f 0) (gp i 7) 1)) g ad b_128 H := hW
      refine lv_iconst (v := 0) hx hb dX3_turns_68 (by decide) ?_
      refine lv_istore_n (lv' := [(3, .int 0), (2, .int (f 0 (gp i 7))), (0, .ref (ad 23)), (1, .int (nI i))]) hx hb dX3_turns_69 rfl hl (by decide) rfl (fun ls hl => ?_)
      refine lv_iconst (v := 0) hx hb dX3_turns_70 (by decide) ?_
      refine lv_istore (lv' := [(4, .int 0), (3, .int 0), (2, .int (f 0 (gp i 7))), (0, .ref (ad 23)), (1, .int (nI i))]) hx hb dX3_turns_71 hl (by decide) rfl (fun ls hl => ?_)
      refine w_loop (σ := Nat) (fun k fr => ∃ ls, fr = F0 m 73 ls [] ∧ lv_has ls 5 [(4, .int (nI k)), (3, .int (trN (f 0) (upd (f 0) (gp i 7) 1) k)), (2, .int (f 0 (gp i 7))), (0, .ref (ad 23)), (1, .int (nI i))] ∧ (k ≤ N)) (fun k => N - k) 0 ⟨ls, rfl, lv_sub hl [0, 1, 2, 3, 4] rfl, Nat.zero_le _⟩ ?_
      intro k fr hI ih
      obtain ⟨ls, rfl, hl, hinv⟩ := hI
      by_cases hk2 : k < N
      · have hk20 : k < 20 := by have := hO.2.1; omega
        refine lv_iload hx hb dX3_turns_73 (lv_at hl 0 rfl) ?_
        refine lv_aload_n hx hb dX3_turns_75 rfl (lv_at hl 3 rfl) ?_
        refine m_get hc hW 0 (by decide) rfl q1000 rfl rfl dX3_turns_76 ?_
        refine lv_iconst (v := 1) hx hb dX3_turns_79 (by decide) ?_
        refine m_ild hc hW 0 rfl (n := 169) rfl (ix_eq (k := 1) rfl (by decide) (by decide)) dX3_turns_80 ?_
        refine sm_topi (v := (upd (f 0) (gp i 7) 1) 1) rfl ?_
        refine sm_topi (v := nI N) (hO1.2.2.2.1) ?_
        refine lv_icmp_ge (tgt := 118) hx hb dX3_turns_81 (by decide) (fun h => absurd h (nI_ge hk2 (by have := hO.2.1; omega))) (fun _ => ?_)
        refine lv_iload_n hx hb dX3_turns_84 rfl (lv_at hl 1 rfl) ?_
        refine lv_aload_n hx hb dX3_turns_85 rfl (lv_at hl 3 rfl) ?_
        refine m_get hc hW 18 (by decide) rfl q1018 rfl rfl dX3_turns_86 ?_
        refine lv_iload hx hb dX3_turns_89 (lv_at hl 0 rfl) ?_
        refine m_ild hc hW 18 rfl (n := 20) rfl (ix_nI (by omega) (by decide)) dX3_turns_91 ?_
        refine sm_topi (v := f1 18 k) rfl ?_
        refine sm_topi (v := leanP (f 0) k) (h18 k (by omega)) ?_
        refine lv_aload_n hx hb dX3_turns_92 rfl (lv_at hl 3 rfl) ?_
        refine lv_iload hx hb dX3_turns_93 (lv_at hl 0 rfl) ?_
        refine cv_R1 (rest := [.int (leanP (f 0) k), .int (trN (f 0) (upd (f 0) (gp i 7) 1) k)]) hc (M_leanOf l hW (R := R) (N := N) hO1 k (by omega)) (lw_V q1257 q1259 qs55 q70 q1260) nd_X3_leanOf ⟨Nat.le_of_ble_eq_true rfl, Nat.le_of_ble_eq_true rfl⟩ (MW.recv hK hW) rfl hl.1 rfl (Nat.le_of_ble_eq_true rfl) dX3_turns_95 ⟨Nat.le_of_ble_eq_true rfl, Nat.le_of_ble_eq_true rfl⟩ ?_
        refine sm_topi (v := leanV (flowQ (upd (f 0) (gp i 7) 1) (prP (upd (f 0) (gp i 7) 1)) k)) rfl ?_
        refine sm_topi (v := leanP (upd (f 0) (gp i 7) 1) k) rfl ?_
        refine lv_imul hx hb dX3_turns_98 ?_
        refine lv_if_ge (tgt := 109) hx hb dX3_turns_99 (by decide) (fun c_129 => ?_) (fun c_129 => ?_)
        · refine lv_iconst (v := 0) hx hb dX3_turns_109 (by decide) ?_
          refine lv_ior hx hb dX3_turns_110 ?_
          refine lv_istore_n (lv' := [(3, .int ((trN (f 0) (upd (f 0) (gp i 7) 1) k) ||| 0)), (4, .int (nI k)), (2, .int (f 0 (gp i 7))), (0, .ref (ad 23)), (1, .int (nI i))]) hx hb dX3_turns_111 rfl hl (by decide) rfl (fun ls hl => ?_)
          refine lv_iinc (v := nI (k + 1)) (lv' := [(4, .int (nI (k + 1))), (3, .int ((trN (f 0) (upd (f 0) (gp i 7) 1) k) ||| 0)), (2, .int (f 0 (gp i 7))), (0, .ref (ad 23)), (1, .int (nI i))]) hx hb dX3_turns_112 hl (k := 1) rfl (nI_1 _) (by decide) rfl (fun ls hl => ?_)
          refine lv_goto (tgt := 73) hx hb dX3_turns_115 (by decide) ?_
          refine ih (k + 1) _ ⟨ls, rfl, ?_, hk2⟩ (by omega)
          rw [show trN (f 0) (upd (f 0) (gp i 7) 1) (k + 1) = (trN (f 0) (upd (f 0) (gp i 7) 1) k) ||| 0 from by simp only [trN, if_pos c_129]]
          exact lv_sub hl [0, 1, 2, 3, 4] rfl
        · refine lv_iconst (v := 1) hx hb dX3_turns_102 (by decide) ?_
          refine lv_iload hx hb dX3_turns_103 (lv_at hl 0 rfl) ?_
          refine lv_ishl hx hb dX3_turns_105 ?_
          refine lv_goto (tgt := 110) hx hb dX3_turns_106 (by decide) ?_
          refine lv_ior hx hb dX3_turns_110 ?_
          refine lv_istore_n (lv' := [(3, .int ((trN (f 0) (upd (f 0) (gp i 7) 1) k) ||| (1 <<< ((nI k) &&& 31)))), (4, .int (nI k)), (2, .int (f 0 (gp i 7))), (0, .ref (ad 23)), (1, .int (nI i))]) hx hb dX3_turns_111 rfl hl (by decide) rfl (fun ls hl => ?_)
          refine lv_iinc (v := nI (k + 1)) (lv' := [(4, .int (nI (k + 1))), (3, .int ((trN (f 0) (upd (f 0) (gp i 7) 1) k) ||| (1 <<< ((nI k) &&& 31)))), (2, .int (f 0 (gp i 7))), (0, .ref (ad 23)), (1, .int (nI i))]) hx hb dX3_turns_112 hl (k := 1) rfl (nI_1 _) (by decide) rfl (fun ls hl => ?_)
          refine lv_goto (tgt := 73) hx hb dX3_turns_115 (by decide) ?_
          refine ih (k + 1) _ ⟨ls, rfl, ?_, hk2⟩ (by omega)
          rw [show trN (f 0) (upd (f 0) (gp i 7) 1) (k + 1) = (trN (f 0) (upd (f 0) (gp i 7) 1) k) ||| (1 <<< ((nI k) &&& 31)) from by simp only [trN, if_neg c_129]]
          exact lv_sub hl [0, 1, 2, 3, 4] rfl
      · have hkN : k = N := by omega
        refine lv_iload hx hb dX3_turns_73 (lv_at hl 0 rfl) ?_
        refine lv_aload_n hx hb dX3_turns_75 rfl (lv_at hl 3 rfl) ?_
        refine m_get hc hW 0 (by decide) rfl q1000 rfl rfl dX3_turns_76 ?_
        refine lv_iconst (v := 1) hx hb dX3_turns_79 (by decide) ?_
        refine m_ild hc hW 0 rfl (n := 169) rfl (ix_eq (k := 1) rfl (by decide) (by decide)) dX3_turns_80 ?_
        refine sm_topi (v := (upd (f 0) (gp i 7) 1) 1) rfl ?_
        refine sm_topi (v := nI N) (hO1.2.2.2.1) ?_
        refine lv_icmp_ge (tgt := 118) hx hb dX3_turns_81 (by decide) (fun _ => ?_) (fun h => absurd (nI_le (by omega) (by have := hO.2.1; omega)) h)
        refine lv_aload_n hx hb dX3_turns_118 rfl (lv_at hl 3 rfl) ?_
        refine lv_iconst (v := 1) hx hb dX3_turns_119 (by decide) ?_
        refine lv_iload_n hx hb dX3_turns_120 rfl (lv_at hl 4 rfl) ?_
        refine lv_ishl hx hb dX3_turns_121 ?_
        refine lv_iload_n hx hb dX3_turns_122 rfl (lv_at hl 2 rfl) ?_
        refine cv_W0 (rest := []) hc (M_shutsX l hW (R := R) (N := N) hO1 (1 <<< ((nI i) &&& 31)) (f 0 (gp i 7))) (lw_V q1330 q1332 qs62 q70 q1333) nd_X3_shuts ⟨Nat.le_of_ble_eq_true rfl, Nat.le_of_ble_eq_true rfl⟩ (MW.recv hK hW) rfl hl.1 rfl (Nat.le_of_ble_eq_true rfl) dX3_turns_123 ⟨Nat.le_of_ble_eq_true rfl, Nat.le_of_ble_eq_true rfl⟩ hS (fun _ h => h) (fun H locs hW hS hz hk => ?_)
        rw [shN_one hii hO.2.1, upd_upd, upd_self] at hW
        refine lv_iload_n hx hb dX3_turns_126 rfl (lv_at hl 1 rfl) ?_
        exact ri_W hx hb hr hlk hS (by simp only [turnsM, if_pos c_126, hcli, hO.cl1, hkN]) (by simp only [turnsM, if_pos c_126]; exact AXj hj hW) dX3_turns_127
  · refine lv_aload_n hx hb dX3_turns_8 rfl (lv_at hl 0 rfl) ?_
    refine lv_ldc (v := (-1000000001)) hx hb hown (hts _ q1079) dX3_turns_9 ?_
    refine cv_W1 (rest := []) hc (M_finds l hW (-1000000001) 0 (ix_eq (k := 0) (by decide) (by decide) (by decide))) (lw_V q1075 q1077 qs28 q70 q1078) nd_X3_finds ⟨Nat.le_of_ble_eq_true rfl, Nat.le_of_ble_eq_true rfl⟩ (MW.recv hK hW) rfl hl.1 rfl (Nat.le_of_ble_eq_true rfl) dX3_turns_11 ⟨Nat.le_of_ble_eq_true rfl, Nat.le_of_ble_eq_true rfl⟩ hS (fun _ h => h) (fun H locs hW hS hz hk => ?_)
    exact ri_W hx hb hr hlk hS (by simp only [turnsM, if_neg c_126]) (by simp only [turnsM, if_neg c_126]; exact MW.mp hW) dX3_turns_14
