/-! the reference's methods, 14: tokens -/
set_option maxRecDepth 100000
section SMW
variable {p : Program} {l : Launch} {e : Env} {R : Room} {s : State} {m : MethodId} {args : Array Value} {below : List Frame} {meth : Method} {c : Code} {H : Heap} {locs : List Loc} {cells slots : Nat} {Q : State → Prop} {fr0 : JFrame}
/-- a tail that several ways come to, each with its own heap -/
theorem w_tail {σ : Type} (I : σ → Heap → List Loc → JFrame → Prop) (tail : ∀ (x : σ) (H' : Heap) (locs' : List Loc) (fr : JFrame), I x H' locs' fr → W p l e R s m args below meth c H' locs' cells slots Q fr)
    (k : (∀ (x : σ) (H' : Heap) (locs' : List Loc) (fr : JFrame), I x H' locs' fr → W p l e R s m args below meth c H' locs' cells slots Q fr) → W p l e R s m args below meth c H locs cells slots Q fr0) : W p l e R s m args below meth c H locs cells slots Q fr0 := k tail
end SMW
theorem nd_X3_byteAt : yX3_byteAt.cls = "SmokeLeansModel" ∧ yX3_byteAt.cls ≠ "java/lang/invoke/MethodHandle" ∧ yX3_byteAt.cls ≠ "java/lang/invoke/VarHandle" ∧ (parseMethodDescriptor yX3_byteAt.desc).map (fun d => d.parameters.length) = some 1 := by decide +kernel
set_option maxHeartbeats 4000000 in
theorem M_byteAt (l : Launch) {G : GD} {A : Nat → Prop} {f : Nat → Nat → Int32} {g : Nat → Nat → Int64} {ad : Nat → Nat} {H0 : Heap} (hW : MW G A f g ad H0) {T : Nat} (hT : f 6 0 = nI T) (hT1 : T ≤ 120) (k : Nat) (hk : k < 2 ^ 31) : MetR l G yX3_byteAt cX3_byteAt 2 (some .int) 0 [.ref (ad 23), .int (nI k)] H0 (some (.int (bA (f 5) T k))) := by
  refine mx_of (by decide) (Nat.le_of_ble_eq_true rfl) ?_
  intro p e s m below meth c hx hb hr hc hlk hnm hs0 ls hl
  subst hs0
  have hown := hc.2.2.2.1
  have hts := hc.2.2.2.2.1
  have hK := hc.2.2.2.2.2
  have hl : lv_has ls 2 [(0, .ref (ad 23)), (1, .int (nI k))] := hl
  refine lv_iload_n hx hb dX3_byteAt_0 rfl (lv_at hl 1 rfl) ?_
  refine lv_aload_n hx hb dX3_byteAt_1 rfl (lv_at hl 0 rfl) ?_
  refine m_get hc hW 6 (by decide) rfl q1006 rfl rfl dX3_byteAt_2 ?_
  refine sm_topi (v := nI T) hT ?_
  by_cases hkT : k < T
  · refine lv_icmp_ge (tgt := 17) hx hb dX3_byteAt_5 (by decide) (fun h => absurd h (nI_ge hkT (by omega))) (fun _ => ?_)
    refine lv_aload_n hx hb dX3_byteAt_8 rfl (lv_at hl 0 rfl) ?_
    refine m_get hc hW 5 (by decide) rfl q1005 rfl rfl dX3_byteAt_9 ?_
    refine lv_iload_n hx hb dX3_byteAt_12 rfl (lv_at hl 1 rfl) ?_
    refine m_ild hc hW 5 rfl (n := 120) rfl (ix_nI (by omega) (by decide)) dX3_byteAt_13 ?_
    refine lv_goto (tgt := 18) hx hb dX3_byteAt_14 (by decide) ?_
    exact ri_R hx hb hr hlk (by rw [bA, if_pos hkT]) dX3_byteAt_18
  · refine lv_icmp_ge (tgt := 17) hx hb dX3_byteAt_5 (by decide) (fun _ => ?_) (fun h => absurd (nI_le (by omega) hk) h)
    refine lv_iconst (v := (-1)) hx hb dX3_byteAt_17 (by decide) ?_
    exact ri_R hx hb hr hlk (by rw [bA, if_neg hkT]) dX3_byteAt_18
theorem nd_X3_isLetter : yX3_isLetter.cls ≠ "java/lang/invoke/MethodHandle" ∧ yX3_isLetter.cls ≠ "java/lang/invoke/VarHandle" ∧ (parseMethodDescriptor yX3_isLetter.desc).map (fun d => d.parameters.length) = some 1 := by decide +kernel
set_option maxHeartbeats 4000000 in
theorem M_isLetter (l : Launch) {G : GD} {H0 : Heap} (x : Int32) : MetR l G yX3_isLetter cX3_isLetter 1 (some .boolean) 1 [.int x] H0 (some (.int (b2i (isL x)))) := by
  refine mx_of (by decide) (Nat.le_of_ble_eq_true rfl) ?_
  intro p e s m below meth c hx hb hr hc hlk hnm hs0 ls hl
  subst hs0
  have hown := hc.2.2.2.1
  have hts := hc.2.2.2.2.1
  have hK := hc.2.2.2.2.2
  have hl : lv_has ls 1 [(0, .int x)] := hl
  refine lv_iload_n hx hb dX3_isLetter_0 rfl (lv_at hl 0 rfl) ?_
  refine lv_i2l hx hb dX3_isLetter_1 rfl ?_
  refine lv_ldc2 (v := 97) hx hb hown (hts _ q1178) dX3_isLetter_2 (sm_topl (v := (97 : Int32).toInt64) (by decide) ?_)
  refine lv_ldc2 (v := 122) hx hb hown (hts _ q1179) dX3_isLetter_5 (sm_topl (v := (122 : Int32).toInt64) (by decide) ?_)
  refine cs_R1 (rest := []) hc (M_in32 l x 97 122) (lw_S q1089 q1090 q70 q1091) nd_X3_in ⟨Nat.le_of_ble_eq_true rfl, Nat.le_of_ble_eq_true rfl⟩ rfl hl.1 rfl (Nat.le_of_ble_eq_true rfl) dX3_isLetter_8 ⟨Nat.le_of_ble_eq_true rfl, Nat.le_of_ble_eq_true rfl⟩ ?_
  exact rz_R hx hb hr hlk (rfl) dX3_isLetter_11
theorem nd_X3_isDigit : yX3_isDigit.cls ≠ "java/lang/invoke/MethodHandle" ∧ yX3_isDigit.cls ≠ "java/lang/invoke/VarHandle" ∧ (parseMethodDescriptor yX3_isDigit.desc).map (fun d => d.parameters.length) = some 1 := by decide +kernel
set_option maxHeartbeats 4000000 in
theorem M_isDigit (l : Launch) {G : GD} {H0 : Heap} (x : Int32) : MetR l G yX3_isDigit cX3_isDigit 1 (some .boolean) 1 [.int x] H0 (some (.int (b2i (isD x)))) := by
  refine mx_of (by decide) (Nat.le_of_ble_eq_true rfl) ?_
  intro p e s m below meth c hx hb hr hc hlk hnm hs0 ls hl
  subst hs0
  have hown := hc.2.2.2.1
  have hts := hc.2.2.2.2.1
  have hK := hc.2.2.2.2.2
  have hl : lv_has ls 1 [(0, .int x)] := hl
  refine lv_iload_n hx hb dX3_isDigit_0 rfl (lv_at hl 0 rfl) ?_
  refine lv_i2l hx hb dX3_isDigit_1 rfl ?_
  refine lv_ldc2 (v := 48) hx hb hown (hts _ q1183) dX3_isDigit_2 (sm_topl (v := (48 : Int32).toInt64) (by decide) ?_)
  refine lv_ldc2 (v := 57) hx hb hown (hts _ q1184) dX3_isDigit_5 (sm_topl (v := (57 : Int32).toInt64) (by decide) ?_)
  refine cs_R1 (rest := []) hc (M_in32 l x 48 57) (lw_S q1089 q1090 q70 q1091) nd_X3_in ⟨Nat.le_of_ble_eq_true rfl, Nat.le_of_ble_eq_true rfl⟩ rfl hl.1 rfl (Nat.le_of_ble_eq_true rfl) dX3_isDigit_8 ⟨Nat.le_of_ble_eq_true rfl, Nat.le_of_ble_eq_true rfl⟩ ?_
  exact rz_R hx hb hr hlk (rfl) dX3_isDigit_11
theorem nd_X3_next : yX3_next.cls = "SmokeLeansModel" ∧ yX3_next.cls ≠ "java/lang/invoke/MethodHandle" ∧ yX3_next.cls ≠ "java/lang/invoke/VarHandle" ∧ (parseMethodDescriptor yX3_next.desc).map (fun d => d.parameters.length) = some 0 := by decide +kernel
set_option maxHeartbeats 8000000 in
theorem M_next (l : Launch) {G : GD} {A : Nat → Prop} {f : Nat → Nat → Int32} {g : Nat → Nat → Int64} {ad : Nat → Nat} {H0 : Heap} {pp : PS} (hW : MW G A (psT f pp) g ad H0) {T : Nat} (hT : f 6 0 = nI T) (hT1 : T ≤ 120) (hB2 : pp.2.1 ≤ T)  : MetW l G yX3_next cX3_next 3 none 2 0 0 A [.ref (ad 23)] H0 none (fun H => MW G A (psT f (nextP (f 5) T pp)) g ad H) := by
  refine mx_of (by decide) (Nat.le_of_ble_eq_true rfl) ?_
  intro p e s m below meth c hx hb hr hc hlk hnm hs0 ls hl
  subst hs0
  have hown := hc.2.2.2.1
  have hts := hc.2.2.2.2.1
  have hK := hc.2.2.2.2.2
  have hl : lv_has ls 3 [(0, .ref (ad 23))] := hl
  have hS : va_S A s.heap s.heap [] := va_S.rf
  refine lv_aload_n hx hb dX3_next_0 rfl (lv_at hl 0 rfl) ?_
  refine lv_aload_n hx hb dX3_next_1 rfl (lv_at hl 0 rfl) ?_
  refine m_get hc hW 8 (by decide) rfl q1008 rfl rfl dX3_next_2 ?_
  refine sm_topi (v := nI pp.2.1) rfl ?_
  refine m_putS hc hW hS 7 (by decide) rfl rfl q1007 rfl rfl rfl rfl rfl rfl dX3_next_5 (fun H locs hW hS hz => ?_)
  have hW := psT_7 hW
  refine w_loopH (σ := Nat) (fun i H locs cells slots fr => cells = 0 ∧ slots = 0 ∧ (∃ ls, fr = F0 m 8 ls [] ∧ lv_has ls 3 [(0, .ref (ad 23))]) ∧ va_S A s.heap H locs ∧ (i ≤ T ∧ skF (f 5) T (T - i) i = nxA (f 5) T pp.2.1 ∧ MW G A (psT f (i, pp.2.1, pp.2.2.1, pp.2.2.2.1, pp.2.2.2.2)) g ad H)) (fun i => T - i) pp.2.1 ⟨rfl, rfl, ⟨ls, rfl, lv_sub hl [0] rfl⟩, hS, ⟨hB2, rfl, hW⟩⟩ ?_
  intro i H locs cells slots fr hI ih
  obtain ⟨rfl, rfl, ⟨ls, rfl, hl⟩, hS, ⟨hle, hsk, hW⟩⟩ := hI
  refine lv_aload_n hx hb dX3_next_8 rfl (lv_at hl 0 rfl) ?_
  refine lv_aload_n hx hb dX3_next_9 rfl (lv_at hl 0 rfl) ?_
  refine m_get hc hW 7 (by decide) rfl q1007 rfl rfl dX3_next_10 ?_
  refine sm_topi (v := nI i) rfl ?_
  refine cv_R1 (rest := []) hc (M_byteAt l hW (T := T) hT hT1 i (by omega)) (lw_V q1171 q1173 qs39 q70 q1174) nd_X3_byteAt ⟨Nat.le_of_ble_eq_true rfl, Nat.le_of_ble_eq_true rfl⟩ (MW.recv hK hW) rfl hl.1 rfl (Nat.le_of_ble_eq_true rfl) dX3_next_13 ⟨Nat.le_of_ble_eq_true rfl, Nat.le_of_ble_eq_true rfl⟩ ?_
  refine sm_topi (v := bA (f 5) T i) rfl ?_
  refine lv_bipush (v := 32) hx hb dX3_next_16 (by decide) ?_
  refine lv_icmp_ne (tgt := 34) hx hb dX3_next_18 (by decide) (fun c_228 => ?_) (fun c_228 => ?_)
  · have hiA : i = nxA (f 5) T pp.2.1 := by
      rcases Nat.lt_or_ge i T with q | q
      · rw [show T - i = (T - (i + 1)) + 1 by omega, skF, if_neg c_228] at hsk; exact hsk
      · rw [show T - i = 0 by omega] at hsk; exact hsk
    refine lv_aload_n hx hb dX3_next_34 rfl (lv_at hl 0 rfl) ?_
    refine lv_aload_n hx hb dX3_next_35 rfl (lv_at hl 0 rfl) ?_
    refine m_get hc hW 7 (by decide) rfl q1007 rfl rfl dX3_next_36 ?_
    refine sm_topi (v := nI i) rfl ?_
    refine cv_R1 (rest := []) hc (M_byteAt l hW (T := T) hT hT1 i (by omega)) (lw_V q1171 q1173 qs39 q70 q1174) nd_X3_byteAt ⟨Nat.le_of_ble_eq_true rfl, Nat.le_of_ble_eq_true rfl⟩ (MW.recv hK hW) rfl hl.1 rfl (Nat.le_of_ble_eq_true rfl) dX3_next_39 ⟨Nat.le_of_ble_eq_true rfl, Nat.le_of_ble_eq_true rfl⟩ ?_
    refine sm_topi (v := bA (f 5) T i) rfl ?_
    refine cs_R1 (rest := []) hc (M_isLetter l (bA (f 5) T i)) (lw_S q1175 q1176 q70 q1177) nd_X3_isLetter ⟨Nat.le_of_ble_eq_true rfl, Nat.le_of_ble_eq_true rfl⟩ rfl hl.1 rfl (Nat.le_of_ble_eq_true rfl) dX3_next_42 ⟨Nat.le_of_ble_eq_true rfl, Nat.le_of_ble_eq_true rfl⟩ ?_
    refine lv_istore_n (lv' := [(1, .int (b2i (isL (bA (f 5) T i)))), (0, .ref (ad 23))]) hx hb dX3_next_45 rfl hl (by decide) rfl (fun ls hl => ?_)
    refine lv_aload_n hx hb dX3_next_46 rfl (lv_at hl 1 rfl) ?_
    refine lv_aload_n hx hb dX3_next_47 rfl (lv_at hl 1 rfl) ?_
    refine m_get hc hW 7 (by decide) rfl q1007 rfl rfl dX3_next_48 ?_
    refine sm_topi (v := nI i) rfl ?_
    refine cv_R1 (rest := []) hc (M_byteAt l hW (T := T) hT hT1 i (by omega)) (lw_V q1171 q1173 qs39 q70 q1174) nd_X3_byteAt ⟨Nat.le_of_ble_eq_true rfl, Nat.le_of_ble_eq_true rfl⟩ (MW.recv hK hW) rfl hl.1 rfl (Nat.le_of_ble_eq_true rfl) dX3_next_51 ⟨Nat.le_of_ble_eq_true rfl, Nat.le_of_ble_eq_true rfl⟩ ?_
    refine sm_topi (v := bA (f 5) T i) rfl ?_
    refine cs_R1 (rest := []) hc (M_isDigit l (bA (f 5) T i)) (lw_S q1180 q1181 q70 q1182) nd_X3_isDigit ⟨Nat.le_of_ble_eq_true rfl, Nat.le_of_ble_eq_true rfl⟩ rfl hl.1 rfl (Nat.le_of_ble_eq_true rfl) dX3_next_54 ⟨Nat.le_of_ble_eq_true rfl, Nat.le_of_ble_eq_true rfl⟩ ?_
    refine lv_istore_n (lv' := [(2, .int (b2i (isD (bA (f 5) T i)))), (1, .int (b2i (isL (bA (f 5) T i)))), (0, .ref (ad 23))]) hx hb dX3_next_57 rfl hl (by decide) rfl (fun ls hl => ?_)
    refine lv_aload_n hx hb dX3_next_58 rfl (lv_at hl 2 rfl) ?_
    refine lv_aload_n hx hb dX3_next_59 rfl (lv_at hl 2 rfl) ?_
    refine m_get hc hW 7 (by decide) rfl q1007 rfl rfl dX3_next_60 ?_
    refine sm_topi (v := nI i) rfl ?_
    refine lv_aload_n hx hb dX3_next_63 rfl (lv_at hl 2 rfl) ?_
    refine m_get hc hW 6 (by decide) rfl q1006 rfl rfl dX3_next_64 ?_
    refine sm_topi (v := f 6 0) rfl ?_
    refine sm_topi (v := nI T) hT ?_
    refine w_join (fun y => y = nI (nx1 T i)) 83 [.ref (ad 23)] (fun y hy => ?_) (fun jn => ?_)
    · subst hy
      refine m_putS hc hW hS 8 (by decide) rfl rfl q1008 rfl rfl rfl rfl rfl rfl dX3_next_83 (fun H locs hW hS hz => ?_)
      have hW := psT_8 hW
      refine w_loopH (σ := Nat) (fun j H locs cells slots fr => cells = 0 ∧ slots = 0 ∧ (∃ ls, fr = F0 m 86 ls [] ∧ lv_has ls 3 [(2, .int (b2i (isD (bA (f 5) T i)))), (1, .int (b2i (isL (bA (f 5) T i)))), (0, .ref (ad 23))]) ∧ va_S A s.heap H locs ∧ (j ≤ T ∧ enF (f 5) T (decide (isL (bA (f 5) T i))) (decide (isD (bA (f 5) T i))) (T - j) j = nxB (f 5) T pp.2.1 ∧ MW G A (psT f (i, j, pp.2.2.1, pp.2.2.2.1, pp.2.2.2.2)) g ad H)) (fun j => T - j) (nx1 T i) ⟨rfl, rfl, ⟨ls, rfl, lv_sub hl [0, 1, 2] rfl⟩, hS, ⟨nx1_le hle, by rw [nxB, ← hiA], hW⟩⟩ ?_
      intro j H locs cells slots fr hI ih
      obtain ⟨rfl, rfl, ⟨ls, rfl, hl⟩, hS, ⟨hlj, hen, hW⟩⟩ := hI
      refine lv_iload_n hx hb dX3_next_86 rfl (lv_at hl 1 rfl) ?_
      refine bi_eq (tgt := 104) hx hb dX3_next_87 (by decide) (fun c_229 => ?_) (fun c_229 => ?_)
      · refine lv_iload_n hx hb dX3_next_104 rfl (lv_at hl 0 rfl) ?_
        refine bi_eq (tgt := 135) hx hb dX3_next_105 (by decide) (fun c_230 => ?_) (fun c_230 => ?_)
        · exact rv_W hx hb hr hlk hS (by
              have hjB : j = nxB (f 5) T pp.2.1 := by
                rcases Nat.lt_or_ge j T with q | q
                · rw [show T - j = (T - (j + 1)) + 1 by omega, enF, if_neg (not_or.mpr ⟨(fun h => c_229 (of_decide_eq_true h.1)), (fun h => c_230 (of_decide_eq_true h.1))⟩)] at hen; exact hen
                · rw [show T - j = 0 by omega] at hen; exact hen
              rw [nextP, ← hiA, ← hjB]; exact hW) dX3_next_135
        · refine lv_aload_n hx hb dX3_next_108 rfl (lv_at hl 2 rfl) ?_
          refine lv_aload_n hx hb dX3_next_109 rfl (lv_at hl 2 rfl) ?_
          refine m_get hc hW 8 (by decide) rfl q1008 rfl rfl dX3_next_110 ?_
          refine sm_topi (v := nI j) rfl ?_
          refine cv_R1 (rest := []) hc (M_byteAt l hW (T := T) hT hT1 j (by omega)) (lw_V q1171 q1173 qs39 q70 q1174) nd_X3_byteAt ⟨Nat.le_of_ble_eq_true rfl, Nat.le_of_ble_eq_true rfl⟩ (MW.recv hK hW) rfl hl.1 rfl (Nat.le_of_ble_eq_true rfl) dX3_next_113 ⟨Nat.le_of_ble_eq_true rfl, Nat.le_of_ble_eq_true rfl⟩ ?_
          refine sm_topi (v := bA (f 5) T j) rfl ?_
          refine cs_R1 (rest := []) hc (M_isDigit l (bA (f 5) T j)) (lw_S q1180 q1181 q70 q1182) nd_X3_isDigit ⟨Nat.le_of_ble_eq_true rfl, Nat.le_of_ble_eq_true rfl⟩ rfl hl.1 rfl (Nat.le_of_ble_eq_true rfl) dX3_next_116 ⟨Nat.le_of_ble_eq_true rfl, Nat.le_of_ble_eq_true rfl⟩ ?_
          refine bi_eq (tgt := 135) hx hb dX3_next_119 (by decide) (fun c_231 => ?_) (fun c_231 => ?_)
          · exact rv_W hx hb hr hlk hS (by
                have hjB : j = nxB (f 5) T pp.2.1 := by
                  rcases Nat.lt_or_ge j T with q | q
                  · rw [show T - j = (T - (j + 1)) + 1 by omega, enF, if_neg (not_or.mpr ⟨(fun h => c_229 (of_decide_eq_true h.1)), (fun h => c_231 h.2)⟩)] at hen; exact hen
                  · rw [show T - j = 0 by omega] at hen; exact hen
                rw [nextP, ← hiA, ← hjB]; exact hW) dX3_next_135
          · refine lv_aload_n hx hb dX3_next_122 rfl (lv_at hl 2 rfl) ?_
            refine lv_dup hx hb dX3_next_123 rfl ?_
            refine m_get hc hW 8 (by decide) rfl q1008 rfl rfl dX3_next_124 ?_
            refine sm_topi (v := nI j) rfl ?_
            refine lv_iconst (v := 1) hx hb dX3_next_127 (by decide) ?_
            refine lv_iadd hx hb dX3_next_128 (sm_topi (v := nI (j + 1)) (nI_add _ _) ?_)
            refine m_putS hc hW hS 8 (by decide) rfl rfl q1008 rfl rfl rfl rfl rfl rfl dX3_next_129 (fun H locs hW hS hz => ?_)
            have hW := psT_8 hW
            refine lv_goto (tgt := 86) hx hb dX3_next_132 (by decide) ?_
            have hjT := bA_D c_231
            rw [show T - j = (T - (j + 1)) + 1 by omega, enF, if_pos (Or.inr ⟨decide_eq_true c_230, c_231⟩)] at hen
            exact ih (j + 1) _ _ _ _ _ ⟨rfl, rfl, ⟨ls, rfl, lv_sub hl [0, 1, 2] rfl⟩, hS, hjT, hen, hW⟩ (by omega)
      · refine lv_aload_n hx hb dX3_next_90 rfl (lv_at hl 2 rfl) ?_
        refine lv_aload_n hx hb dX3_next_91 rfl (lv_at hl 2 rfl) ?_
        refine m_get hc hW 8 (by decide) rfl q1008 rfl rfl dX3_next_92 ?_
        refine sm_topi (v := nI j) rfl ?_
        refine cv_R1 (rest := []) hc (M_byteAt l hW (T := T) hT hT1 j (by omega)) (lw_V q1171 q1173 qs39 q70 q1174) nd_X3_byteAt ⟨Nat.le_of_ble_eq_true rfl, Nat.le_of_ble_eq_true rfl⟩ (MW.recv hK hW) rfl hl.1 rfl (Nat.le_of_ble_eq_true rfl) dX3_next_95 ⟨Nat.le_of_ble_eq_true rfl, Nat.le_of_ble_eq_true rfl⟩ ?_
        refine sm_topi (v := bA (f 5) T j) rfl ?_
        refine cs_R1 (rest := []) hc (M_isLetter l (bA (f 5) T j)) (lw_S q1175 q1176 q70 q1177) nd_X3_isLetter ⟨Nat.le_of_ble_eq_true rfl, Nat.le_of_ble_eq_true rfl⟩ rfl hl.1 rfl (Nat.le_of_ble_eq_true rfl) dX3_next_98 ⟨Nat.le_of_ble_eq_true rfl, Nat.le_of_ble_eq_true rfl⟩ ?_
        refine bi_ne (tgt := 122) hx hb dX3_next_101 (by decide) (fun c_232 => ?_) (fun c_232 => ?_)
        · refine lv_aload_n hx hb dX3_next_122 rfl (lv_at hl 2 rfl) ?_
          refine lv_dup hx hb dX3_next_123 rfl ?_
          refine m_get hc hW 8 (by decide) rfl q1008 rfl rfl dX3_next_124 ?_
          refine sm_topi (v := nI j) rfl ?_
          refine lv_iconst (v := 1) hx hb dX3_next_127 (by decide) ?_
          refine lv_iadd hx hb dX3_next_128 (sm_topi (v := nI (j + 1)) (nI_add _ _) ?_)
          refine m_putS hc hW hS 8 (by decide) rfl rfl q1008 rfl rfl rfl rfl rfl rfl dX3_next_129 (fun H locs hW hS hz => ?_)
          have hW := psT_8 hW
          refine lv_goto (tgt := 86) hx hb dX3_next_132 (by decide) ?_
          have hjT := bA_L c_232
          rw [show T - j = (T - (j + 1)) + 1 by omega, enF, if_pos (Or.inl ⟨decide_eq_true c_229, c_232⟩)] at hen
          exact ih (j + 1) _ _ _ _ _ ⟨rfl, rfl, ⟨ls, rfl, lv_sub hl [0, 1, 2] rfl⟩, hS, hjT, hen, hW⟩ (by omega)
        · refine lv_iload_n hx hb dX3_next_104 rfl (lv_at hl 0 rfl) ?_
          refine bi_eq (tgt := 135) hx hb dX3_next_105 (by decide) (fun c_233 => ?_) (fun c_233 => ?_)
          · exact rv_W hx hb hr hlk hS (by
                have hjB : j = nxB (f 5) T pp.2.1 := by
                  rcases Nat.lt_or_ge j T with q | q
                  · rw [show T - j = (T - (j + 1)) + 1 by omega, enF, if_neg (not_or.mpr ⟨(fun h => c_232 h.2), (fun h => c_233 (of_decide_eq_true h.1))⟩)] at hen; exact hen
                  · rw [show T - j = 0 by omega] at hen; exact hen
                rw [nextP, ← hiA, ← hjB]; exact hW) dX3_next_135
          · refine lv_aload_n hx hb dX3_next_108 rfl (lv_at hl 2 rfl) ?_
            refine lv_aload_n hx hb dX3_next_109 rfl (lv_at hl 2 rfl) ?_
            refine m_get hc hW 8 (by decide) rfl q1008 rfl rfl dX3_next_110 ?_
            refine sm_topi (v := nI j) rfl ?_
            refine cv_R1 (rest := []) hc (M_byteAt l hW (T := T) hT hT1 j (by omega)) (lw_V q1171 q1173 qs39 q70 q1174) nd_X3_byteAt ⟨Nat.le_of_ble_eq_true rfl, Nat.le_of_ble_eq_true rfl⟩ (MW.recv hK hW) rfl hl.1 rfl (Nat.le_of_ble_eq_true rfl) dX3_next_113 ⟨Nat.le_of_ble_eq_true rfl, Nat.le_of_ble_eq_true rfl⟩ ?_
            refine sm_topi (v := bA (f 5) T j) rfl ?_
            refine cs_R1 (rest := []) hc (M_isDigit l (bA (f 5) T j)) (lw_S q1180 q1181 q70 q1182) nd_X3_isDigit ⟨Nat.le_of_ble_eq_true rfl, Nat.le_of_ble_eq_true rfl⟩ rfl hl.1 rfl (Nat.le_of_ble_eq_true rfl) dX3_next_116 ⟨Nat.le_of_ble_eq_true rfl, Nat.le_of_ble_eq_true rfl⟩ ?_
            refine bi_eq (tgt := 135) hx hb dX3_next_119 (by decide) (fun c_234 => ?_) (fun c_234 => ?_)
            · exact rv_W hx hb hr hlk hS (by
                  have hjB : j = nxB (f 5) T pp.2.1 := by
                    rcases Nat.lt_or_ge j T with q | q
                    · rw [show T - j = (T - (j + 1)) + 1 by omega, enF, if_neg (not_or.mpr ⟨(fun h => c_232 h.2), (fun h => c_234 h.2)⟩)] at hen; exact hen
                    · rw [show T - j = 0 by omega] at hen; exact hen
                  rw [nextP, ← hiA, ← hjB]; exact hW) dX3_next_135
            · refine lv_aload_n hx hb dX3_next_122 rfl (lv_at hl 2 rfl) ?_
              refine lv_dup hx hb dX3_next_123 rfl ?_
              refine m_get hc hW 8 (by decide) rfl q1008 rfl rfl dX3_next_124 ?_
              refine sm_topi (v := nI j) rfl ?_
              refine lv_iconst (v := 1) hx hb dX3_next_127 (by decide) ?_
              refine lv_iadd hx hb dX3_next_128 (sm_topi (v := nI (j + 1)) (nI_add _ _) ?_)
              refine m_putS hc hW hS 8 (by decide) rfl rfl q1008 rfl rfl rfl rfl rfl rfl dX3_next_129 (fun H locs hW hS hz => ?_)
              have hW := psT_8 hW
              refine lv_goto (tgt := 86) hx hb dX3_next_132 (by decide) ?_
              have hjT := bA_D c_234
              rw [show T - j = (T - (j + 1)) + 1 by omega, enF, if_pos (Or.inr ⟨decide_eq_true c_233, c_234⟩)] at hen
              exact ih (j + 1) _ _ _ _ _ ⟨rfl, rfl, ⟨ls, rfl, lv_sub hl [0, 1, 2] rfl⟩, hS, hjT, hen, hW⟩ (by omega)
    · by_cases hiT : i < T
      · refine lv_icmp_ge (tgt := 79) hx hb dX3_next_67 (by decide) (fun h => absurd h (nI_ge hiT (by omega))) (fun _ => ?_)
        refine lv_aload_n hx hb dX3_next_70 rfl (lv_at hl 2 rfl) ?_
        refine m_get hc hW 7 (by decide) rfl q1007 rfl rfl dX3_next_71 ?_
        refine sm_topi (v := nI i) rfl ?_
        refine lv_iconst (v := 1) hx hb dX3_next_74 (by decide) ?_
        refine lv_iadd hx hb dX3_next_75 (sm_topi (v := nI (i + 1)) (nI_add _ _) ?_)
        refine lv_goto (tgt := 83) hx hb dX3_next_76 (by decide) ?_
        exact jn _ (by rw [nx1, if_pos hiT])
      · refine lv_icmp_ge (tgt := 79) hx hb dX3_next_67 (by decide) (fun _ => ?_) (fun h => absurd (nI_le (by omega) (by omega)) h)
        refine lv_aload_n hx hb dX3_next_79 rfl (lv_at hl 2 rfl) ?_
        refine m_get hc hW 7 (by decide) rfl q1007 rfl rfl dX3_next_80 ?_
        refine sm_topi (v := nI i) rfl ?_
        exact jn _ (by rw [nx1, if_neg hiT])
  · refine lv_aload_n hx hb dX3_next_21 rfl (lv_at hl 0 rfl) ?_
    refine lv_dup hx hb dX3_next_22 rfl ?_
    refine m_get hc hW 7 (by decide) rfl q1007 rfl rfl dX3_next_23 ?_
    refine sm_topi (v := nI i) rfl ?_
    refine lv_iconst (v := 1) hx hb dX3_next_26 (by decide) ?_
    refine lv_iadd hx hb dX3_next_27 (sm_topi (v := nI (i + 1)) (nI_add _ _) ?_)
    refine m_putS hc hW hS 7 (by decide) rfl rfl q1007 rfl rfl rfl rfl rfl rfl dX3_next_28 (fun H locs hW hS hz => ?_)
    have hW := psT_7 hW
    refine lv_goto (tgt := 8) hx hb dX3_next_31 (by decide) ?_
    have hiT := bA_32 c_228
    rw [show T - i = (T - (i + 1)) + 1 by omega, skF, if_pos c_228] at hsk
    exact ih (i + 1) _ _ _ _ _ ⟨rfl, rfl, ⟨ls, rfl, lv_sub hl [0] rfl⟩, hS, hiT, hsk, hW⟩ (by omega)
theorem ndP_w {t : Nat → Int32} {T : Nat} {q : Bool} {p : PS} (h : p.2.2.2.1 = true) : ndP t T q p = (p.1, p.2.1, p.2.2.1, true, p.2.2.2.2) := by
  obtain ⟨a, b, v, w, s⟩ := p
  cases h
  rfl
theorem ndP_t {t : Nat → Int32} {T : Nat} {q : Bool} {p : PS} (h : ¬ p.2.2.2.1 = true) (hq : q = true) : ndP t T q p = nextP t T (p.1, p.2.1, p.2.2.1, false, p.2.2.2.2) := by
  obtain ⟨a, b, v, w, s⟩ := p
  cases w
  · subst hq; rfl
  · exact absurd rfl h
theorem ndP_f {t : Nat → Int32} {T : Nat} {q : Bool} {p : PS} (h : ¬ p.2.2.2.1 = true) (hq : ¬ q = true) : ndP t T q p = (p.1, p.2.1, p.2.2.1, true, p.2.2.2.2) := by
  rw [ndP, if_neg h, if_neg hq]
theorem nd_X3_needs : yX3_needs.cls = "SmokeLeansModel" ∧ yX3_needs.cls ≠ "java/lang/invoke/MethodHandle" ∧ yX3_needs.cls ≠ "java/lang/invoke/VarHandle" ∧ (parseMethodDescriptor yX3_needs.desc).map (fun d => d.parameters.length) = some 1 := by decide +kernel
set_option maxHeartbeats 4000000 in
theorem M_needs (l : Launch) {G : GD} {A : Nat → Prop} {f : Nat → Nat → Int32} {g : Nat → Nat → Int64} {ad : Nat → Nat} {H0 : Heap} {pp : PS} (hW : MW G A (psT f pp) g ad H0) {T : Nat} (hT : f 6 0 = nI T) (hT1 : T ≤ 120) (hB : PB T pp) (q : Bool) : MetW l G yX3_needs cX3_needs 2 none 3 0 0 A [.ref (ad 23), .int (b2i (q = true))] H0 none (fun H => MW G A (psT f (ndP (f 5) T q pp)) g ad H) := by
  refine mx_of (by decide) (Nat.le_of_ble_eq_true rfl) ?_
  intro p e s m below meth c hx hb hr hc hlk hnm hs0 ls hl
  subst hs0
  have hown := hc.2.2.2.1
  have hts := hc.2.2.2.2.1
  have hK := hc.2.2.2.2.2
  have hl : lv_has ls 2 [(0, .ref (ad 23)), (1, .int (b2i (q = true)))] := hl
  have hS : va_S A s.heap s.heap [] := va_S.rf
  refine lv_aload_n hx hb dX3_needs_0 rfl (lv_at hl 0 rfl) ?_
  refine lv_aload_n hx hb dX3_needs_1 rfl (lv_at hl 0 rfl) ?_
  refine m_get hc hW 10 (by decide) rfl q1010 rfl rfl dX3_needs_2 ?_
  refine sm_topi (v := b2i (pp.2.2.2.1 = true)) rfl ?_
  refine bi_ne (tgt := 12) hx hb dX3_needs_5 (by decide) (fun c_235 => ?_) (fun c_235 => ?_)
  · refine lv_iconst (v := 1) hx hb dX3_needs_12 (by decide) ?_
    refine lv_goto (tgt := 17) hx hb dX3_needs_13 (by decide) ?_
    refine m_putS hc hW hS 10 (by decide) rfl rfl q1010 rfl rfl rfl rfl rfl rfl dX3_needs_17 (fun H locs hW hS hz => ?_)
    have hW := psT_10 (w' := true) hW rfl
    refine lv_aload_n hx hb dX3_needs_20 rfl (lv_at hl 0 rfl) ?_
    refine m_get hc hW 10 (by decide) rfl q1010 rfl rfl dX3_needs_21 ?_
    refine sm_topi (v := 1) rfl ?_
    refine lv_if_ne (tgt := 31) hx hb dX3_needs_24 (by decide) (fun _ => ?_) (fun h => absurd h (by decide))
    exact rv_W hx hb hr hlk hS (by rw [ndP_w c_235]; exact hW) dX3_needs_31
  · refine lv_iload_n hx hb dX3_needs_8 rfl (lv_at hl 1 rfl) ?_
    refine bi_ne (tgt := 16) hx hb dX3_needs_9 (by decide) (fun c_236 => ?_) (fun c_236 => ?_)
    · refine lv_iconst (v := 0) hx hb dX3_needs_16 (by decide) ?_
      refine m_putS hc hW hS 10 (by decide) rfl rfl q1010 rfl rfl rfl rfl rfl rfl dX3_needs_17 (fun H locs hW hS hz => ?_)
      have hW := psT_10 (w' := false) hW rfl
      refine lv_aload_n hx hb dX3_needs_20 rfl (lv_at hl 0 rfl) ?_
      refine m_get hc hW 10 (by decide) rfl q1010 rfl rfl dX3_needs_21 ?_
      refine sm_topi (v := 0) rfl ?_
      refine lv_if_ne (tgt := 31) hx hb dX3_needs_24 (by decide) (fun h => absurd (by decide) h) (fun _ => ?_)
      refine lv_aload_n hx hb dX3_needs_27 rfl (lv_at hl 0 rfl) ?_
      refine cv_W0 (rest := []) hc (M_next l hW (T := T) hT hT1 hB.2) (lw_V q1167 q1169 qs38 q70 q1170) nd_X3_next ⟨Nat.le_of_ble_eq_true rfl, Nat.le_of_ble_eq_true rfl⟩ (MW.recv hK hW) rfl hl.1 rfl (Nat.le_of_ble_eq_true rfl) dX3_needs_28 ⟨Nat.le_of_ble_eq_true rfl, Nat.le_of_ble_eq_true rfl⟩ hS (fun _ h => h) (fun H locs hW hS hz hk => ?_)
      exact rv_W hx hb hr hlk hS (by rw [ndP_t c_235 c_236]; exact hW) dX3_needs_31
    · refine lv_iconst (v := 1) hx hb dX3_needs_12 (by decide) ?_
      refine lv_goto (tgt := 17) hx hb dX3_needs_13 (by decide) ?_
      refine m_putS hc hW hS 10 (by decide) rfl rfl q1010 rfl rfl rfl rfl rfl rfl dX3_needs_17 (fun H locs hW hS hz => ?_)
      have hW := psT_10 (w' := true) hW rfl
      refine lv_aload_n hx hb dX3_needs_20 rfl (lv_at hl 0 rfl) ?_
      refine m_get hc hW 10 (by decide) rfl q1010 rfl rfl dX3_needs_21 ?_
      refine sm_topi (v := 1) rfl ?_
      refine lv_if_ne (tgt := 31) hx hb dX3_needs_24 (by decide) (fun _ => ?_) (fun h => absurd h (by decide))
      exact rv_W hx hb hr hlk hS (by rw [ndP_f c_235 c_236]; exact hW) dX3_needs_31
