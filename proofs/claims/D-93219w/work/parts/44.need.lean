/-! the desk's small rows: need, in, orNone, sheetAt; a finding's answer -/
set_option maxRecDepth 100000
/-- a finding w has been made at the heap's end -/
def FndP (G : GD) (w : Int32) (n x : Nat) (H : Heap) : Prop := x = n ∧ va_at G.1 vwCl (x, .inr (4, efs w)) H ∧ H.size = n + 1
/-- the region of what's made -/
abbrev Abv (n : Nat) : Nat → Prop := fun q => n ≤ q
theorem nd_X0_need : yX0_need.cls ≠ "java/lang/invoke/MethodHandle" ∧ yX0_need.cls ≠ "java/lang/invoke/VarHandle" ∧ (parseMethodDescriptor yX0_need.desc).map (fun d => d.parameters.length) = some 2 := by decide +kernel
theorem efs_0 : ∀ j, j < 7 → defaultValue (tyX4 j) = vp_V (efs 0) j := by
  intro j hj
  rcases j with _ | _ | _ | _ | _ | _ | _ | j <;> first | rfl | omega
set_option maxHeartbeats 4000000 in
theorem D_need_ok (l : Launch) {G : GD} {H0 : Heap} {x : Int32} (h0 : ¬ x = 0) (w : Int32) : MetR l G yX0_need cX0_need 2 none 4 [.int x, .int w] H0 none := by
  refine mx_of (by decide) (Nat.le_of_ble_eq_true rfl) ?_
  intro p e s m below meth c hx hb hr hc hlk hnm hs0 ls hl
  subst hs0
  have hl : lv_has ls 2 [(0, .int x), (1, .int w)] := hl
  refine lv_iload_n hx hb dX0_need_0 rfl (lv_at hl 0 rfl) ?_
  refine lv_if_ne (tgt := 13) hx hb dX0_need_1 (by decide) (fun _ => ?_) (fun h => absurd h h0)
  exact rv_R hx hb hr hlk dX0_need_13
set_option maxHeartbeats 4000000 in
theorem D_need_no (l : Launch) {G : GD} (hG : SG G) {H0 : Heap} (hkp : Kp G H0) (hg : G.2.2.heap.size ≤ H0.size) {x : Int32} (h0 : x = 0) (w : Int32) : MetX l G yX0_need cX0_need 2 none 4 1 7 (Abv H0.size) [.int x, .int w] H0 (FndP G w H0.size) := by
  refine mt_of (by decide) (Nat.le_of_ble_eq_true rfl) ?_
  intro p e s m below meth c hx hb hr hc hlk hnm hout hs0 ls hl
  subst hs0
  have hl : lv_has ls 2 [(0, .int x), (1, .int w)] := hl
  have hS : va_S (Abv s.heap.size) s.heap s.heap [] := va_S.rf
  refine lv_iload_n hx hb dX0_need_0 rfl (lv_at hl 0 rfl) ?_
  refine lv_if_ne (tgt := 13) hx hb dX0_need_1 (by decide) (fun h => absurd h0 h) (fun _ => ?_)
  refine a_new (ci := 4) hc hS in_X4 tyX4 tyX4_ok q206 q210 q73 rfl efs_0 (Nat.le_of_ble_eq_true rfl) (Nat.le_of_ble_eq_true rfl) dX0_need_4 (fun H hat hS z o1 => ?_)
  refine lv_dup hx hb dX0_need_7 rfl ?_
  refine lv_iload_n hx hb dX0_need_8 rfl (lv_at hl 1 rfl) ?_
  have hkp1 : Kp G H := fun q hq => (o1 q (by omega)).trans (hkp q hq)
  refine ci_W (rest := [.ref s.heap.size]) hc (M_X4_init l hG hat hg hkp1 w) q247 q248 q73 q249 rfl nd_X4_init ⟨Nat.le_of_ble_eq_true rfl, Nat.le_of_ble_eq_true rfl⟩ rfl hl.1 rfl (Nat.le_of_ble_eq_true rfl) dX0_need_9 ⟨Nat.le_of_ble_eq_true rfl, Nat.le_of_ble_eq_true rfl⟩ hS (fun q h => by rw [h]; exact Nat.le_refl _) (fun H locs hq hS hz hk => ?_)
  refine a_throw hx hb dX0_need_12 ?_
  exact wt_leave hlk (hout _) (fun t ht hW => ⟨⟨_, rfl, rfl, by rw [ht]; exact hq.1, by rw [ht]; exact hq.2.trans z⟩, hS.F ht⟩) hS.2.2
theorem nd_X0_in : yX0_in.cls ≠ "java/lang/invoke/MethodHandle" ∧ yX0_in.cls ≠ "java/lang/invoke/VarHandle" ∧ (parseMethodDescriptor yX0_in.desc).map (fun d => d.parameters.length) = some 3 := by decide +kernel
set_option maxHeartbeats 4000000 in
theorem D_in (l : Launch) {G : GD} {H0 : Heap} (v lo hi : Int64) : MetR l G yX0_in cX0_in 6 (some .boolean) 0 [.long v, .long lo, .long hi] H0 (some (.int (b2i (lo ≤ v ∧ v ≤ hi)))) := by
  refine mx_of (by decide) (Nat.le_of_ble_eq_true rfl) ?_
  intro p e s m below meth c hx hb hr hc hlk hnm hs0 ls hl
  subst hs0
  have hown := hc.2.2.2.1
  have hts := hc.2.2.2.2.1
  have hK := hc.2.2.2.2.2
  have hl : lv_has ls 6 [(0, .long v), (2, .long lo), (4, .long hi)] := hl
  refine lv_lload_n hx hb dX0_in_0 rfl (lv_at hl 0 rfl) ?_
  refine lv_lload_n hx hb dX0_in_1 rfl (lv_at hl 1 rfl) ?_
  refine W.lcmp hx hb dX0_in_2 ?_
  refine lv_if_lt (tgt := 17) hx hb dX0_in_3 (by decide) (fun c_379 => ?_) (fun c_379 => ?_)
  · refine lv_iconst (v := 0) hx hb dX0_in_17 (by decide) ?_
    exact rz_R hx hb hr hlk ((b2i_f (fun h => absurd h.1 (Int64.not_le.mpr (lc_lt.mp c_379)))).symm) dX0_in_18
  · refine lv_lload_n hx hb dX0_in_6 rfl (lv_at hl 0 rfl) ?_
    refine lv_lload hx hb dX0_in_7 (lv_at hl 2 rfl) ?_
    refine W.lcmp hx hb dX0_in_9 ?_
    refine lv_if_gt (tgt := 17) hx hb dX0_in_10 (by decide) (fun c_380 => ?_) (fun c_380 => ?_)
    · refine lv_iconst (v := 0) hx hb dX0_in_17 (by decide) ?_
      exact rz_R hx hb hr hlk ((b2i_f (fun h => absurd h.2 (Int64.not_le.mpr (lc_gt.mp c_380)))).symm) dX0_in_18
    · refine lv_iconst (v := 1) hx hb dX0_in_13 (by decide) ?_
      refine lv_goto (tgt := 18) hx hb dX0_in_14 (by decide) ?_
      exact rz_R hx hb hr hlk ((b2i_t ⟨Int64.not_lt.mp (fun h => c_379 (lc_lt.mpr h)), Int64.not_lt.mp (fun h => c_380 (lc_gt.mpr h))⟩).symm) dX0_in_18
theorem D_in32 (l : Launch) {G : GD} {H0 : Heap} (v lo hi : Int32) : MetR l G yX0_in cX0_in 6 (some .boolean) 0 [.long v.toInt64, .long lo.toInt64, .long hi.toInt64] H0 (some (.int (b2i (lo ≤ v ∧ v ≤ hi)))) := by
  have h := D_in l (G := G) (H0 := H0) v.toInt64 lo.toInt64 hi.toInt64
  rw [b2i_congr (inP32 (x := v) (lo := lo) (hi := hi))] at h
  exact h
theorem nd_X0_orNone : yX0_orNone.cls ≠ "java/lang/invoke/MethodHandle" ∧ yX0_orNone.cls ≠ "java/lang/invoke/VarHandle" ∧ (parseMethodDescriptor yX0_orNone.desc).map (fun d => d.parameters.length) = some 1 := by decide +kernel
set_option maxHeartbeats 4000000 in
theorem D_orNone_ok (l : Launch) {G : GD} {H0 : Heap} {v : Int32} (hv : ¬ v < 0) : MetR l G yX0_orNone cX0_orNone 1 (some .int) 5 [.int v] H0 (some (.int v)) := by
  refine mx_of (by decide) (Nat.le_of_ble_eq_true rfl) ?_
  intro p e s m below meth c hx hb hr hc hlk hnm hs0 ls hl
  subst hs0
  have hown := hc.2.2.2.1
  have hts := hc.2.2.2.2.1
  have hK := hc.2.2.2.2.2
  have hl : lv_has ls 1 [(0, .int v)] := hl
  refine lv_iload_n hx hb dX0_orNone_0 rfl (lv_at hl 0 rfl) ?_
  refine lv_if_lt (tgt := 8) hx hb dX0_orNone_1 (by decide) (fun h => absurd h hv) (fun _ => ?_)
  refine lv_iconst (v := 1) hx hb dX0_orNone_4 (by decide) ?_
  refine lv_goto (tgt := 9) hx hb dX0_orNone_5 (by decide) ?_
  refine lv_iconst (v := 3) hx hb dX0_orNone_9 (by decide) ?_
  refine cs_R0 (rest := []) hc (D_need_ok l (by decide) 3) (lw_S q207 q208 q67 q209) nd_X0_need ⟨Nat.le_of_ble_eq_true rfl, Nat.le_of_ble_eq_true rfl⟩ rfl hl.1 rfl (Nat.le_of_ble_eq_true rfl) dX0_orNone_10 ⟨Nat.le_of_ble_eq_true rfl, Nat.le_of_ble_eq_true rfl⟩ ?_
  refine lv_iload_n hx hb dX0_orNone_13 rfl (lv_at hl 0 rfl) ?_
  exact ri_R hx hb hr hlk (rfl) dX0_orNone_14
set_option maxHeartbeats 4000000 in
theorem D_orNone_no (l : Launch) {G : GD} (hG : SG G) {H0 : Heap} (hkp : Kp G H0) (hg : G.2.2.heap.size ≤ H0.size) {v : Int32} (hv : v < 0) : MetX l G yX0_orNone cX0_orNone 1 (some .int) 5 1 7 (Abv H0.size) [.int v] H0 (FndP G 3 H0.size) := by
  refine mt_of (by decide) (Nat.le_of_ble_eq_true rfl) ?_
  intro p e s m below meth c hx hb hr hc hlk hnm hout hs0 ls hl
  subst hs0
  have hown := hc.2.2.2.1
  have hts := hc.2.2.2.2.1
  have hK := hc.2.2.2.2.2
  have hl : lv_has ls 1 [(0, .int v)] := hl
  have hS : va_S (Abv s.heap.size) s.heap s.heap [] := va_S.rf
  refine lv_iload_n hx hb dX0_orNone_0 rfl (lv_at hl 0 rfl) ?_
  refine lv_if_lt (tgt := 8) hx hb dX0_orNone_1 (by decide) (fun _ => ?_) (fun h => absurd hv h)
  refine lv_iconst (v := 0) hx hb dX0_orNone_8 (by decide) ?_
  refine lv_iconst (v := 3) hx hb dX0_orNone_9 (by decide) ?_
  refine cs_T (rest := []) hc (D_need_no l hG hkp hg rfl 3) q207 q208 q67 q209 nd_X0_need ⟨Nat.le_of_ble_eq_true rfl, Nat.le_of_ble_eq_true rfl⟩ rfl hl.1 rfl (Nat.le_of_ble_eq_true rfl) dX0_orNone_10 ⟨Nat.le_of_ble_eq_true rfl, Nat.le_of_ble_eq_true rfl⟩ hS (fun _ h => h) (fun x H locs hq hS hz hk => ?_)
  exact wt_leave hlk (hout _) (fun t ht hW => ⟨⟨_, rfl, by rw [ht]; exact hq⟩, hS.F ht⟩) hS.2.2
theorem nd_X0_sheetAt : yX0_sheetAt.cls ≠ "java/lang/invoke/MethodHandle" ∧ yX0_sheetAt.cls ≠ "java/lang/invoke/VarHandle" ∧ (parseMethodDescriptor yX0_sheetAt.desc).map (fun d => d.parameters.length) = some 1 := by decide +kernel
set_option maxHeartbeats 4000000 in
theorem D_sheetAt_ok (l : Launch) {G : GD} {H0 : Heap} {v : Int32} (h : 0 ≤ v ∧ v ≤ 3) : MetR l G yX0_sheetAt cX0_sheetAt 1 none 5 [.int v] H0 none := by
  refine mx_of (by decide) (Nat.le_of_ble_eq_true rfl) ?_
  intro p e s m below meth c hx hb hr hc hlk hnm hs0 ls hl
  subst hs0
  have hown := hc.2.2.2.1
  have hts := hc.2.2.2.2.1
  have hK := hc.2.2.2.2.2
  have hl : lv_has ls 1 [(0, .int v)] := hl
  refine lv_iload_n hx hb dX0_sheetAt_0 rfl (lv_at hl 0 rfl) ?_
  refine lv_i2l hx hb dX0_sheetAt_1 rfl ?_
  refine lv_lconst (v := (0 : Int32).toInt64) hx hb dX0_sheetAt_2 (by decide) ?_
  refine lv_ldc2 (v := 3) hx hb hown (hts _ q549) dX0_sheetAt_3 (sm_topl (v := (3 : Int32).toInt64) (by decide) ?_)
  refine cs_R1 (rest := []) hc (D_in32 l v 0 3) (lw_S q294 q295 q67 q296) nd_X0_in ⟨Nat.le_of_ble_eq_true rfl, Nat.le_of_ble_eq_true rfl⟩ rfl hl.1 rfl (Nat.le_of_ble_eq_true rfl) dX0_sheetAt_6 ⟨Nat.le_of_ble_eq_true rfl, Nat.le_of_ble_eq_true rfl⟩ ?_
  refine lv_iconst (v := 0) hx hb dX0_sheetAt_9 (by decide) ?_
  refine cs_R0 (rest := []) hc (D_need_ok l (fun e => absurd h (b2i_0.mp e)) 0) (lw_S q207 q208 q67 q209) nd_X0_need ⟨Nat.le_of_ble_eq_true rfl, Nat.le_of_ble_eq_true rfl⟩ rfl hl.1 rfl (Nat.le_of_ble_eq_true rfl) dX0_sheetAt_10 ⟨Nat.le_of_ble_eq_true rfl, Nat.le_of_ble_eq_true rfl⟩ ?_
  exact rv_R hx hb hr hlk dX0_sheetAt_13
set_option maxHeartbeats 4000000 in
theorem D_sheetAt_no (l : Launch) {G : GD} (hG : SG G) {H0 : Heap} (hkp : Kp G H0) (hg : G.2.2.heap.size ≤ H0.size) {v : Int32} (h : ¬ (0 ≤ v ∧ v ≤ 3)) : MetX l G yX0_sheetAt cX0_sheetAt 1 none 5 1 7 (Abv H0.size) [.int v] H0 (FndP G 0 H0.size) := by
  refine mt_of (by decide) (Nat.le_of_ble_eq_true rfl) ?_
  intro p e s m below meth c hx hb hr hc hlk hnm hout hs0 ls hl
  subst hs0
  have hown := hc.2.2.2.1
  have hts := hc.2.2.2.2.1
  have hK := hc.2.2.2.2.2
  have hl : lv_has ls 1 [(0, .int v)] := hl
  have hS : va_S (Abv s.heap.size) s.heap s.heap [] := va_S.rf
  refine lv_iload_n hx hb dX0_sheetAt_0 rfl (lv_at hl 0 rfl) ?_
  refine lv_i2l hx hb dX0_sheetAt_1 rfl ?_
  refine lv_lconst (v := (0 : Int32).toInt64) hx hb dX0_sheetAt_2 (by decide) ?_
  refine lv_ldc2 (v := 3) hx hb hown (hts _ q549) dX0_sheetAt_3 (sm_topl (v := (3 : Int32).toInt64) (by decide) ?_)
  refine cs_R1 (rest := []) hc (D_in32 l v 0 3) (lw_S q294 q295 q67 q296) nd_X0_in ⟨Nat.le_of_ble_eq_true rfl, Nat.le_of_ble_eq_true rfl⟩ rfl hl.1 rfl (Nat.le_of_ble_eq_true rfl) dX0_sheetAt_6 ⟨Nat.le_of_ble_eq_true rfl, Nat.le_of_ble_eq_true rfl⟩ ?_
  refine lv_iconst (v := 0) hx hb dX0_sheetAt_9 (by decide) ?_
  refine cs_T (rest := []) hc (D_need_no l hG hkp hg (b2i_f h) 0) q207 q208 q67 q209 nd_X0_need ⟨Nat.le_of_ble_eq_true rfl, Nat.le_of_ble_eq_true rfl⟩ rfl hl.1 rfl (Nat.le_of_ble_eq_true rfl) dX0_sheetAt_10 ⟨Nat.le_of_ble_eq_true rfl, Nat.le_of_ble_eq_true rfl⟩ hS (fun _ h => h) (fun x H locs hq hS hz hk => ?_)
  exact wt_leave hlk (hout _) (fun t ht hW => ⟨⟨_, rfl, by rw [ht]; exact hq⟩, hS.F ht⟩) hS.2.2
theorem nd_X4_answer : yX4_answer.cls = "SmokeLeans$Finding" ∧ yX4_answer.cls ≠ "java/lang/invoke/MethodHandle" ∧ yX4_answer.cls ≠ "java/lang/invoke/VarHandle" ∧ (parseMethodDescriptor yX4_answer.desc).map (fun d => d.parameters.length) = some 0 := by decide +kernel
set_option maxHeartbeats 4000000 in
theorem D_answer (l : Launch) {G : GD} {H0 : Heap} {a : Nat} {w : Int32} (hat : va_at G.1 vwCl (a, .inr (4, efs w)) H0) : MetR l G yX4_answer cX4_answer 1 (some .int) 0 [.ref a] H0 (some (.int (-1000000001 - w))) := by
  refine mx_of (by decide) (Nat.le_of_ble_eq_true rfl) ?_
  intro p e s m below meth c hx hb hr hc hlk hnm hs0 ls hl
  subst hs0
  have hown := hc.2.2.2.1
  have hts := hc.2.2.2.2.1
  have hK := hc.2.2.2.2.2
  have hl : lv_has ls 1 [(0, .ref a)] := hl
  refine lv_ldc (v := (-1000000001)) hx hb hown (hts _ q285) dX4_answer_0 ?_
  refine lv_aload_n hx hb dX4_answer_2 rfl (lv_at hl 0 rfl) ?_
  refine va_get hx hb hts in_X4 hown hK.1 (P1 hat) 0 rfl rfl 6 (by decide) (hts _ q256) (fun x h => h) rfl dX4_answer_3 ?_
  refine lv_isub hx hb dX4_answer_6 ?_
  exact ri_R hx hb hr hlk rfl dX4_answer_7
