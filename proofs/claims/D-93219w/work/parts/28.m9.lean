/-! the reference's methods, 9: the order found and asked -/
set_option maxRecDepth 100000
/-- what findOrder() leaves -/
def OF (f f1 : Nat → Nat → Int32) (N k : Nat) : Prop := Jk f f1 ∧ f1 17 0 = nI k ∧ (∀ j, j < k → f1 15 j = orG (f 0) N j) ∧ ∀ j, j ≤ k → f1 16 j = (orS (f 0) N j).2
theorem okN_stop {s : Nat → Int32} {N k : Nat} (hk : k < 20) (h : orG s N k < 0) : okN s N (20 - k) k = k := by
  rw [show 20 - k = (20 - (k + 1)) + 1 by omega, okN, if_pos h]
theorem okN_step {s : Nat → Int32} {N k : Nat} (hk : k < 20) (h : ¬ orG s N k < 0) : okN s N (20 - k) k = okN s N (20 - (k + 1)) (k + 1) := by
  rw [show 20 - k = (20 - (k + 1)) + 1 by omega, okN, if_neg h]
/-- the loop of findOrder() at k steps gone -/
def OL (G : GD) (A : Nat → Prop) (f : Nat → Nat → Int32) (g : Nat → Nat → Int64) (ad : Nat → Nat) (N k : Nat) (H : Heap) : Prop :=
  k ≤ 20 ∧ okN (f 0) N (20 - k) k = orK (f 0) N ∧ ∃ f1, OF f f1 N k ∧ f1 2 = f 0 ∧ (k < 20 → f1 16 (k + 1) = (orS (f 0) N (k + 1)).2) ∧ ∃ a b n z, MW G A (airF (upA f1 0 (orS (f 0) N k).1) a b n z) g ad H
theorem Jk_up {f : Nat → Nat → Int32} {k j : Nat} {x : Int32} (h : 14 < k) (h2 : k < 19) : Jk f (up2 f k j x) :=
  ⟨up2_ne (by omega), up2_ne (by omega), up2_ne (by omega), up2_ne (by omega), up2_ne (by omega), up2_ne (by omega), up2_ne (by omega), up2_ne (by omega)⟩
theorem nd_X3_findOrder : yX3_findOrder.cls = "SmokeLeansModel" ∧ yX3_findOrder.cls ≠ "java/lang/invoke/MethodHandle" ∧ yX3_findOrder.cls ≠ "java/lang/invoke/VarHandle" ∧ (parseMethodDescriptor yX3_findOrder.desc).map (fun d => d.parameters.length) = some 0 := by decide +kernel
set_option maxHeartbeats 8000000 in
theorem M_findOrder (l : Launch) {G : GD} {A : Nat → Prop} {f : Nat → Nat → Int32} {g : Nat → Nat → Int64} {ad : Nat → Nat} {H0 : Heap} (hW : MW G A f g ad H0) {R N : Nat} (hO : OkN (f 0) R N)  : MetW l G yX3_findOrder cX3_findOrder 2 none 6 0 0 A [.ref (ad 23)] H0 none (fun H => ∃ f1, OF f f1 N (orK (f 0) N) ∧ MW G A f1 g ad H) := by
  refine mx_of (by decide) (Nat.le_of_ble_eq_true rfl) ?_
  intro p e s m below meth c hx hb hr hc hlk hnm hs0 ls hl
  subst hs0
  have hown := hc.2.2.2.1
  have hts := hc.2.2.2.2.1
  have hK := hc.2.2.2.2.2
  have hl : lv_has ls 2 [(0, .ref (ad 23))] := hl
  have hS : va_S A s.heap s.heap [] := va_S.rf
  refine lv_aload_n hx hb dX3_findOrder_0 rfl (lv_at hl 0 rfl) ?_
  refine cv_W0 (rest := []) hc (M_puts l hW) (lw_V q1163 q1165 qs37 q70 q1166) nd_X3_puts ⟨Nat.le_of_ble_eq_true rfl, Nat.le_of_ble_eq_true rfl⟩ (MW.recv hK hW) rfl hl.1 rfl (Nat.le_of_ble_eq_true rfl) dX3_findOrder_1 ⟨Nat.le_of_ble_eq_true rfl, Nat.le_of_ble_eq_true rfl⟩ hS (fun _ h => h) (fun H locs hW hS hz hk => ?_)
  refine lv_aload_n hx hb dX3_findOrder_4 rfl (lv_at hl 0 rfl) ?_
  refine lv_iconst (v := 0) hx hb dX3_findOrder_5 (by decide) ?_
  refine m_putS hc hW hS 17 (by decide) rfl rfl q1017 rfl rfl rfl rfl rfl rfl dX3_findOrder_6 (fun H locs hW hS hz => ?_)
  refine lv_aload_n hx hb dX3_findOrder_9 rfl (lv_at hl 0 rfl) ?_
  obtain ⟨f1, hf1⟩ : ∃ f1, f1 = up2 (upA f 2 (f 0)) 17 0 0 := ⟨_, rfl⟩
  rw [← hf1] at hW
  have e0 : f1 0 = f 0 := by rw [hf1, up2_ne (by decide)]; rfl
  have e2 : f1 2 = f 0 := by rw [hf1, up2_ne (by decide)]; rfl
  have e17 : f1 17 0 = nI 0 := by rw [hf1]; exact up2_at
  have hj : Jk f f1 := by rw [hf1]; exact ⟨(up2_ne (by decide)).trans rfl, (up2_ne (by decide)).trans rfl, (up2_ne (by decide)).trans rfl, (up2_ne (by decide)).trans rfl, (up2_ne (by decide)).trans rfl, (up2_ne (by decide)).trans rfl, (up2_ne (by decide)).trans rfl, (up2_ne (by decide)).trans rfl⟩
  obtain ⟨a0, b0, n0, z0, hW⟩ := AX.of hW
  rw [← upA_self (f := f1) (k := 0), e0] at hW
  refine cv_W0 (rest := []) hc (M_restsX l hW (R := R) (N := N) hO) (lw_V q1233 q1235 qs51 q70 q1236) nd_X3_rests ⟨Nat.le_of_ble_eq_true rfl, Nat.le_of_ble_eq_true rfl⟩ (MW.recv hK hW) rfl hl.1 rfl (Nat.le_of_ble_eq_true rfl) dX3_findOrder_10 ⟨Nat.le_of_ble_eq_true rfl, Nat.le_of_ble_eq_true rfl⟩ hS (fun _ h => h) (fun H locs hq hS hz hk => ?_)
  obtain ⟨b_180, hW⟩ := hq
  have hW : AR G A (upA f1 0 (f 0)) g ad b_180 H := hW
  refine lv_aload_n hx hb dX3_findOrder_13 rfl (lv_at hl 0 rfl) ?_
  refine m_get hc hW 16 (by decide) rfl q1016 rfl rfl dX3_findOrder_14 ?_
  refine lv_iconst (v := 0) hx hb dX3_findOrder_17 (by decide) ?_
  refine lv_aload_n hx hb dX3_findOrder_18 rfl (lv_at hl 0 rfl) ?_
  refine cv_R1 (rest := [.int 0, .ref (ad 16)]) hc (M_lost l hW (R := R) (N := N) hO) (lw_V q1281 q1283 qs57 q70 q1284) nd_X3_lost ⟨Nat.le_of_ble_eq_true rfl, Nat.le_of_ble_eq_true rfl⟩ (MW.recv hK hW) rfl hl.1 rfl (Nat.le_of_ble_eq_true rfl) dX3_findOrder_19 ⟨Nat.le_of_ble_eq_true rfl, Nat.le_of_ble_eq_true rfl⟩ ?_
  refine sm_topi (v := freshN (f 0) (prP (f 0)) N * (f 0) 2) rfl ?_
  refine sm_topi (v := lostP (f 0)) (by rw [lostP, freshP, hO.cl1]) ?_
  refine m_ist hc hW hS 16 rfl (n := 21) rfl (ix_eq (k := 0) rfl (by decide) (by decide)) dX3_findOrder_22 (fun H locs hW hS hz => ?_)
  rw [airF_upJ (by decide), upA_up2 (by decide)] at hW
  obtain ⟨f2, hf2⟩ : ∃ f2, f2 = up2 f1 16 0 (lostP (f 0)) := ⟨_, rfl⟩
  rw [← hf2] at hW
  have hj2 : Jk f f2 := by rw [hf2]; exact hj.tr (Jk_up (by decide) (by decide))
  have q2 : f2 2 = f 0 := by rw [hf2, up2_ne (by decide)]; exact e2
  have q17 : f2 17 0 = nI 0 := by rw [hf2, up2_ne (by decide)]; exact e17
  have q16 : f2 16 0 = lostP (f 0) := by rw [hf2]; exact up2_at
  refine lv_aload_n hx hb dX3_findOrder_23 rfl (lv_at hl 0 rfl) ?_
  refine lv_aload_n hx hb dX3_findOrder_24 rfl (lv_at hl 0 rfl) ?_
  refine m_get hc hW 16 (by decide) rfl q1016 rfl rfl dX3_findOrder_25 ?_
  refine lv_iconst (v := 0) hx hb dX3_findOrder_28 (by decide) ?_
  refine m_ild hc hW 16 rfl (n := 21) rfl (ix_eq (k := 0) rfl (by decide) (by decide)) dX3_findOrder_29 ?_
  refine sm_topi (v := f2 16 0) rfl ?_
  refine sm_topi (v := lostP (f 0)) q16 ?_
  refine cv_W1 (rest := []) hc (M_nextShut l hW (R := R) (N := N) (K := 0) hO q17 (by decide) (lostP (f 0))) (lw_V q1343 q1345 qs64 q70 q1346) nd_X3_nextShut ⟨Nat.le_of_ble_eq_true rfl, Nat.le_of_ble_eq_true rfl⟩ (MW.recv hK hW) rfl hl.1 rfl (Nat.le_of_ble_eq_true rfl) dX3_findOrder_30 ⟨Nat.le_of_ble_eq_true rfl, Nat.le_of_ble_eq_true rfl⟩ hS (fun _ h => h) (fun H locs hq hS hz hk => ?_)
  obtain ⟨a0, b0, n0, z0, hW⟩ := hq
  refine sm_topi (v := orG (f 0) N 0) rfl ?_
  have hOL : OL G A f g ad N 0 H := ⟨by decide, rfl, _, ⟨hj2.tr (Jk_up (by decide) (by decide)), (congrFun (up2_ne (by decide)) 0).trans q17, fun j h => absurd h (Nat.not_lt_zero j), fun j h => by rw [show j = 0 by omega, up2_ne2 (by decide)]; exact q16⟩, (up2_ne (by decide)).trans q2, fun _ => up2_at, _, _, _, _, hW⟩
  refine lv_istore_n (lv' := [(1, .int (orG (f 0) N 0)), (0, .ref (ad 23))]) hx hb dX3_findOrder_33 rfl hl (by decide) rfl (fun ls hl => ?_)
  refine w_loopH (σ := Nat) (fun k H locs cells slots fr => cells = 0 ∧ slots = 0 ∧ (∃ ls, fr = F0 m 34 ls [] ∧ lv_has ls 2 [(1, .int (if k < 20 then orG (f 0) N k else -1)), (0, .ref (ad 23))]) ∧ va_S A s.heap H locs ∧ (OL G A f g ad N k H)) (fun k => 20 - k) 0 ⟨rfl, rfl, ⟨ls, rfl, lv_sub hl [0, 1] rfl⟩, hS, hOL⟩ ?_
  intro k H locs cells slots fr hI ih
  obtain ⟨rfl, rfl, ⟨ls, rfl, hl⟩, hS, ⟨hk20, hok, f1, ⟨hj, h17, h15, h16⟩, h2, h16s, a0, b0, n0, z0, hW⟩⟩ := hI
  have hOk : OkN (orS (f 0) N k).1 R N := OkN_or hO k
  by_cases hlt : k < 20
  · rw [if_pos hlt] at hl
    refine lv_iload_n hx hb dX3_findOrder_34 rfl (lv_at hl 0 rfl) ?_
    refine lv_if_lt (tgt := 96) hx hb dX3_findOrder_35 (by decide) (fun c_181 => ?_) (fun c_181 => ?_)
    · refine lv_aload_n hx hb dX3_findOrder_96 rfl (lv_at hl 1 rfl) ?_
      refine cv_W0 (rest := []) hc (M_putsBack l hW) (lw_V q1225 q1227 qs50 q70 q1228) nd_X3_putsBack ⟨Nat.le_of_ble_eq_true rfl, Nat.le_of_ble_eq_true rfl⟩ (MW.recv hK hW) rfl hl.1 rfl (Nat.le_of_ble_eq_true rfl) dX3_findOrder_97 ⟨Nat.le_of_ble_eq_true rfl, Nat.le_of_ble_eq_true rfl⟩ hS (fun _ h => h) (fun H locs hW hS hz hk => ?_)
      rw [airF_upA (by decide), upA_upA] at hW
      have hW : MW G A (airF (upA f1 0 (f1 2)) a0 b0 n0 z0) g ad H := hW
      rw [h2] at hW
      have hKk : orK (f 0) N = k := hok.symm.trans (okN_stop hlt c_181)
      exact rv_W hx hb hr hlk hS ⟨_, by rw [hKk]; exact ⟨⟨rfl, hj.2.1, hj.2.2.1, hj.2.2.2.1, hj.2.2.2.2.1, hj.2.2.2.2.2.1, hj.2.2.2.2.2.2.1, hj.2.2.2.2.2.2.2⟩, h17, h15, h16⟩, hW⟩ dX3_findOrder_100
    · obtain ⟨j, hjN, hj7, hgj, hrow, hsv⟩ := orG_ex hO.2.1 c_181
      have hO1 : OkN (orS (f 0) N (k + 1)).1 R N := OkN_or hO (k + 1)
      refine lv_aload_n hx hb dX3_findOrder_38 rfl (lv_at hl 1 rfl) ?_
      refine m_get hc hW 15 (by decide) rfl q1015 rfl rfl dX3_findOrder_39 ?_
      refine lv_aload_n hx hb dX3_findOrder_42 rfl (lv_at hl 1 rfl) ?_
      refine m_get hc hW 17 (by decide) rfl q1017 rfl rfl dX3_findOrder_43 ?_
      refine sm_topi (v := f1 17 0) rfl ?_
      refine sm_topi (v := nI (k)) h17 ?_
      refine lv_iload_n hx hb dX3_findOrder_46 rfl (lv_at hl 0 rfl) ?_
      refine m_ist hc hW hS 15 rfl (n := 20) rfl (ix_nI (by omega) (by decide)) dX3_findOrder_47 (fun H locs hW hS hz => ?_)
      rw [airF_upJ (by decide), upA_up2 (by decide)] at hW
      refine lv_aload_n hx hb dX3_findOrder_48 rfl (lv_at hl 1 rfl) ?_
      refine lv_dup hx hb dX3_findOrder_49 rfl ?_
      refine m_get hc hW 17 (by decide) rfl q1017 rfl rfl dX3_findOrder_50 ?_
      refine sm_topi (v := (up2 f1 15 k (orG (f 0) N k)) 17 0) rfl ?_
      refine sm_topi (v := nI k) ((congrFun (up2_ne (by decide)) 0).trans h17) ?_
      refine lv_iconst (v := 1) hx hb dX3_findOrder_53 (by decide) ?_
      refine lv_iadd hx hb dX3_findOrder_54 (sm_topi (v := nI (k + 1)) (nI_add _ _) ?_)
      refine m_putS hc hW hS 17 (by decide) rfl rfl q1017 rfl rfl rfl rfl rfl rfl dX3_findOrder_55 (fun H locs hW hS hz => ?_)
      rw [airF_upJ (by decide), upA_up2 (by decide)] at hW
      obtain ⟨f2, hf2⟩ : ∃ f2, f2 = up2 (up2 f1 15 k (orG (f 0) N k)) 17 0 (nI (k + 1)) := ⟨_, rfl⟩
      rw [← hf2] at hW
      have hj2 : Jk f f2 := by rw [hf2]; exact (hj.tr (Jk_up (by decide) (by decide))).tr (Jk_up (by decide) (by decide))
      have q2 : f2 2 = f 0 := by rw [hf2, up2_ne (by decide), up2_ne (by decide)]; exact h2
      have q17 : f2 17 0 = nI (k + 1) := by rw [hf2]; exact up2_at
      have q16 : f2 16 = f1 16 := by rw [hf2, up2_ne (by decide), up2_ne (by decide)]
      have q15 : ∀ j, j < k + 1 → f2 15 j = orG (f 0) N j := by
        intro i hi
        rw [hf2, up2_ne (by decide)]
        by_cases q : i = k
        · subst q; exact up2_at
        · rw [up2_ne2 q]; exact h15 i (by omega)
      have r16 : ∀ j, j ≤ k + 1 → f2 16 j = (orS (f 0) N j).2 := by
        intro i hi
        rw [q16]
        by_cases q : i = k + 1
        · subst q; exact h16s hlt
        · exact h16 i (by omega)
      refine lv_aload_n hx hb dX3_findOrder_58 rfl (lv_at hl 1 rfl) ?_
      refine lv_iconst (v := 1) hx hb dX3_findOrder_59 (by decide) ?_
      refine lv_iload_n hx hb dX3_findOrder_60 rfl (lv_at hl 0 rfl) ?_
      refine lv_ishl hx hb dX3_findOrder_61 ?_
      refine lv_iconst (v := 1) hx hb dX3_findOrder_62 (by decide) ?_
      refine sm_topi (v := 1) rfl ?_
      refine cv_W0 (rest := []) hc (M_shutsX l hW (R := R) (N := N) hOk (1 <<< ((orG (f 0) N k) &&& 31)) 1) (lw_V q1330 q1332 qs62 q70 q1333) nd_X3_shuts ⟨Nat.le_of_ble_eq_true rfl, Nat.le_of_ble_eq_true rfl⟩ (MW.recv hK hW) rfl hl.1 rfl (Nat.le_of_ble_eq_true rfl) dX3_findOrder_63 ⟨Nat.le_of_ble_eq_true rfl, Nat.le_of_ble_eq_true rfl⟩ hS (fun _ h => h) (fun H locs hW hS hz hk => ?_)
      rw [hgj, shN_one hjN hO.2.1, ← hrow] at hW
      refine lv_aload_n hx hb dX3_findOrder_66 rfl (lv_at hl 1 rfl) ?_
      refine m_get hc hW 17 (by decide) rfl q1017 rfl rfl dX3_findOrder_67 ?_
      refine sm_topi (v := f2 17 0) rfl ?_
      refine sm_topi (v := nI (k + 1)) q17 ?_
      by_cases hk2 : k + 1 < 20
      · refine lv_bipush (v := 20) hx hb dX3_findOrder_70 (by decide) ?_
        refine lv_icmp_ge (tgt := 91) hx hb dX3_findOrder_72 (by decide) (fun h => absurd h (nI_ge (b := 20) hk2 (by decide))) (fun _ => ?_)
        refine lv_aload_n hx hb dX3_findOrder_75 rfl (lv_at hl 1 rfl) ?_
        refine lv_aload_n hx hb dX3_findOrder_76 rfl (lv_at hl 1 rfl) ?_
        refine m_get hc hW 16 (by decide) rfl q1016 rfl rfl dX3_findOrder_77 ?_
        refine lv_aload_n hx hb dX3_findOrder_80 rfl (lv_at hl 1 rfl) ?_
        refine m_get hc hW 17 (by decide) rfl q1017 rfl rfl dX3_findOrder_81 ?_
        refine sm_topi (v := f2 17 0) rfl ?_
        refine sm_topi (v := nI (k + 1)) q17 ?_
        refine m_ild hc hW 16 rfl (n := 21) rfl (ix_nI (by omega) (by decide)) dX3_findOrder_84 ?_
        refine sm_topi (v := f2 16 (k + 1)) rfl ?_
        refine sm_topi (v := (orS (f 0) N (k + 1)).2) (r16 (k + 1) (Nat.le_refl _)) ?_
        refine cv_W1 (rest := []) hc (M_nextShut l hW (R := R) (N := N) (K := k + 1) hO1 q17 hk2 ((orS (f 0) N (k + 1)).2)) (lw_V q1343 q1345 qs64 q70 q1346) nd_X3_nextShut ⟨Nat.le_of_ble_eq_true rfl, Nat.le_of_ble_eq_true rfl⟩ (MW.recv hK hW) rfl hl.1 rfl (Nat.le_of_ble_eq_true rfl) dX3_findOrder_85 ⟨Nat.le_of_ble_eq_true rfl, Nat.le_of_ble_eq_true rfl⟩ hS (fun _ h => h) (fun H locs hq hS hz hk => ?_)
        obtain ⟨a0, b0, n0, z0, hW⟩ := hq
        refine sm_topi (v := orG (f 0) N (k + 1)) rfl ?_
        refine lv_goto (tgt := 92) hx hb dX3_findOrder_88 (by decide) ?_
        refine lv_istore_n (lv' := [(1, .int (orG (f 0) N (k + 1))), (0, .ref (ad 23))]) hx hb dX3_findOrder_92 rfl hl (by decide) rfl (fun ls hl => ?_)
        refine lv_goto (tgt := 34) hx hb dX3_findOrder_93 (by decide) ?_
        refine ih (k + 1) _ _ _ _ _ ⟨rfl, rfl, ⟨ls, rfl, ?_⟩, hS, hlt, (okN_step hlt c_181).symm.trans hok, ?_⟩ (by omega)
        · rw [if_pos hk2]
          exact lv_sub hl [0, 1] rfl
        · refine ⟨_, ⟨hj2.tr (Jk_up (k := 16) (by decide) (by decide)), (congrFun (up2_ne (by decide)) 0).trans q17, fun j h => (congrFun (up2_ne (by decide)) j).trans (q15 j h), fun j h => (up2_ne2 (by omega)).trans (r16 j h)⟩, (up2_ne (by decide)).trans q2, fun _ => up2_at, _, _, _, _, hW⟩
      · refine lv_bipush (v := 20) hx hb dX3_findOrder_70 (by decide) ?_
        refine lv_icmp_ge (tgt := 91) hx hb dX3_findOrder_72 (by decide) (fun _ => ?_) (fun h => absurd (nI_le (a := 20) (by omega) (by omega)) h)
        refine lv_iconst (v := (-1)) hx hb dX3_findOrder_91 (by decide) ?_
        refine lv_istore_n (lv' := [(1, .int (-1)), (0, .ref (ad 23))]) hx hb dX3_findOrder_92 rfl hl (by decide) rfl (fun ls hl => ?_)
        refine lv_goto (tgt := 34) hx hb dX3_findOrder_93 (by decide) ?_
        refine ih (k + 1) _ _ _ _ _ ⟨rfl, rfl, ⟨ls, rfl, ?_⟩, hS, hlt, (okN_step hlt c_181).symm.trans hok, ?_⟩ (by omega)
        · rw [if_neg hk2]
          exact lv_sub hl [0, 1] rfl
        · refine ⟨f2, ⟨hj2, q17, q15, r16⟩, q2, fun h => absurd h hk2, _, _, _, _, hW⟩
  · rw [if_neg hlt] at hl
    refine lv_iload_n hx hb dX3_findOrder_34 rfl (lv_at hl 0 rfl) ?_
    refine lv_if_lt (tgt := 96) hx hb dX3_findOrder_35 (by decide) (fun _ => ?_) (fun h => absurd (by decide) h)
    refine lv_aload_n hx hb dX3_findOrder_96 rfl (lv_at hl 1 rfl) ?_
    refine cv_W0 (rest := []) hc (M_putsBack l hW) (lw_V q1225 q1227 qs50 q70 q1228) nd_X3_putsBack ⟨Nat.le_of_ble_eq_true rfl, Nat.le_of_ble_eq_true rfl⟩ (MW.recv hK hW) rfl hl.1 rfl (Nat.le_of_ble_eq_true rfl) dX3_findOrder_97 ⟨Nat.le_of_ble_eq_true rfl, Nat.le_of_ble_eq_true rfl⟩ hS (fun _ h => h) (fun H locs hW hS hz hk => ?_)
    rw [airF_upA (by decide), upA_upA] at hW
    have hW : MW G A (airF (upA f1 0 (f1 2)) a0 b0 n0 z0) g ad H := hW
    rw [h2] at hW
    have hKk : orK (f 0) N = k := hok.symm.trans (by rw [show k = 20 by omega]; rfl)
    exact rv_W hx hb hr hlk hS ⟨_, by rw [hKk]; exact ⟨⟨rfl, hj.2.1, hj.2.2.1, hj.2.2.2.1, hj.2.2.2.2.1, hj.2.2.2.2.2.1, hj.2.2.2.2.2.2.1, hj.2.2.2.2.2.2.2⟩, h17, h15, h16⟩, hW⟩ dX3_findOrder_100
def orderM (f : Nat → Nat → Int32) (x : Int32) : Int32 × (Nat → Nat → Int32) :=
  if 0 ≤ x ∧ x ≤ 19 then (if x.toNatClampNeg < orK (f 0) (f 0 1).toNatClampNeg then (orG (f 0) (f 0 1).toNatClampNeg x.toNatClampNeg, f) else NON f) else BEY f
def savedM (f : Nat → Nat → Int32) (x : Int32) : Int32 × (Nat → Nat → Int32) :=
  if 0 ≤ x ∧ x ≤ 20 then ((orS (f 0) (f 0 1).toNatClampNeg (if x.toNatClampNeg < orK (f 0) (f 0 1).toNatClampNeg then x.toNatClampNeg else orK (f 0) (f 0 1).toNatClampNeg)).2, f) else BEY f
theorem okN_le {s : Nat → Int32} {N : Nat} : ∀ q k, okN s N q k ≤ q + k
  | 0, k => by show k ≤ 0 + k; omega
  | q + 1, k => by
    unfold okN
    split
    · omega
    · have := okN_le (s := s) (N := N) q (k + 1); omega
theorem orK_le {s : Nat → Int32} {N : Nat} : orK s N ≤ 20 := okN_le 20 0
theorem cntP_Jk {f f1 : Nat → Nat → Int32} {k : Nat} (h : Jk f f1) : Jk (cntP f k) (cntP f1 k) := by
  refine ⟨?_, ?_, ?_, ?_, ?_, ?_, ?_, ?_⟩
  · exact (up2_ne (by decide)).trans (h.1.trans (up2_ne (by decide)).symm)
  · exact (up2_ne (by decide)).trans (h.2.1.trans (up2_ne (by decide)).symm)
  · unfold cntP; rw [up2_row, up2_row, h.2.2.1]
  · exact (up2_ne (by decide)).trans (h.2.2.2.1.trans (up2_ne (by decide)).symm)
  · exact (up2_ne (by decide)).trans (h.2.2.2.2.1.trans (up2_ne (by decide)).symm)
  · exact (up2_ne (by decide)).trans (h.2.2.2.2.2.1.trans (up2_ne (by decide)).symm)
  · exact (up2_ne (by decide)).trans (h.2.2.2.2.2.2.1.trans (up2_ne (by decide)).symm)
  · exact (up2_ne (by decide)).trans (h.2.2.2.2.2.2.2.trans (up2_ne (by decide)).symm)
theorem nd_X3_order : yX3_order.cls = "SmokeLeansModel" ∧ yX3_order.cls ≠ "java/lang/invoke/MethodHandle" ∧ yX3_order.cls ≠ "java/lang/invoke/VarHandle" ∧ (parseMethodDescriptor yX3_order.desc).map (fun d => d.parameters.length) = some 1 := by decide +kernel
set_option maxHeartbeats 4000000 in
theorem M_order (l : Launch) {G : GD} {A : Nat → Prop} {f : Nat → Nat → Int32} {g : Nat → Nat → Int64} {ad : Nat → Nat} {H0 : Heap} (hW : MW G A f g ad H0) {R N : Nat} (hO : OkN (f 0) R N) (x : Int32) : MetW l G yX3_order cX3_order 2 (some .int) 7 0 0 A [.ref (ad 23), .int x] H0 (some (.int ((orderM f x).1))) (fun H => MP G A (orderM f x).2 g ad H) := by
  refine mx_of (by decide) (Nat.le_of_ble_eq_true rfl) ?_
  intro p e s m below meth c hx hb hr hc hlk hnm hs0 ls hl
  subst hs0
  have hown := hc.2.2.2.1
  have hts := hc.2.2.2.2.1
  have hK := hc.2.2.2.2.2
  have hl : lv_has ls 2 [(0, .ref (ad 23)), (1, .int x)] := hl
  have hS : va_S A s.heap s.heap [] := va_S.rf
  refine lv_iload_n hx hb dX3_order_0 rfl (lv_at hl 1 rfl) ?_
  refine lv_i2l hx hb dX3_order_1 rfl ?_
  refine lv_lconst (v := (0 : Int32).toInt64) hx hb dX3_order_2 (by decide) ?_
  refine lv_ldc2 (v := 19) hx hb hown (hts _ q1338) dX3_order_3 (sm_topl (v := (19 : Int32).toInt64) (by decide) ?_)
  refine cs_R1 (rest := []) hc (M_in32 l x 0 19) (lw_S q1089 q1090 q70 q1091) nd_X3_in ⟨Nat.le_of_ble_eq_true rfl, Nat.le_of_ble_eq_true rfl⟩ rfl hl.1 rfl (Nat.le_of_ble_eq_true rfl) dX3_order_6 ⟨Nat.le_of_ble_eq_true rfl, Nat.le_of_ble_eq_true rfl⟩ ?_
  refine bi_ne (tgt := 19) hx hb dX3_order_9 (by decide) (fun c_182 => ?_) (fun c_182 => ?_)
  · obtain ⟨i, hi, rfl⟩ := ex_le 19 (hi := 19) rfl (by decide) c_182.1 c_182.2
    have hcli : (nI i).toNatClampNeg = i := nI_clamp (by omega)
    refine lv_aload_n hx hb dX3_order_19 rfl (lv_at hl 0 rfl) ?_
    refine cv_W0 (rest := []) hc (M_findOrder l hW (R := R) (N := N) hO) (lw_V q1339 q1341 qs63 q70 q1342) nd_X3_findOrder ⟨Nat.le_of_ble_eq_true rfl, Nat.le_of_ble_eq_true rfl⟩ (MW.recv hK hW) rfl hl.1 rfl (Nat.le_of_ble_eq_true rfl) dX3_order_20 ⟨Nat.le_of_ble_eq_true rfl, Nat.le_of_ble_eq_true rfl⟩ hS (fun _ h => h) (fun H locs hq hS hz hk => ?_)
    obtain ⟨f1, ⟨hj, h17, h15, h16⟩, hW⟩ := hq
    have hKle := orK_le (s := f 0) (N := N)
    by_cases hlt : i < orK (f 0) N
    · refine lv_iload_n hx hb dX3_order_23 rfl (lv_at hl 1 rfl) ?_
      refine lv_aload_n hx hb dX3_order_24 rfl (lv_at hl 0 rfl) ?_
      refine m_get hc hW 17 (by decide) rfl q1017 rfl rfl dX3_order_25 ?_
      refine sm_topi (v := nI (orK (f 0) N)) h17 ?_
      refine lv_icmp_ge (tgt := 40) hx hb dX3_order_28 (by decide) (fun h => absurd h (nI_ge hlt (by omega))) (fun _ => ?_)
      refine lv_aload_n hx hb dX3_order_31 rfl (lv_at hl 0 rfl) ?_
      refine m_get hc hW 15 (by decide) rfl q1015 rfl rfl dX3_order_32 ?_
      refine lv_iload_n hx hb dX3_order_35 rfl (lv_at hl 1 rfl) ?_
      refine m_ild hc hW 15 rfl (n := 20) rfl (ix_nI (by omega) (by decide)) dX3_order_36 ?_
      refine sm_topi (v := orG (f 0) N i) (h15 i hlt) ?_
      refine lv_goto (tgt := 46) hx hb dX3_order_37 (by decide) ?_
      exact ri_W hx hb hr hlk hS (by simp only [orderM, hO.cl1, if_pos c_182, hcli, if_pos hlt]) (by simp only [orderM, hO.cl1, if_pos c_182, hcli, if_pos hlt]; exact ⟨f1, g, hj, rfl, hW⟩) dX3_order_46
    · refine lv_iload_n hx hb dX3_order_23 rfl (lv_at hl 1 rfl) ?_
      refine lv_aload_n hx hb dX3_order_24 rfl (lv_at hl 0 rfl) ?_
      refine m_get hc hW 17 (by decide) rfl q1017 rfl rfl dX3_order_25 ?_
      refine sm_topi (v := nI (orK (f 0) N)) h17 ?_
      refine lv_icmp_ge (tgt := 40) hx hb dX3_order_28 (by decide) (fun _ => ?_) (fun h => absurd (nI_le (by omega) (by omega)) h)
      refine lv_aload_n hx hb dX3_order_40 rfl (lv_at hl 0 rfl) ?_
      refine lv_ldc (v := (-1000000004)) hx hb hown (hts _ q1308) dX3_order_41 ?_
      refine cv_W1 (rest := []) hc (M_finds l hW (-1000000004) 3 (ix_eq (k := 3) (by decide) (by decide) (by decide))) (lw_V q1075 q1077 qs28 q70 q1078) nd_X3_finds ⟨Nat.le_of_ble_eq_true rfl, Nat.le_of_ble_eq_true rfl⟩ (MW.recv hK hW) rfl hl.1 rfl (Nat.le_of_ble_eq_true rfl) dX3_order_43 ⟨Nat.le_of_ble_eq_true rfl, Nat.le_of_ble_eq_true rfl⟩ hS (fun _ h => h) (fun H locs hW hS hz hk => ?_)
      exact ri_W hx hb hr hlk hS (by simp only [orderM, hO.cl1, if_pos c_182, hcli, if_neg hlt]) (by simp only [orderM, hO.cl1, if_pos c_182, hcli, if_neg hlt]; exact ⟨cntP f1 3, g, cntP_Jk hj, rfl, hW⟩) dX3_order_46
  · refine lv_aload_n hx hb dX3_order_12 rfl (lv_at hl 0 rfl) ?_
    refine lv_ldc (v := (-1000000001)) hx hb hown (hts _ q1079) dX3_order_13 ?_
    refine cv_W1 (rest := []) hc (M_finds l hW (-1000000001) 0 (ix_eq (k := 0) (by decide) (by decide) (by decide))) (lw_V q1075 q1077 qs28 q70 q1078) nd_X3_finds ⟨Nat.le_of_ble_eq_true rfl, Nat.le_of_ble_eq_true rfl⟩ (MW.recv hK hW) rfl hl.1 rfl (Nat.le_of_ble_eq_true rfl) dX3_order_15 ⟨Nat.le_of_ble_eq_true rfl, Nat.le_of_ble_eq_true rfl⟩ hS (fun _ h => h) (fun H locs hW hS hz hk => ?_)
    exact ri_W hx hb hr hlk hS (by simp only [orderM, if_neg c_182]) (by simp only [orderM, if_neg c_182]; exact MW.mp hW) dX3_order_18
theorem nd_X3_saved : yX3_saved.cls = "SmokeLeansModel" ∧ yX3_saved.cls ≠ "java/lang/invoke/MethodHandle" ∧ yX3_saved.cls ≠ "java/lang/invoke/VarHandle" ∧ (parseMethodDescriptor yX3_saved.desc).map (fun d => d.parameters.length) = some 1 := by decide +kernel
set_option maxHeartbeats 4000000 in
theorem M_saved (l : Launch) {G : GD} {A : Nat → Prop} {f : Nat → Nat → Int32} {g : Nat → Nat → Int64} {ad : Nat → Nat} {H0 : Heap} (hW : MW G A f g ad H0) {R N : Nat} (hO : OkN (f 0) R N) (x : Int32) : MetW l G yX3_saved cX3_saved 2 (some .int) 7 0 0 A [.ref (ad 23), .int x] H0 (some (.int ((savedM f x).1))) (fun H => MP G A (savedM f x).2 g ad H) := by
  refine mx_of (by decide) (Nat.le_of_ble_eq_true rfl) ?_
  intro p e s m below meth c hx hb hr hc hlk hnm hs0 ls hl
  subst hs0
  have hown := hc.2.2.2.1
  have hts := hc.2.2.2.2.1
  have hK := hc.2.2.2.2.2
  have hl : lv_has ls 2 [(0, .ref (ad 23)), (1, .int x)] := hl
  have hS : va_S A s.heap s.heap [] := va_S.rf
  refine lv_iload_n hx hb dX3_saved_0 rfl (lv_at hl 1 rfl) ?_
  refine lv_i2l hx hb dX3_saved_1 rfl ?_
  refine lv_lconst (v := (0 : Int32).toInt64) hx hb dX3_saved_2 (by decide) ?_
  refine lv_ldc2 (v := 20) hx hb hown (hts _ q1351) dX3_saved_3 (sm_topl (v := (20 : Int32).toInt64) (by decide) ?_)
  refine cs_R1 (rest := []) hc (M_in32 l x 0 20) (lw_S q1089 q1090 q70 q1091) nd_X3_in ⟨Nat.le_of_ble_eq_true rfl, Nat.le_of_ble_eq_true rfl⟩ rfl hl.1 rfl (Nat.le_of_ble_eq_true rfl) dX3_saved_6 ⟨Nat.le_of_ble_eq_true rfl, Nat.le_of_ble_eq_true rfl⟩ ?_
  refine bi_ne (tgt := 19) hx hb dX3_saved_9 (by decide) (fun c_183 => ?_) (fun c_183 => ?_)
  · obtain ⟨i, hi, rfl⟩ := ex_le 20 (hi := 20) rfl (by decide) c_183.1 c_183.2
    have hcli : (nI i).toNatClampNeg = i := nI_clamp (by omega)
    refine lv_aload_n hx hb dX3_saved_19 rfl (lv_at hl 0 rfl) ?_
    refine cv_W0 (rest := []) hc (M_findOrder l hW (R := R) (N := N) hO) (lw_V q1339 q1341 qs63 q70 q1342) nd_X3_findOrder ⟨Nat.le_of_ble_eq_true rfl, Nat.le_of_ble_eq_true rfl⟩ (MW.recv hK hW) rfl hl.1 rfl (Nat.le_of_ble_eq_true rfl) dX3_saved_20 ⟨Nat.le_of_ble_eq_true rfl, Nat.le_of_ble_eq_true rfl⟩ hS (fun _ h => h) (fun H locs hq hS hz hk => ?_)
    obtain ⟨f1, ⟨hj, h17, h15, h16⟩, hW⟩ := hq
    have hKle := orK_le (s := f 0) (N := N)
    by_cases hlt : i < orK (f 0) N
    · refine lv_aload_n hx hb dX3_saved_23 rfl (lv_at hl 0 rfl) ?_
      refine m_get hc hW 16 (by decide) rfl q1016 rfl rfl dX3_saved_24 ?_
      refine lv_iload_n hx hb dX3_saved_27 rfl (lv_at hl 1 rfl) ?_
      refine lv_aload_n hx hb dX3_saved_28 rfl (lv_at hl 0 rfl) ?_
      refine m_get hc hW 17 (by decide) rfl q1017 rfl rfl dX3_saved_29 ?_
      refine sm_topi (v := nI (orK (f 0) N)) h17 ?_
      refine lv_icmp_ge (tgt := 39) hx hb dX3_saved_32 (by decide) (fun h => absurd h (nI_ge hlt (by omega))) (fun _ => ?_)
      refine lv_iload_n hx hb dX3_saved_35 rfl (lv_at hl 1 rfl) ?_
      refine lv_goto (tgt := 43) hx hb dX3_saved_36 (by decide) ?_
      refine m_ild hc hW 16 rfl (n := 21) rfl (ix_nI (by omega) (by decide)) dX3_saved_43 ?_
      refine sm_topi (v := (orS (f 0) N i).2) (h16 i (by omega)) ?_
      exact ri_W hx hb hr hlk hS (by simp only [savedM, hO.cl1, if_pos c_183, hcli, if_pos hlt]) (by simp only [savedM, hO.cl1, if_pos c_183, hcli, if_pos hlt]; exact ⟨f1, g, hj, rfl, hW⟩) dX3_saved_44
    · refine lv_aload_n hx hb dX3_saved_23 rfl (lv_at hl 0 rfl) ?_
      refine m_get hc hW 16 (by decide) rfl q1016 rfl rfl dX3_saved_24 ?_
      refine lv_iload_n hx hb dX3_saved_27 rfl (lv_at hl 1 rfl) ?_
      refine lv_aload_n hx hb dX3_saved_28 rfl (lv_at hl 0 rfl) ?_
      refine m_get hc hW 17 (by decide) rfl q1017 rfl rfl dX3_saved_29 ?_
      refine sm_topi (v := nI (orK (f 0) N)) h17 ?_
      refine lv_icmp_ge (tgt := 39) hx hb dX3_saved_32 (by decide) (fun _ => ?_) (fun h => absurd (nI_le (by omega) (by omega)) h)
      refine lv_aload_n hx hb dX3_saved_39 rfl (lv_at hl 0 rfl) ?_
      refine m_get hc hW 17 (by decide) rfl q1017 rfl rfl dX3_saved_40 ?_
      refine sm_topi (v := nI (orK (f 0) N)) h17 ?_
      refine m_ild hc hW 16 rfl (n := 21) rfl (ix_nI (by omega) (by decide)) dX3_saved_43 ?_
      refine sm_topi (v := (orS (f 0) N (orK (f 0) N)).2) (h16 _ (Nat.le_refl _)) ?_
      exact ri_W hx hb hr hlk hS (by simp only [savedM, hO.cl1, if_pos c_183, hcli, if_neg hlt]) (by simp only [savedM, hO.cl1, if_pos c_183, hcli, if_neg hlt]; exact ⟨f1, g, hj, rfl, hW⟩) dX3_saved_44
  · refine lv_aload_n hx hb dX3_saved_12 rfl (lv_at hl 0 rfl) ?_
    refine lv_ldc (v := (-1000000001)) hx hb hown (hts _ q1079) dX3_saved_13 ?_
    refine cv_W1 (rest := []) hc (M_finds l hW (-1000000001) 0 (ix_eq (k := 0) (by decide) (by decide) (by decide))) (lw_V q1075 q1077 qs28 q70 q1078) nd_X3_finds ⟨Nat.le_of_ble_eq_true rfl, Nat.le_of_ble_eq_true rfl⟩ (MW.recv hK hW) rfl hl.1 rfl (Nat.le_of_ble_eq_true rfl) dX3_saved_15 ⟨Nat.le_of_ble_eq_true rfl, Nat.le_of_ble_eq_true rfl⟩ hS (fun _ h => h) (fun H locs hW hS hz hk => ?_)
    exact ri_W hx hb hr hlk hS (by simp only [savedM, if_neg c_183]) (by simp only [savedM, if_neg c_183]; exact MW.mp hW) dX3_saved_18
