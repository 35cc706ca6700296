/-! gaps: the turning one's breadth, whether a gap is of a kind -/
set_option maxRecDepth 100000
abbrev trnP (r : Nat → Int32) (g : Nat) : Prop := r (gp g 2) = -1 ∧ 0 < r 3 ∧ r 4 = r (gp g 5)
theorem nd_X9_breadth : yX9_breadth.cls = "SmokeLeans$Turning" ∧ yX9_breadth.cls ≠ "java/lang/invoke/MethodHandle" ∧ yX9_breadth.cls ≠ "java/lang/invoke/VarHandle" ∧ (parseMethodDescriptor yX9_breadth.desc).map (fun d => d.parameters.length) = some 1 := by decide +kernel
set_option maxHeartbeats 4000000 in
theorem D_br9 (l : Launch) {G : GD} {H0 : Heap} {a g : Nat} {r : Nat → Int32} (hat : va_at G.1 vwCl (a, .inr (9, gfs r g)) H0) {nb : Nat} (hN : NtA G r nb H0)  : MetR l G yX9_breadth cX9_breadth 3 (some .int) 1 [.ref a, .ref nb] H0 (some (.int ((if trnP r g then 2 else 1) * brB r g))) := by
  refine mx_of (by decide) (Nat.le_of_ble_eq_true rfl) ?_
  intro p e s m below meth c hx hb hr hc hlk hnm hs0 ls hl
  subst hs0
  have hown := hc.2.2.2.1
  have hts := hc.2.2.2.2.1
  have hK := hc.2.2.2.2.2
  have hl : lv_has ls 3 [(0, .ref a), (1, .ref nb)] := hl
  refine lv_aload_n hx hb dX9_breadth_0 rfl (lv_at hl 0 rfl) ?_
  refine va_get hx hb hts in_X9 hown hK.1 (P1 hat) 0 rfl rfl 1 (by decide) (hts _ q315) (u_same (hts _ q316)) rfl dX9_breadth_1 ?_
  refine lv_iconst (v := (-1)) hx hb dX9_breadth_4 (by decide) ?_
  refine w_join (fun y => y = b2i (decide (trnP r g) = true)) 29 [] (fun y hy => ?_) (fun jn => ?_)
  · subst hy
    refine lv_istore_n (lv' := [(2, .int (b2i (decide (trnP r g) = true))), (0, .ref a), (1, .ref nb)]) hx hb dX9_breadth_29 rfl hl (by decide) rfl (fun ls hl => ?_)
    refine lv_iload_n hx hb dX9_breadth_30 rfl (lv_at hl 0 rfl) ?_
    refine bi_eq (tgt := 38) hx hb dX9_breadth_31 (by decide) (fun c_387 => ?_) (fun c_387 => ?_)
    · refine lv_iconst (v := 1) hx hb dX9_breadth_38 (by decide) ?_
      refine lv_aload_n hx hb dX9_breadth_39 rfl (lv_at hl 1 rfl) ?_
      refine lv_aload_n hx hb dX9_breadth_40 rfl (lv_at hl 2 rfl) ?_
      refine su_R1 (n := 1) (rest := [.int 1]) (x := ⟨"SmokeLeans$Gap", "breadth", "([I)I"⟩) (owner := "SmokeLeans$Gap") hc (D_br5_4 l hat nb) rfl q483 q470 q404 q468 q74 q484 sub_self ⟨by decide, by decide +kernel⟩ ⟨Nat.le_of_ble_eq_true rfl, Nat.le_of_ble_eq_true rfl⟩ (o_recvK hK hat rfl) rfl hl.1 rfl (Nat.le_of_ble_eq_true rfl) dX9_breadth_41 ⟨Nat.le_of_ble_eq_true rfl, Nat.le_of_ble_eq_true rfl⟩ ?_
      refine lv_imul hx hb dX9_breadth_44 ?_
      exact ri_R hx hb hr hlk (by rw [if_neg (fun h => c_387 (decide_eq_true h))]) dX9_breadth_45
    · refine lv_iconst (v := 2) hx hb dX9_breadth_34 (by decide) ?_
      refine lv_goto (tgt := 39) hx hb dX9_breadth_35 (by decide) ?_
      refine lv_aload_n hx hb dX9_breadth_39 rfl (lv_at hl 1 rfl) ?_
      refine lv_aload_n hx hb dX9_breadth_40 rfl (lv_at hl 2 rfl) ?_
      refine su_R1 (n := 1) (rest := [.int 2]) (x := ⟨"SmokeLeans$Gap", "breadth", "([I)I"⟩) (owner := "SmokeLeans$Gap") hc (D_br5_4 l hat nb) rfl q483 q470 q404 q468 q74 q484 sub_self ⟨by decide, by decide +kernel⟩ ⟨Nat.le_of_ble_eq_true rfl, Nat.le_of_ble_eq_true rfl⟩ (o_recvK hK hat rfl) rfl hl.1 rfl (Nat.le_of_ble_eq_true rfl) dX9_breadth_41 ⟨Nat.le_of_ble_eq_true rfl, Nat.le_of_ble_eq_true rfl⟩ ?_
      refine lv_imul hx hb dX9_breadth_44 ?_
      exact ri_R hx hb hr hlk (by rw [if_pos (of_decide_eq_true c_387)]) dX9_breadth_45
  · refine lv_icmp_ne (tgt := 28) hx hb dX9_breadth_5 (by decide) (fun c_388 => ?_) (fun c_388 => ?_)
    · refine lv_iconst (v := 0) hx hb dX9_breadth_28 (by decide) ?_
      exact jn _ ((b2i_f (fun h => c_388 (of_decide_eq_true h).1)).symm)
    · refine lv_aload_n hx hb dX9_breadth_8 rfl (lv_at hl 1 rfl) ?_
      refine lv_iconst (v := 1) hx hb dX9_breadth_9 (by decide) ?_
      refine nt_ld hc hN (ix_eq (k := 1) rfl (by decide) (by decide)) dX9_breadth_10 ?_
      refine sm_topi (v := r 3) rfl ?_
      refine lv_if_le (tgt := 28) hx hb dX9_breadth_11 (by decide) (fun c_389 => ?_) (fun c_389 => ?_)
      · refine lv_iconst (v := 0) hx hb dX9_breadth_28 (by decide) ?_
        exact jn _ ((b2i_f (fun h => absurd (of_decide_eq_true h).2.1 (Int32.not_lt.mpr c_389))).symm)
      · refine lv_aload_n hx hb dX9_breadth_14 rfl (lv_at hl 1 rfl) ?_
        refine lv_iconst (v := 2) hx hb dX9_breadth_15 (by decide) ?_
        refine nt_ld hc hN (ix_eq (k := 2) rfl (by decide) (by decide)) dX9_breadth_16 ?_
        refine sm_topi (v := r 4) rfl ?_
        refine lv_aload_n hx hb dX9_breadth_17 rfl (lv_at hl 0 rfl) ?_
        refine va_get hx hb hts in_X9 hown hK.1 (P1 hat) 0 rfl rfl 4 (by decide) (hts _ q324) (u_same (hts _ q325)) rfl dX9_breadth_18 ?_
        refine lv_icmp_ne (tgt := 28) hx hb dX9_breadth_21 (by decide) (fun c_390 => ?_) (fun c_390 => ?_)
        · refine lv_iconst (v := 0) hx hb dX9_breadth_28 (by decide) ?_
          exact jn _ ((b2i_f (fun h => c_390 (of_decide_eq_true h).2.2)).symm)
        · refine lv_iconst (v := 1) hx hb dX9_breadth_24 (by decide) ?_
          refine lv_goto (tgt := 29) hx hb dX9_breadth_25 (by decide) ?_
          exact jn _ ((b2i_t (decide_eq_true ⟨c_388, Int32.not_le.mp c_389, c_390⟩)).symm)
theorem nd_X5_is : yX5_is.cls = "SmokeLeans$Gap" ∧ yX5_is.cls ≠ "java/lang/invoke/MethodHandle" ∧ yX5_is.cls ≠ "java/lang/invoke/VarHandle" ∧ (parseMethodDescriptor yX5_is.desc).map (fun d => d.parameters.length) = some 1 := by decide +kernel
set_option maxHeartbeats 4000000 in
theorem D_is5_0 (l : Launch) {G : GD} {H0 : Heap} {a g : Nat} {r : Nat → Int32} (hat : va_at G.1 vwCl (a, .inr (5, gfs r g)) H0) (q : Int32) : MetR l G yX5_is cX5_is 2 (some .boolean) 3 [.ref a, .int q] H0 (some (.int (b2i (q = 0 ∨ q = 0)))) := by
  refine mx_of (by decide) (Nat.le_of_ble_eq_true rfl) ?_
  intro p e s m below meth c hx hb hr hc hlk hnm hs0 ls hl
  subst hs0
  have hown := hc.2.2.2.1
  have hts := hc.2.2.2.2.1
  have hK := hc.2.2.2.2.2
  have hl : lv_has ls 2 [(0, .ref a), (1, .int q)] := hl
  refine lv_iload_n hx hb dX5_is_0 rfl (lv_at hl 1 rfl) ?_
  refine lv_if_eq (tgt := 12) hx hb dX5_is_1 (by decide) (fun c_391 => ?_) (fun c_391 => ?_)
  · refine lv_iconst (v := 1) hx hb dX5_is_12 (by decide) ?_
    refine lv_goto (tgt := 17) hx hb dX5_is_13 (by decide) ?_
    exact rz_R hx hb hr hlk ((b2i_t (Or.inl c_391)).symm) dX5_is_17
  · refine lv_iload_n hx hb dX5_is_4 rfl (lv_at hl 1 rfl) ?_
    refine lv_aload_n hx hb dX5_is_5 rfl (lv_at hl 0 rfl) ?_
    refine cu_R1 (n := 0) (rest := [.int q]) hc (D_kind5 l a) (lw_O (owner := "SmokeLeans$Gap") q540 q436 q434 q435 q434 q74 q457) q457 ⟨by decide, by decide, by decide +kernel⟩ ⟨Nat.le_of_ble_eq_true rfl, Nat.le_of_ble_eq_true rfl⟩ (o_recv hK hat rfl) rfl hl.1 rfl (Nat.le_of_ble_eq_true rfl) dX5_is_6 ⟨Nat.le_of_ble_eq_true rfl, Nat.le_of_ble_eq_true rfl⟩ ?_
    refine lv_icmp_ne (tgt := 16) hx hb dX5_is_9 (by decide) (fun c_392 => ?_) (fun c_392 => ?_)
    · refine lv_iconst (v := 0) hx hb dX5_is_16 (by decide) ?_
      exact rz_R hx hb hr hlk ((b2i_f (not_or.mpr ⟨c_391, c_392⟩)).symm) dX5_is_17
    · refine lv_iconst (v := 1) hx hb dX5_is_12 (by decide) ?_
      refine lv_goto (tgt := 17) hx hb dX5_is_13 (by decide) ?_
      exact rz_R hx hb hr hlk ((b2i_t (Or.inr c_392)).symm) dX5_is_17
set_option maxHeartbeats 4000000 in
theorem D_is5_1 (l : Launch) {G : GD} {H0 : Heap} {a g : Nat} {r : Nat → Int32} (hat : va_at G.1 vwCl (a, .inr (6, gfs r g)) H0) (q : Int32) : MetR l G yX5_is cX5_is 2 (some .boolean) 3 [.ref a, .int q] H0 (some (.int (b2i (q = 0 ∨ q = 1)))) := by
  refine mx_of (by decide) (Nat.le_of_ble_eq_true rfl) ?_
  intro p e s m below meth c hx hb hr hc hlk hnm hs0 ls hl
  subst hs0
  have hown := hc.2.2.2.1
  have hts := hc.2.2.2.2.1
  have hK := hc.2.2.2.2.2
  have hl : lv_has ls 2 [(0, .ref a), (1, .int q)] := hl
  refine lv_iload_n hx hb dX5_is_0 rfl (lv_at hl 1 rfl) ?_
  refine lv_if_eq (tgt := 12) hx hb dX5_is_1 (by decide) (fun c_393 => ?_) (fun c_393 => ?_)
  · refine lv_iconst (v := 1) hx hb dX5_is_12 (by decide) ?_
    refine lv_goto (tgt := 17) hx hb dX5_is_13 (by decide) ?_
    exact rz_R hx hb hr hlk ((b2i_t (Or.inl c_393)).symm) dX5_is_17
  · refine lv_iload_n hx hb dX5_is_4 rfl (lv_at hl 1 rfl) ?_
    refine lv_aload_n hx hb dX5_is_5 rfl (lv_at hl 0 rfl) ?_
    refine cu_R1 (n := 0) (rest := [.int q]) hc (D_kind6 l hat) (lw_O (owner := "SmokeLeans$Gap") q540 q436 q434 q444 q445 q75 q446) q457 ⟨by decide, by decide, by decide +kernel⟩ ⟨Nat.le_of_ble_eq_true rfl, Nat.le_of_ble_eq_true rfl⟩ (o_recv hK hat rfl) rfl hl.1 rfl (Nat.le_of_ble_eq_true rfl) dX5_is_6 ⟨Nat.le_of_ble_eq_true rfl, Nat.le_of_ble_eq_true rfl⟩ ?_
    refine lv_icmp_ne (tgt := 16) hx hb dX5_is_9 (by decide) (fun c_394 => ?_) (fun c_394 => ?_)
    · refine lv_iconst (v := 0) hx hb dX5_is_16 (by decide) ?_
      exact rz_R hx hb hr hlk ((b2i_f (not_or.mpr ⟨c_393, c_394⟩)).symm) dX5_is_17
    · refine lv_iconst (v := 1) hx hb dX5_is_12 (by decide) ?_
      refine lv_goto (tgt := 17) hx hb dX5_is_13 (by decide) ?_
      exact rz_R hx hb hr hlk ((b2i_t (Or.inr c_394)).symm) dX5_is_17
set_option maxHeartbeats 4000000 in
theorem D_is5_2 (l : Launch) {G : GD} {H0 : Heap} {a g : Nat} {r : Nat → Int32} (hat : va_at G.1 vwCl (a, .inr (7, gfs r g)) H0) (q : Int32) : MetR l G yX5_is cX5_is 2 (some .boolean) 3 [.ref a, .int q] H0 (some (.int (b2i (q = 0 ∨ q = 2)))) := by
  refine mx_of (by decide) (Nat.le_of_ble_eq_true rfl) ?_
  intro p e s m below meth c hx hb hr hc hlk hnm hs0 ls hl
  subst hs0
  have hown := hc.2.2.2.1
  have hts := hc.2.2.2.2.1
  have hK := hc.2.2.2.2.2
  have hl : lv_has ls 2 [(0, .ref a), (1, .int q)] := hl
  refine lv_iload_n hx hb dX5_is_0 rfl (lv_at hl 1 rfl) ?_
  refine lv_if_eq (tgt := 12) hx hb dX5_is_1 (by decide) (fun c_395 => ?_) (fun c_395 => ?_)
  · refine lv_iconst (v := 1) hx hb dX5_is_12 (by decide) ?_
    refine lv_goto (tgt := 17) hx hb dX5_is_13 (by decide) ?_
    exact rz_R hx hb hr hlk ((b2i_t (Or.inl c_395)).symm) dX5_is_17
  · refine lv_iload_n hx hb dX5_is_4 rfl (lv_at hl 1 rfl) ?_
    refine lv_aload_n hx hb dX5_is_5 rfl (lv_at hl 0 rfl) ?_
    refine cu_R1 (n := 0) (rest := [.int q]) hc (D_kind7 l hat) (lw_O (owner := "SmokeLeans$Gap") q540 q436 q434 q452 q441 q76 q442) q457 ⟨by decide, by decide, by decide +kernel⟩ ⟨Nat.le_of_ble_eq_true rfl, Nat.le_of_ble_eq_true rfl⟩ (o_recv hK hat rfl) rfl hl.1 rfl (Nat.le_of_ble_eq_true rfl) dX5_is_6 ⟨Nat.le_of_ble_eq_true rfl, Nat.le_of_ble_eq_true rfl⟩ ?_
    refine lv_icmp_ne (tgt := 16) hx hb dX5_is_9 (by decide) (fun c_396 => ?_) (fun c_396 => ?_)
    · refine lv_iconst (v := 0) hx hb dX5_is_16 (by decide) ?_
      exact rz_R hx hb hr hlk ((b2i_f (not_or.mpr ⟨c_395, c_396⟩)).symm) dX5_is_17
    · refine lv_iconst (v := 1) hx hb dX5_is_12 (by decide) ?_
      refine lv_goto (tgt := 17) hx hb dX5_is_13 (by decide) ?_
      exact rz_R hx hb hr hlk ((b2i_t (Or.inr c_396)).symm) dX5_is_17
set_option maxHeartbeats 4000000 in
theorem D_is5_3 (l : Launch) {G : GD} {H0 : Heap} {a g : Nat} {r : Nat → Int32} (hat : va_at G.1 vwCl (a, .inr (8, gfs r g)) H0) (q : Int32) : MetR l G yX5_is cX5_is 2 (some .boolean) 3 [.ref a, .int q] H0 (some (.int (b2i (q = 0 ∨ q = 3)))) := by
  refine mx_of (by decide) (Nat.le_of_ble_eq_true rfl) ?_
  intro p e s m below meth c hx hb hr hc hlk hnm hs0 ls hl
  subst hs0
  have hown := hc.2.2.2.1
  have hts := hc.2.2.2.2.1
  have hK := hc.2.2.2.2.2
  have hl : lv_has ls 2 [(0, .ref a), (1, .int q)] := hl
  refine lv_iload_n hx hb dX5_is_0 rfl (lv_at hl 1 rfl) ?_
  refine lv_if_eq (tgt := 12) hx hb dX5_is_1 (by decide) (fun c_397 => ?_) (fun c_397 => ?_)
  · refine lv_iconst (v := 1) hx hb dX5_is_12 (by decide) ?_
    refine lv_goto (tgt := 17) hx hb dX5_is_13 (by decide) ?_
    exact rz_R hx hb hr hlk ((b2i_t (Or.inl c_397)).symm) dX5_is_17
  · refine lv_iload_n hx hb dX5_is_4 rfl (lv_at hl 1 rfl) ?_
    refine lv_aload_n hx hb dX5_is_5 rfl (lv_at hl 0 rfl) ?_
    refine cu_R1 (n := 0) (rest := [.int q]) hc (D_kind8 l hat) (lw_O (owner := "SmokeLeans$Gap") q540 q436 q434 q448 q449 q77 q450) q457 ⟨by decide, by decide, by decide +kernel⟩ ⟨Nat.le_of_ble_eq_true rfl, Nat.le_of_ble_eq_true rfl⟩ (o_recv hK hat rfl) rfl hl.1 rfl (Nat.le_of_ble_eq_true rfl) dX5_is_6 ⟨Nat.le_of_ble_eq_true rfl, Nat.le_of_ble_eq_true rfl⟩ ?_
    refine lv_icmp_ne (tgt := 16) hx hb dX5_is_9 (by decide) (fun c_398 => ?_) (fun c_398 => ?_)
    · refine lv_iconst (v := 0) hx hb dX5_is_16 (by decide) ?_
      exact rz_R hx hb hr hlk ((b2i_f (not_or.mpr ⟨c_397, c_398⟩)).symm) dX5_is_17
    · refine lv_iconst (v := 1) hx hb dX5_is_12 (by decide) ?_
      refine lv_goto (tgt := 17) hx hb dX5_is_13 (by decide) ?_
      exact rz_R hx hb hr hlk ((b2i_t (Or.inr c_398)).symm) dX5_is_17
set_option maxHeartbeats 4000000 in
theorem D_is5_4 (l : Launch) {G : GD} {H0 : Heap} {a g : Nat} {r : Nat → Int32} (hat : va_at G.1 vwCl (a, .inr (9, gfs r g)) H0) (q : Int32) : MetR l G yX5_is cX5_is 2 (some .boolean) 3 [.ref a, .int q] H0 (some (.int (b2i (q = 0 ∨ q = 4)))) := by
  refine mx_of (by decide) (Nat.le_of_ble_eq_true rfl) ?_
  intro p e s m below meth c hx hb hr hc hlk hnm hs0 ls hl
  subst hs0
  have hown := hc.2.2.2.1
  have hts := hc.2.2.2.2.1
  have hK := hc.2.2.2.2.2
  have hl : lv_has ls 2 [(0, .ref a), (1, .int q)] := hl
  refine lv_iload_n hx hb dX5_is_0 rfl (lv_at hl 1 rfl) ?_
  refine lv_if_eq (tgt := 12) hx hb dX5_is_1 (by decide) (fun c_399 => ?_) (fun c_399 => ?_)
  · refine lv_iconst (v := 1) hx hb dX5_is_12 (by decide) ?_
    refine lv_goto (tgt := 17) hx hb dX5_is_13 (by decide) ?_
    exact rz_R hx hb hr hlk ((b2i_t (Or.inl c_399)).symm) dX5_is_17
  · refine lv_iload_n hx hb dX5_is_4 rfl (lv_at hl 1 rfl) ?_
    refine lv_aload_n hx hb dX5_is_5 rfl (lv_at hl 0 rfl) ?_
    refine cu_R1 (n := 0) (rest := [.int q]) hc (D_kind9 l hat) (lw_O (owner := "SmokeLeans$Gap") q540 q436 q434 q453 q454 q78 q455) q457 ⟨by decide, by decide, by decide +kernel⟩ ⟨Nat.le_of_ble_eq_true rfl, Nat.le_of_ble_eq_true rfl⟩ (o_recv hK hat rfl) rfl hl.1 rfl (Nat.le_of_ble_eq_true rfl) dX5_is_6 ⟨Nat.le_of_ble_eq_true rfl, Nat.le_of_ble_eq_true rfl⟩ ?_
    refine lv_icmp_ne (tgt := 16) hx hb dX5_is_9 (by decide) (fun c_400 => ?_) (fun c_400 => ?_)
    · refine lv_iconst (v := 0) hx hb dX5_is_16 (by decide) ?_
      exact rz_R hx hb hr hlk ((b2i_f (not_or.mpr ⟨c_399, c_400⟩)).symm) dX5_is_17
    · refine lv_iconst (v := 1) hx hb dX5_is_12 (by decide) ?_
      refine lv_goto (tgt := 17) hx hb dX5_is_13 (by decide) ?_
      exact rz_R hx hb hr hlk ((b2i_t (Or.inr c_400)).symm) dX5_is_17
set_option maxHeartbeats 4000000 in
theorem D_is5_5 (l : Launch) {G : GD} {H0 : Heap} {a g : Nat} {r : Nat → Int32} (hat : va_at G.1 vwCl (a, .inr (10, gfs r g)) H0) (q : Int32) : MetR l G yX5_is cX5_is 2 (some .boolean) 3 [.ref a, .int q] H0 (some (.int (b2i (q = 0 ∨ q = 5)))) := by
  refine mx_of (by decide) (Nat.le_of_ble_eq_true rfl) ?_
  intro p e s m below meth c hx hb hr hc hlk hnm hs0 ls hl
  subst hs0
  have hown := hc.2.2.2.1
  have hts := hc.2.2.2.2.1
  have hK := hc.2.2.2.2.2
  have hl : lv_has ls 2 [(0, .ref a), (1, .int q)] := hl
  refine lv_iload_n hx hb dX5_is_0 rfl (lv_at hl 1 rfl) ?_
  refine lv_if_eq (tgt := 12) hx hb dX5_is_1 (by decide) (fun c_401 => ?_) (fun c_401 => ?_)
  · refine lv_iconst (v := 1) hx hb dX5_is_12 (by decide) ?_
    refine lv_goto (tgt := 17) hx hb dX5_is_13 (by decide) ?_
    exact rz_R hx hb hr hlk ((b2i_t (Or.inl c_401)).symm) dX5_is_17
  · refine lv_iload_n hx hb dX5_is_4 rfl (lv_at hl 1 rfl) ?_
    refine lv_aload_n hx hb dX5_is_5 rfl (lv_at hl 0 rfl) ?_
    refine cu_R1 (n := 0) (rest := [.int q]) hc (D_kind10 l hat) (lw_O (owner := "SmokeLeans$Gap") q540 q436 q434 q437 q438 q79 q439) q457 ⟨by decide, by decide, by decide +kernel⟩ ⟨Nat.le_of_ble_eq_true rfl, Nat.le_of_ble_eq_true rfl⟩ (o_recv hK hat rfl) rfl hl.1 rfl (Nat.le_of_ble_eq_true rfl) dX5_is_6 ⟨Nat.le_of_ble_eq_true rfl, Nat.le_of_ble_eq_true rfl⟩ ?_
    refine lv_icmp_ne (tgt := 16) hx hb dX5_is_9 (by decide) (fun c_402 => ?_) (fun c_402 => ?_)
    · refine lv_iconst (v := 0) hx hb dX5_is_16 (by decide) ?_
      exact rz_R hx hb hr hlk ((b2i_f (not_or.mpr ⟨c_401, c_402⟩)).symm) dX5_is_17
    · refine lv_iconst (v := 1) hx hb dX5_is_12 (by decide) ?_
      refine lv_goto (tgt := 17) hx hb dX5_is_13 (by decide) ?_
      exact rz_R hx hb hr hlk ((b2i_t (Or.inr c_402)).symm) dX5_is_17
theorem nd_X7_is : yX7_is.cls = "SmokeLeans$Needed" ∧ yX7_is.cls ≠ "java/lang/invoke/MethodHandle" ∧ yX7_is.cls ≠ "java/lang/invoke/VarHandle" ∧ (parseMethodDescriptor yX7_is.desc).map (fun d => d.parameters.length) = some 1 := by decide +kernel
set_option maxHeartbeats 4000000 in
theorem D_is7_2 (l : Launch) {G : GD} {H0 : Heap} {a g : Nat} {r : Nat → Int32} (hat : va_at G.1 vwCl (a, .inr (7, gfs r g)) H0) (q : Int32) : MetR l G yX7_is cX7_is 2 (some .boolean) 4 [.ref a, .int q] H0 (some (.int (b2i (q = 2 ∨ (q = 0 ∨ q = 2))))) := by
  refine mx_of (by decide) (Nat.le_of_ble_eq_true rfl) ?_
  intro p e s m below meth c hx hb hr hc hlk hnm hs0 ls hl
  subst hs0
  have hown := hc.2.2.2.1
  have hts := hc.2.2.2.2.1
  have hK := hc.2.2.2.2.2
  have hl : lv_has ls 2 [(0, .ref a), (1, .int q)] := hl
  refine lv_iload_n hx hb dX7_is_0 rfl (lv_at hl 1 rfl) ?_
  refine lv_iconst (v := 2) hx hb dX7_is_1 (by decide) ?_
  refine lv_icmp_eq (tgt := 13) hx hb dX7_is_2 (by decide) (fun c_403 => ?_) (fun c_403 => ?_)
  · refine lv_iconst (v := 1) hx hb dX7_is_13 (by decide) ?_
    refine lv_goto (tgt := 18) hx hb dX7_is_14 (by decide) ?_
    exact rz_R hx hb hr hlk ((b2i_t (Or.inl c_403)).symm) dX7_is_18
  · refine lv_aload_n hx hb dX7_is_5 rfl (lv_at hl 0 rfl) ?_
    refine lv_iload_n hx hb dX7_is_6 rfl (lv_at hl 1 rfl) ?_
    refine su_R1 (n := 1) (rest := []) (x := ⟨"SmokeLeans$Gap", "is", "(I)Z"⟩) (owner := "SmokeLeans$Gap") hc (D_is5_2 l hat q) rfl q534 q530 q376 q528 q74 q539 sub_self ⟨by decide, by decide +kernel⟩ ⟨Nat.le_of_ble_eq_true rfl, Nat.le_of_ble_eq_true rfl⟩ (o_recvK hK hat rfl) rfl hl.1 rfl (Nat.le_of_ble_eq_true rfl) dX7_is_7 ⟨Nat.le_of_ble_eq_true rfl, Nat.le_of_ble_eq_true rfl⟩ ?_
    refine bi_eq (tgt := 17) hx hb dX7_is_10 (by decide) (fun c_404 => ?_) (fun c_404 => ?_)
    · refine lv_iconst (v := 0) hx hb dX7_is_17 (by decide) ?_
      exact rz_R hx hb hr hlk ((b2i_f (not_or.mpr ⟨c_403, c_404⟩)).symm) dX7_is_18
    · refine lv_iconst (v := 1) hx hb dX7_is_13 (by decide) ?_
      refine lv_goto (tgt := 18) hx hb dX7_is_14 (by decide) ?_
      exact rz_R hx hb hr hlk ((b2i_t (Or.inr c_404)).symm) dX7_is_18
set_option maxHeartbeats 4000000 in
theorem D_is7_5 (l : Launch) {G : GD} {H0 : Heap} {a g : Nat} {r : Nat → Int32} (hat : va_at G.1 vwCl (a, .inr (10, gfs r g)) H0) (q : Int32) : MetR l G yX7_is cX7_is 2 (some .boolean) 4 [.ref a, .int q] H0 (some (.int (b2i (q = 2 ∨ (q = 0 ∨ q = 5))))) := by
  refine mx_of (by decide) (Nat.le_of_ble_eq_true rfl) ?_
  intro p e s m below meth c hx hb hr hc hlk hnm hs0 ls hl
  subst hs0
  have hown := hc.2.2.2.1
  have hts := hc.2.2.2.2.1
  have hK := hc.2.2.2.2.2
  have hl : lv_has ls 2 [(0, .ref a), (1, .int q)] := hl
  refine lv_iload_n hx hb dX7_is_0 rfl (lv_at hl 1 rfl) ?_
  refine lv_iconst (v := 2) hx hb dX7_is_1 (by decide) ?_
  refine lv_icmp_eq (tgt := 13) hx hb dX7_is_2 (by decide) (fun c_405 => ?_) (fun c_405 => ?_)
  · refine lv_iconst (v := 1) hx hb dX7_is_13 (by decide) ?_
    refine lv_goto (tgt := 18) hx hb dX7_is_14 (by decide) ?_
    exact rz_R hx hb hr hlk ((b2i_t (Or.inl c_405)).symm) dX7_is_18
  · refine lv_aload_n hx hb dX7_is_5 rfl (lv_at hl 0 rfl) ?_
    refine lv_iload_n hx hb dX7_is_6 rfl (lv_at hl 1 rfl) ?_
    refine su_R1 (n := 1) (rest := []) (x := ⟨"SmokeLeans$Gap", "is", "(I)Z"⟩) (owner := "SmokeLeans$Gap") hc (D_is5_5 l hat q) rfl q534 q530 q376 q528 q74 q539 sub_self ⟨by decide, by decide +kernel⟩ ⟨Nat.le_of_ble_eq_true rfl, Nat.le_of_ble_eq_true rfl⟩ (o_recvK hK hat rfl) rfl hl.1 rfl (Nat.le_of_ble_eq_true rfl) dX7_is_7 ⟨Nat.le_of_ble_eq_true rfl, Nat.le_of_ble_eq_true rfl⟩ ?_
    refine bi_eq (tgt := 17) hx hb dX7_is_10 (by decide) (fun c_406 => ?_) (fun c_406 => ?_)
    · refine lv_iconst (v := 0) hx hb dX7_is_17 (by decide) ?_
      exact rz_R hx hb hr hlk ((b2i_f (not_or.mpr ⟨c_405, c_406⟩)).symm) dX7_is_18
    · refine lv_iconst (v := 1) hx hb dX7_is_13 (by decide) ?_
      refine lv_goto (tgt := 18) hx hb dX7_is_14 (by decide) ?_
      exact rz_R hx hb hr hlk ((b2i_t (Or.inr c_406)).symm) dX7_is_18
