/-! gaps: pushes; virtual calls on a gap of any kind -/
set_option maxRecDepth 100000
theorem sub_one {args : Array Value} {s : State} {a b : String} (h : (Cond.superclass a b).before args s = true) : ∀ cn cO, s.vm.findClass a = some cn → s.vm.findClass b = some cO → s.vm.isSubclass cn cO = true := by
  intro cn cO h1 h2
  obtain ⟨q, k, kp, hp, hk, hkp, hs, -⟩ := Cond.superclass_spec h1 h
  cases hp.symm.trans h2
  have hsz : cn < s.vm.classes.size := (Array.getElem?_eq_some_iff.mp hk).1
  obtain ⟨n, hn⟩ : ∃ n, s.vm.classes.size = n + 1 := ⟨s.vm.classes.size - 1, (Nat.sub_add_cancel (Nat.succ_le_of_lt (Nat.lt_of_le_of_lt (Nat.zero_le _) hsz))).symm⟩
  unfold Vm.isSubclass
  rw [hn]
  simp [Vm.isSubclassAux, hk, hs]
def psC (r : Nat → Int32) (g : Nat) : Int32 := r 2 * (5 - r (gp g 4)) + wdC (r 3) (r 4) (r (gp g 5))
theorem nd_X5_push : yX5_push.cls = "SmokeLeans$Gap" ∧ yX5_push.cls ≠ "java/lang/invoke/MethodHandle" ∧ yX5_push.cls ≠ "java/lang/invoke/VarHandle" ∧ (parseMethodDescriptor yX5_push.desc).map (fun d => d.parameters.length) = some 1 := by decide +kernel
set_option maxHeartbeats 4000000 in
theorem D_push5_0 (l : Launch) {G : GD} {H0 : Heap} {a g : Nat} {r : Nat → Int32} (hw : WG G) (hat : va_at G.1 vwCl (a, .inr (5, gfs r g)) H0) {nb : Nat} (hN : NtA G r nb H0)  : MetR l G yX5_push cX5_push 2 (some .int) 1 [.ref a, .ref nb] H0 (some (.int (psC r g))) := by
  refine mx_of (by decide) (Nat.le_of_ble_eq_true rfl) ?_
  intro p e s m below meth c hx hb hr hc hlk hnm hs0 ls hl
  subst hs0
  have hown := hc.2.2.2.1
  have hts := hc.2.2.2.2.1
  have hK := hc.2.2.2.2.2
  have hl : lv_has ls 2 [(0, .ref a), (1, .ref nb)] := hl
  obtain ⟨a1, w1⟩ := hw.1
  obtain ⟨a2, w2⟩ := hw.2.1
  have w1 : (Cond.methodLink "SmokeLeans$Gap" 38 yWnd).before [(.ref a : Value), .ref nb].toArray s = true := word_at hK.2 (Or.inl rfl) w1
  have w2 : (Cond.sameMethod "SmokeLeans$Gap" "SmokeLeans$Pushed" "wind" "(III)I").before [(.ref a : Value), .ref nb].toArray s = true := word_at hK.2 (Or.inl rfl) w2
  have w3 := hw.2.2.1.moved hK.2.alike
  refine lv_aload_n hx hb dX5_push_0 rfl (lv_at hl 1 rfl) ?_
  refine lv_iconst (v := 0) hx hb dX5_push_1 (by decide) ?_
  refine nt_ld hc hN (ix_eq (k := 0) rfl (by decide) (by decide)) dX5_push_2 ?_
  refine sm_topi (v := r 2) rfl ?_
  refine lv_iconst (v := 5) hx hb dX5_push_3 (by decide) ?_
  refine lv_aload_n hx hb dX5_push_4 rfl (lv_at hl 0 rfl) ?_
  refine va_get hx hb hts in_X5 hown hK.1 (P1 hat) 0 rfl rfl 3 (by decide) (hts _ q321) (fun x h => h) rfl dX5_push_5 ?_
  refine lv_isub hx hb dX5_push_8 ?_
  refine lv_imul hx hb dX5_push_9 ?_
  refine lv_aload_n hx hb dX5_push_10 rfl (lv_at hl 0 rfl) ?_
  refine lv_aload_n hx hb dX5_push_11 rfl (lv_at hl 1 rfl) ?_
  refine lv_iconst (v := 1) hx hb dX5_push_12 (by decide) ?_
  refine nt_ld hc hN (ix_eq (k := 1) rfl (by decide) (by decide)) dX5_push_13 ?_
  refine sm_topi (v := r 3) rfl ?_
  refine lv_aload_n hx hb dX5_push_14 rfl (lv_at hl 1 rfl) ?_
  refine lv_iconst (v := 2) hx hb dX5_push_15 (by decide) ?_
  refine nt_ld hc hN (ix_eq (k := 2) rfl (by decide) (by decide)) dX5_push_16 ?_
  refine sm_topi (v := r 4) rfl ?_
  refine lv_aload_n hx hb dX5_push_17 rfl (lv_at hl 0 rfl) ?_
  refine va_get hx hb hts in_X5 hown hK.1 (P1 hat) 0 rfl rfl 4 (by decide) (hts _ q323) (fun x h => h) rfl dX5_push_18 ?_
  refine wd_step (x := yWnd) (rest := [.int ((r 2) * (5 - (r (gp g 4))))]) hc w1 w2 w3 rfl ⟨Nat.le_of_ble_eq_true rfl, Nat.le_of_ble_eq_true rfl⟩ (o_recv hK hat rfl) hl.1 dX5_push_21 ?_
  refine lv_iadd hx hb dX5_push_24 ?_
  exact ri_R hx hb hr hlk (rfl) dX5_push_25
set_option maxHeartbeats 4000000 in
theorem D_push5_1 (l : Launch) {G : GD} {H0 : Heap} {a g : Nat} {r : Nat → Int32} (hw : WG G) (hat : va_at G.1 vwCl (a, .inr (6, gfs r g)) H0) {nb : Nat} (hN : NtA G r nb H0)  : MetR l G yX5_push cX5_push 2 (some .int) 1 [.ref a, .ref nb] H0 (some (.int (psC r g))) := by
  refine mx_of (by decide) (Nat.le_of_ble_eq_true rfl) ?_
  intro p e s m below meth c hx hb hr hc hlk hnm hs0 ls hl
  subst hs0
  have hown := hc.2.2.2.1
  have hts := hc.2.2.2.2.1
  have hK := hc.2.2.2.2.2
  have hl : lv_has ls 2 [(0, .ref a), (1, .ref nb)] := hl
  obtain ⟨a1, w1⟩ := hw.1
  obtain ⟨a2, w2⟩ := hw.2.1
  have w1 : (Cond.methodLink "SmokeLeans$Gap" 38 yWnd).before [(.ref a : Value), .ref nb].toArray s = true := word_at hK.2 (Or.inl rfl) w1
  have w2 : (Cond.sameMethod "SmokeLeans$Gap" "SmokeLeans$Pushed" "wind" "(III)I").before [(.ref a : Value), .ref nb].toArray s = true := word_at hK.2 (Or.inl rfl) w2
  have w3 := hw.2.2.2.1.moved hK.2.alike
  refine lv_aload_n hx hb dX5_push_0 rfl (lv_at hl 1 rfl) ?_
  refine lv_iconst (v := 0) hx hb dX5_push_1 (by decide) ?_
  refine nt_ld hc hN (ix_eq (k := 0) rfl (by decide) (by decide)) dX5_push_2 ?_
  refine sm_topi (v := r 2) rfl ?_
  refine lv_iconst (v := 5) hx hb dX5_push_3 (by decide) ?_
  refine lv_aload_n hx hb dX5_push_4 rfl (lv_at hl 0 rfl) ?_
  refine va_get hx hb hts in_X6 hown hK.1 (P1 hat) 0 rfl rfl 3 (by decide) (hts _ q321) (fun x h => h) rfl dX5_push_5 ?_
  refine lv_isub hx hb dX5_push_8 ?_
  refine lv_imul hx hb dX5_push_9 ?_
  refine lv_aload_n hx hb dX5_push_10 rfl (lv_at hl 0 rfl) ?_
  refine lv_aload_n hx hb dX5_push_11 rfl (lv_at hl 1 rfl) ?_
  refine lv_iconst (v := 1) hx hb dX5_push_12 (by decide) ?_
  refine nt_ld hc hN (ix_eq (k := 1) rfl (by decide) (by decide)) dX5_push_13 ?_
  refine sm_topi (v := r 3) rfl ?_
  refine lv_aload_n hx hb dX5_push_14 rfl (lv_at hl 1 rfl) ?_
  refine lv_iconst (v := 2) hx hb dX5_push_15 (by decide) ?_
  refine nt_ld hc hN (ix_eq (k := 2) rfl (by decide) (by decide)) dX5_push_16 ?_
  refine sm_topi (v := r 4) rfl ?_
  refine lv_aload_n hx hb dX5_push_17 rfl (lv_at hl 0 rfl) ?_
  refine va_get hx hb hts in_X6 hown hK.1 (P1 hat) 0 rfl rfl 4 (by decide) (hts _ q323) (fun x h => h) rfl dX5_push_18 ?_
  refine wd_step (x := yWnd) (rest := [.int ((r 2) * (5 - (r (gp g 4))))]) hc w1 w2 w3 rfl ⟨Nat.le_of_ble_eq_true rfl, Nat.le_of_ble_eq_true rfl⟩ (o_recv hK hat rfl) hl.1 dX5_push_21 ?_
  refine lv_iadd hx hb dX5_push_24 ?_
  exact ri_R hx hb hr hlk (rfl) dX5_push_25
set_option maxHeartbeats 4000000 in
theorem D_push5_2 (l : Launch) {G : GD} {H0 : Heap} {a g : Nat} {r : Nat → Int32} (hw : WG G) (hat : va_at G.1 vwCl (a, .inr (7, gfs r g)) H0) {nb : Nat} (hN : NtA G r nb H0)  : MetR l G yX5_push cX5_push 2 (some .int) 1 [.ref a, .ref nb] H0 (some (.int (psC r g))) := by
  refine mx_of (by decide) (Nat.le_of_ble_eq_true rfl) ?_
  intro p e s m below meth c hx hb hr hc hlk hnm hs0 ls hl
  subst hs0
  have hown := hc.2.2.2.1
  have hts := hc.2.2.2.2.1
  have hK := hc.2.2.2.2.2
  have hl : lv_has ls 2 [(0, .ref a), (1, .ref nb)] := hl
  obtain ⟨a1, w1⟩ := hw.1
  obtain ⟨a2, w2⟩ := hw.2.1
  have w1 : (Cond.methodLink "SmokeLeans$Gap" 38 yWnd).before [(.ref a : Value), .ref nb].toArray s = true := word_at hK.2 (Or.inl rfl) w1
  have w2 : (Cond.sameMethod "SmokeLeans$Gap" "SmokeLeans$Pushed" "wind" "(III)I").before [(.ref a : Value), .ref nb].toArray s = true := word_at hK.2 (Or.inl rfl) w2
  have w3 := hw.2.2.2.2.1.moved hK.2.alike
  refine lv_aload_n hx hb dX5_push_0 rfl (lv_at hl 1 rfl) ?_
  refine lv_iconst (v := 0) hx hb dX5_push_1 (by decide) ?_
  refine nt_ld hc hN (ix_eq (k := 0) rfl (by decide) (by decide)) dX5_push_2 ?_
  refine sm_topi (v := r 2) rfl ?_
  refine lv_iconst (v := 5) hx hb dX5_push_3 (by decide) ?_
  refine lv_aload_n hx hb dX5_push_4 rfl (lv_at hl 0 rfl) ?_
  refine va_get hx hb hts in_X7 hown hK.1 (P1 hat) 0 rfl rfl 3 (by decide) (hts _ q321) (fun x h => h) rfl dX5_push_5 ?_
  refine lv_isub hx hb dX5_push_8 ?_
  refine lv_imul hx hb dX5_push_9 ?_
  refine lv_aload_n hx hb dX5_push_10 rfl (lv_at hl 0 rfl) ?_
  refine lv_aload_n hx hb dX5_push_11 rfl (lv_at hl 1 rfl) ?_
  refine lv_iconst (v := 1) hx hb dX5_push_12 (by decide) ?_
  refine nt_ld hc hN (ix_eq (k := 1) rfl (by decide) (by decide)) dX5_push_13 ?_
  refine sm_topi (v := r 3) rfl ?_
  refine lv_aload_n hx hb dX5_push_14 rfl (lv_at hl 1 rfl) ?_
  refine lv_iconst (v := 2) hx hb dX5_push_15 (by decide) ?_
  refine nt_ld hc hN (ix_eq (k := 2) rfl (by decide) (by decide)) dX5_push_16 ?_
  refine sm_topi (v := r 4) rfl ?_
  refine lv_aload_n hx hb dX5_push_17 rfl (lv_at hl 0 rfl) ?_
  refine va_get hx hb hts in_X7 hown hK.1 (P1 hat) 0 rfl rfl 4 (by decide) (hts _ q323) (fun x h => h) rfl dX5_push_18 ?_
  refine wd_step (x := yWnd) (rest := [.int ((r 2) * (5 - (r (gp g 4))))]) hc w1 w2 w3 rfl ⟨Nat.le_of_ble_eq_true rfl, Nat.le_of_ble_eq_true rfl⟩ (o_recv hK hat rfl) hl.1 dX5_push_21 ?_
  refine lv_iadd hx hb dX5_push_24 ?_
  exact ri_R hx hb hr hlk (rfl) dX5_push_25
set_option maxHeartbeats 4000000 in
theorem D_push5_3 (l : Launch) {G : GD} {H0 : Heap} {a g : Nat} {r : Nat → Int32} (hw : WG G) (hat : va_at G.1 vwCl (a, .inr (8, gfs r g)) H0) {nb : Nat} (hN : NtA G r nb H0)  : MetR l G yX5_push cX5_push 2 (some .int) 1 [.ref a, .ref nb] H0 (some (.int (psC r g))) := by
  refine mx_of (by decide) (Nat.le_of_ble_eq_true rfl) ?_
  intro p e s m below meth c hx hb hr hc hlk hnm hs0 ls hl
  subst hs0
  have hown := hc.2.2.2.1
  have hts := hc.2.2.2.2.1
  have hK := hc.2.2.2.2.2
  have hl : lv_has ls 2 [(0, .ref a), (1, .ref nb)] := hl
  obtain ⟨a1, w1⟩ := hw.1
  obtain ⟨a2, w2⟩ := hw.2.1
  have w1 : (Cond.methodLink "SmokeLeans$Gap" 38 yWnd).before [(.ref a : Value), .ref nb].toArray s = true := word_at hK.2 (Or.inl rfl) w1
  have w2 : (Cond.sameMethod "SmokeLeans$Gap" "SmokeLeans$Pushed" "wind" "(III)I").before [(.ref a : Value), .ref nb].toArray s = true := word_at hK.2 (Or.inl rfl) w2
  have w3 := hw.2.2.2.2.2.1.moved hK.2.alike
  refine lv_aload_n hx hb dX5_push_0 rfl (lv_at hl 1 rfl) ?_
  refine lv_iconst (v := 0) hx hb dX5_push_1 (by decide) ?_
  refine nt_ld hc hN (ix_eq (k := 0) rfl (by decide) (by decide)) dX5_push_2 ?_
  refine sm_topi (v := r 2) rfl ?_
  refine lv_iconst (v := 5) hx hb dX5_push_3 (by decide) ?_
  refine lv_aload_n hx hb dX5_push_4 rfl (lv_at hl 0 rfl) ?_
  refine va_get hx hb hts in_X8 hown hK.1 (P1 hat) 0 rfl rfl 3 (by decide) (hts _ q321) (fun x h => h) rfl dX5_push_5 ?_
  refine lv_isub hx hb dX5_push_8 ?_
  refine lv_imul hx hb dX5_push_9 ?_
  refine lv_aload_n hx hb dX5_push_10 rfl (lv_at hl 0 rfl) ?_
  refine lv_aload_n hx hb dX5_push_11 rfl (lv_at hl 1 rfl) ?_
  refine lv_iconst (v := 1) hx hb dX5_push_12 (by decide) ?_
  refine nt_ld hc hN (ix_eq (k := 1) rfl (by decide) (by decide)) dX5_push_13 ?_
  refine sm_topi (v := r 3) rfl ?_
  refine lv_aload_n hx hb dX5_push_14 rfl (lv_at hl 1 rfl) ?_
  refine lv_iconst (v := 2) hx hb dX5_push_15 (by decide) ?_
  refine nt_ld hc hN (ix_eq (k := 2) rfl (by decide) (by decide)) dX5_push_16 ?_
  refine sm_topi (v := r 4) rfl ?_
  refine lv_aload_n hx hb dX5_push_17 rfl (lv_at hl 0 rfl) ?_
  refine va_get hx hb hts in_X8 hown hK.1 (P1 hat) 0 rfl rfl 4 (by decide) (hts _ q323) (fun x h => h) rfl dX5_push_18 ?_
  refine wd_step (x := yWnd) (rest := [.int ((r 2) * (5 - (r (gp g 4))))]) hc w1 w2 w3 rfl ⟨Nat.le_of_ble_eq_true rfl, Nat.le_of_ble_eq_true rfl⟩ (o_recv hK hat rfl) hl.1 dX5_push_21 ?_
  refine lv_iadd hx hb dX5_push_24 ?_
  exact ri_R hx hb hr hlk (rfl) dX5_push_25
set_option maxHeartbeats 4000000 in
theorem D_push5_4 (l : Launch) {G : GD} {H0 : Heap} {a g : Nat} {r : Nat → Int32} (hw : WG G) (hat : va_at G.1 vwCl (a, .inr (9, gfs r g)) H0) {nb : Nat} (hN : NtA G r nb H0)  : MetR l G yX5_push cX5_push 2 (some .int) 1 [.ref a, .ref nb] H0 (some (.int (psC r g))) := by
  refine mx_of (by decide) (Nat.le_of_ble_eq_true rfl) ?_
  intro p e s m below meth c hx hb hr hc hlk hnm hs0 ls hl
  subst hs0
  have hown := hc.2.2.2.1
  have hts := hc.2.2.2.2.1
  have hK := hc.2.2.2.2.2
  have hl : lv_has ls 2 [(0, .ref a), (1, .ref nb)] := hl
  obtain ⟨a1, w1⟩ := hw.1
  obtain ⟨a2, w2⟩ := hw.2.1
  have w1 : (Cond.methodLink "SmokeLeans$Gap" 38 yWnd).before [(.ref a : Value), .ref nb].toArray s = true := word_at hK.2 (Or.inl rfl) w1
  have w2 : (Cond.sameMethod "SmokeLeans$Gap" "SmokeLeans$Pushed" "wind" "(III)I").before [(.ref a : Value), .ref nb].toArray s = true := word_at hK.2 (Or.inl rfl) w2
  have w3 := hw.2.2.2.2.2.2.1.moved hK.2.alike
  refine lv_aload_n hx hb dX5_push_0 rfl (lv_at hl 1 rfl) ?_
  refine lv_iconst (v := 0) hx hb dX5_push_1 (by decide) ?_
  refine nt_ld hc hN (ix_eq (k := 0) rfl (by decide) (by decide)) dX5_push_2 ?_
  refine sm_topi (v := r 2) rfl ?_
  refine lv_iconst (v := 5) hx hb dX5_push_3 (by decide) ?_
  refine lv_aload_n hx hb dX5_push_4 rfl (lv_at hl 0 rfl) ?_
  refine va_get hx hb hts in_X9 hown hK.1 (P1 hat) 0 rfl rfl 3 (by decide) (hts _ q321) (fun x h => h) rfl dX5_push_5 ?_
  refine lv_isub hx hb dX5_push_8 ?_
  refine lv_imul hx hb dX5_push_9 ?_
  refine lv_aload_n hx hb dX5_push_10 rfl (lv_at hl 0 rfl) ?_
  refine lv_aload_n hx hb dX5_push_11 rfl (lv_at hl 1 rfl) ?_
  refine lv_iconst (v := 1) hx hb dX5_push_12 (by decide) ?_
  refine nt_ld hc hN (ix_eq (k := 1) rfl (by decide) (by decide)) dX5_push_13 ?_
  refine sm_topi (v := r 3) rfl ?_
  refine lv_aload_n hx hb dX5_push_14 rfl (lv_at hl 1 rfl) ?_
  refine lv_iconst (v := 2) hx hb dX5_push_15 (by decide) ?_
  refine nt_ld hc hN (ix_eq (k := 2) rfl (by decide) (by decide)) dX5_push_16 ?_
  refine sm_topi (v := r 4) rfl ?_
  refine lv_aload_n hx hb dX5_push_17 rfl (lv_at hl 0 rfl) ?_
  refine va_get hx hb hts in_X9 hown hK.1 (P1 hat) 0 rfl rfl 4 (by decide) (hts _ q323) (fun x h => h) rfl dX5_push_18 ?_
  refine wd_step (x := yWnd) (rest := [.int ((r 2) * (5 - (r (gp g 4))))]) hc w1 w2 w3 rfl ⟨Nat.le_of_ble_eq_true rfl, Nat.le_of_ble_eq_true rfl⟩ (o_recv hK hat rfl) hl.1 dX5_push_21 ?_
  refine lv_iadd hx hb dX5_push_24 ?_
  exact ri_R hx hb hr hlk (rfl) dX5_push_25
set_option maxHeartbeats 4000000 in
theorem D_push5_5 (l : Launch) {G : GD} {H0 : Heap} {a g : Nat} {r : Nat → Int32} (hw : WG G) (hat : va_at G.1 vwCl (a, .inr (10, gfs r g)) H0) {nb : Nat} (hN : NtA G r nb H0)  : MetR l G yX5_push cX5_push 2 (some .int) 1 [.ref a, .ref nb] H0 (some (.int (psC r g))) := by
  refine mx_of (by decide) (Nat.le_of_ble_eq_true rfl) ?_
  intro p e s m below meth c hx hb hr hc hlk hnm hs0 ls hl
  subst hs0
  have hown := hc.2.2.2.1
  have hts := hc.2.2.2.2.1
  have hK := hc.2.2.2.2.2
  have hl : lv_has ls 2 [(0, .ref a), (1, .ref nb)] := hl
  obtain ⟨a1, w1⟩ := hw.1
  obtain ⟨a2, w2⟩ := hw.2.1
  have w1 : (Cond.methodLink "SmokeLeans$Gap" 38 yWnd).before [(.ref a : Value), .ref nb].toArray s = true := word_at hK.2 (Or.inl rfl) w1
  have w2 : (Cond.sameMethod "SmokeLeans$Gap" "SmokeLeans$Pushed" "wind" "(III)I").before [(.ref a : Value), .ref nb].toArray s = true := word_at hK.2 (Or.inl rfl) w2
  have w3 := hw.2.2.2.2.2.2.2.moved hK.2.alike
  refine lv_aload_n hx hb dX5_push_0 rfl (lv_at hl 1 rfl) ?_
  refine lv_iconst (v := 0) hx hb dX5_push_1 (by decide) ?_
  refine nt_ld hc hN (ix_eq (k := 0) rfl (by decide) (by decide)) dX5_push_2 ?_
  refine sm_topi (v := r 2) rfl ?_
  refine lv_iconst (v := 5) hx hb dX5_push_3 (by decide) ?_
  refine lv_aload_n hx hb dX5_push_4 rfl (lv_at hl 0 rfl) ?_
  refine va_get hx hb hts in_X10 hown hK.1 (P1 hat) 0 rfl rfl 3 (by decide) (hts _ q321) (fun x h => h) rfl dX5_push_5 ?_
  refine lv_isub hx hb dX5_push_8 ?_
  refine lv_imul hx hb dX5_push_9 ?_
  refine lv_aload_n hx hb dX5_push_10 rfl (lv_at hl 0 rfl) ?_
  refine lv_aload_n hx hb dX5_push_11 rfl (lv_at hl 1 rfl) ?_
  refine lv_iconst (v := 1) hx hb dX5_push_12 (by decide) ?_
  refine nt_ld hc hN (ix_eq (k := 1) rfl (by decide) (by decide)) dX5_push_13 ?_
  refine sm_topi (v := r 3) rfl ?_
  refine lv_aload_n hx hb dX5_push_14 rfl (lv_at hl 1 rfl) ?_
  refine lv_iconst (v := 2) hx hb dX5_push_15 (by decide) ?_
  refine nt_ld hc hN (ix_eq (k := 2) rfl (by decide) (by decide)) dX5_push_16 ?_
  refine sm_topi (v := r 4) rfl ?_
  refine lv_aload_n hx hb dX5_push_17 rfl (lv_at hl 0 rfl) ?_
  refine va_get hx hb hts in_X10 hown hK.1 (P1 hat) 0 rfl rfl 4 (by decide) (hts _ q323) (fun x h => h) rfl dX5_push_18 ?_
  refine wd_step (x := yWnd) (rest := [.int ((r 2) * (5 - (r (gp g 4))))]) hc w1 w2 w3 rfl ⟨Nat.le_of_ble_eq_true rfl, Nat.le_of_ble_eq_true rfl⟩ (o_recv hK hat rfl) hl.1 dX5_push_21 ?_
  refine lv_iadd hx hb dX5_push_24 ?_
  exact ri_R hx hb hr hlk (rfl) dX5_push_25
theorem nd_X10_push : yX10_push.cls = "SmokeLeans$Chimney" ∧ yX10_push.cls ≠ "java/lang/invoke/MethodHandle" ∧ yX10_push.cls ≠ "java/lang/invoke/VarHandle" ∧ (parseMethodDescriptor yX10_push.desc).map (fun d => d.parameters.length) = some 1 := by decide +kernel
set_option maxHeartbeats 4000000 in
theorem D_push10 (l : Launch) {G : GD} {H0 : Heap} {a g : Nat} {r : Nat → Int32} (hw : WG G) (hat : va_at G.1 vwCl (a, .inr (10, gfs r g)) H0) {nb : Nat} (hN : NtA G r nb H0)  : MetR l G yX10_push cX10_push 2 (some .int) 2 [.ref a, .ref nb] H0 (some (.int (psC r g - 3 * r 2))) := by
  refine mx_of (by decide) (Nat.le_of_ble_eq_true rfl) ?_
  intro p e s m below meth c hx hb hr hc hlk hnm hs0 ls hl
  subst hs0
  have hown := hc.2.2.2.1
  have hts := hc.2.2.2.2.1
  have hK := hc.2.2.2.2.2
  have hl : lv_has ls 2 [(0, .ref a), (1, .ref nb)] := hl
  have hsub := sub_one (hts _ q376)
  refine lv_aload_n hx hb dX10_push_0 rfl (lv_at hl 0 rfl) ?_
  refine lv_aload_n hx hb dX10_push_1 rfl (lv_at hl 1 rfl) ?_
  refine su_R1 (n := 1) (rest := []) (x := ⟨"SmokeLeans$Needed", "push", "([I)I"⟩) (owner := "SmokeLeans$Gap") hc (D_push5_5 l hw hat hN) rfl q492 q493 q418 q486 q74 q499 hsub ⟨by decide, by decide +kernel⟩ ⟨Nat.le_of_ble_eq_true rfl, Nat.le_of_ble_eq_true rfl⟩ (o_recvK hK hat rfl) rfl hl.1 rfl (Nat.le_of_ble_eq_true rfl) dX10_push_2 ⟨Nat.le_of_ble_eq_true rfl, Nat.le_of_ble_eq_true rfl⟩ ?_
  refine lv_iconst (v := 3) hx hb dX10_push_5 (by decide) ?_
  refine lv_aload_n hx hb dX10_push_6 rfl (lv_at hl 1 rfl) ?_
  refine lv_iconst (v := 0) hx hb dX10_push_7 (by decide) ?_
  refine nt_ld hc hN (ix_eq (k := 0) rfl (by decide) (by decide)) dX10_push_8 ?_
  refine sm_topi (v := r 2) rfl ?_
  refine lv_imul hx hb dX10_push_9 ?_
  refine lv_isub hx hb dX10_push_10 ?_
  exact ri_R hx hb hr hlk (rfl) dX10_push_11
def brK (r : Nat → Int32) (g : Nat) : Nat → Int32
  | 1 => brB r g / 2
  | 3 => if r (gp g 7) = 0 then r 6 else 0
  | 4 => (if trnP r g then 2 else 1) * brB r g
  | _ => brB r g
def psK (r : Nat → Int32) (g : Nat) : Nat → Int32
  | 5 => psC r g - 3 * r 2
  | _ => psC r g
def isK : Nat → Int32 → Prop
  | 0, q => q = 0 ∨ q = 0
  | 1, q => q = 0 ∨ q = 1
  | 2, q => q = 2 ∨ (q = 0 ∨ q = 2)
  | 3, q => q = 0 ∨ q = 3
  | 4, q => q = 0 ∨ q = 4
  | 5, q => q = 2 ∨ (q = 0 ∨ q = 5)
  | _, _ => True
def isB : Nat → Int32 → Bool
  | 0, q => decide (q = 0 ∨ q = 0)
  | 1, q => decide (q = 0 ∨ q = 1)
  | 2, q => decide (q = 2 ∨ (q = 0 ∨ q = 2))
  | 3, q => decide (q = 0 ∨ q = 3)
  | 4, q => decide (q = 0 ∨ q = 4)
  | 5, q => decide (q = 2 ∨ (q = 0 ∨ q = 5))
  | _, _ => true
section
variable {p : Program} {l : Launch} {e : Env} {R : Room} {s : State} {m : MethodId} {args : Array Value} {below : List Frame} {meth : Method} {c : Code} {H : Heap} {locs : List Loc} {cells slots : Nat} {Q : State → Prop}
variable {pc nL index : Nat} {ls : Array Slot} {rest : List Value} {G : GD} {cc : ByteArray} {own : String} {a g nb : Nat} {r : Nat → Int32}
set_option maxHeartbeats 4000000 in
theorem gv_breadth (hc : Cx G p s m args c cc nL own) (h1 : Cond.methodLink own index ⟨"SmokeLeans$Gap", "breadth", "([I)I"⟩ ∈ lw_all) (hN : NtA G r nb H) {k : Nat} (hk : k < 6) (hat : va_at G.1 vwCl (a, .inr (5 + k, gfs r g)) H) (hR : 2 ≤ R.frames ∧ 64 ≤ R.locals) (hsz : ls.size = nL) (hW8 : (rest.map fun v => v.category).sum ≤ 8) (hdg : decode cc pc = .ok (.invokevirtual index, 3)) (hf : cells ≤ R.cells ∧ slots ≤ R.slots)
    (kk : W p l e R s m args below meth c H locs cells slots Q (F0 m (pc + 3) ls (.int (brK r g k) :: rest))) : W p l e R s m args below meth c H locs cells slots Q (F0 m pc ls (.ref nb :: .ref a :: rest)) := by
  have hK := hc.2.2.2.2.2
  have k0 : k = 0 → W p l e R s m args below meth c H locs cells slots Q (F0 m pc ls (.ref nb :: .ref a :: rest)) := by
    intro e0
    subst e0
    exact cu_R1 (n := 1) (As := [.ref nb]) (rest := rest) hc (D_br5_0 l hat nb) (lw_O (owner := "SmokeLeans$Gap") h1 q470 q468 q469 q468 q74 q484) q484 ⟨by decide, by decide, by decide +kernel⟩ ⟨by have := hR.1; omega, by have := hR.2; omega⟩ (o_recv hK hat rfl) rfl hsz rfl hW8 hdg hf kk
  have k1 : k = 1 → W p l e R s m args below meth c H locs cells slots Q (F0 m pc ls (.ref nb :: .ref a :: rest)) := by
    intro e0
    subst e0
    exact cu_R1 (n := 1) (As := [.ref nb]) (rest := rest) hc (D_br6 l hat nb) (lw_O (owner := "SmokeLeans$Gap") h1 q470 q468 q472 q473 q75 q474) q484 ⟨by decide, by decide, by decide +kernel⟩ ⟨by have := hR.1; omega, by have := hR.2; omega⟩ (o_recv hK hat rfl) rfl hsz rfl hW8 hdg hf kk
  have k2 : k = 2 → W p l e R s m args below meth c H locs cells slots Q (F0 m pc ls (.ref nb :: .ref a :: rest)) := by
    intro e0
    subst e0
    exact cu_R1 (n := 1) (As := [.ref nb]) (rest := rest) hc (D_br5_2 l hat nb) (lw_O (owner := "SmokeLeans$Gap") h1 q470 q468 q479 q468 q74 q484) q484 ⟨by decide, by decide, by decide +kernel⟩ ⟨by have := hR.1; omega, by have := hR.2; omega⟩ (o_recv hK hat rfl) rfl hsz rfl hW8 hdg hf kk
  have k3 : k = 3 → W p l e R s m args below meth c H locs cells slots Q (F0 m pc ls (.ref nb :: .ref a :: rest)) := by
    intro e0
    subst e0
    exact cu_R1 (n := 1) (As := [.ref nb]) (rest := rest) hc (D_br8 l hat hN) (lw_O (owner := "SmokeLeans$Gap") h1 q470 q468 q476 q477 q77 q478) q484 ⟨by decide, by decide, by decide +kernel⟩ ⟨by have := hR.1; omega, by have := hR.2; omega⟩ (o_recv hK hat rfl) rfl hsz rfl hW8 hdg hf kk
  have k4 : k = 4 → W p l e R s m args below meth c H locs cells slots Q (F0 m pc ls (.ref nb :: .ref a :: rest)) := by
    intro e0
    subst e0
    exact cu_R1 (n := 1) (As := [.ref nb]) (rest := rest) hc (D_br9 l hat hN) (lw_O (owner := "SmokeLeans$Gap") h1 q470 q468 q480 q481 q78 q482) q484 ⟨by decide, by decide, by decide +kernel⟩ ⟨by have := hR.1; omega, by have := hR.2; omega⟩ (o_recv hK hat rfl) rfl hsz rfl hW8 hdg hf kk
  have k5 : k = 5 → W p l e R s m args below meth c H locs cells slots Q (F0 m pc ls (.ref nb :: .ref a :: rest)) := by
    intro e0
    subst e0
    exact cu_R1 (n := 1) (As := [.ref nb]) (rest := rest) hc (D_br5_5 l hat nb) (lw_O (owner := "SmokeLeans$Gap") h1 q470 q468 q471 q468 q74 q484) q484 ⟨by decide, by decide, by decide +kernel⟩ ⟨by have := hR.1; omega, by have := hR.2; omega⟩ (o_recv hK hat rfl) rfl hsz rfl hW8 hdg hf kk
  rcases (show k = 0 ∨ k = 1 ∨ k = 2 ∨ k = 3 ∨ k = 4 ∨ k = 5 by omega) with h | h | h | h | h | h
  · exact k0 h
  · exact k1 h
  · exact k2 h
  · exact k3 h
  · exact k4 h
  · exact k5 h
end
section
variable {p : Program} {l : Launch} {e : Env} {R : Room} {s : State} {m : MethodId} {args : Array Value} {below : List Frame} {meth : Method} {c : Code} {H : Heap} {locs : List Loc} {cells slots : Nat} {Q : State → Prop}
variable {pc nL index : Nat} {ls : Array Slot} {rest : List Value} {G : GD} {cc : ByteArray} {own : String} {a g nb : Nat} {r : Nat → Int32}
set_option maxHeartbeats 4000000 in
theorem gv_push (hc : Cx G p s m args c cc nL own) (h1 : Cond.methodLink own index ⟨"SmokeLeans$Gap", "push", "([I)I"⟩ ∈ lw_all) (hw : WG G) (hN : NtA G r nb H) {k : Nat} (hk : k < 6) (hat : va_at G.1 vwCl (a, .inr (5 + k, gfs r g)) H) (hR : 3 ≤ R.frames ∧ 105 ≤ R.locals) (hsz : ls.size = nL) (hW8 : (rest.map fun v => v.category).sum ≤ 8) (hdg : decode cc pc = .ok (.invokevirtual index, 3)) (hf : cells ≤ R.cells ∧ slots ≤ R.slots)
    (kk : W p l e R s m args below meth c H locs cells slots Q (F0 m (pc + 3) ls (.int (psK r g k) :: rest))) : W p l e R s m args below meth c H locs cells slots Q (F0 m pc ls (.ref nb :: .ref a :: rest)) := by
  have hK := hc.2.2.2.2.2
  have k0 : k = 0 → W p l e R s m args below meth c H locs cells slots Q (F0 m pc ls (.ref nb :: .ref a :: rest)) := by
    intro e0
    subst e0
    exact cu_R1 (n := 1) (As := [.ref nb]) (rest := rest) hc (D_push5_0 l hw hat hN) (lw_O (owner := "SmokeLeans$Gap") h1 q488 q486 q487 q486 q74 q499) q499 ⟨by decide, by decide, by decide +kernel⟩ ⟨by have := hR.1; omega, by have := hR.2; omega⟩ (o_recv hK hat rfl) rfl hsz rfl hW8 hdg hf kk
  have k1 : k = 1 → W p l e R s m args below meth c H locs cells slots Q (F0 m pc ls (.ref nb :: .ref a :: rest)) := by
    intro e0
    subst e0
    exact cu_R1 (n := 1) (As := [.ref nb]) (rest := rest) hc (D_push5_1 l hw hat hN) (lw_O (owner := "SmokeLeans$Gap") h1 q488 q486 q495 q486 q74 q499) q499 ⟨by decide, by decide, by decide +kernel⟩ ⟨by have := hR.1; omega, by have := hR.2; omega⟩ (o_recv hK hat rfl) rfl hsz rfl hW8 hdg hf kk
  have k2 : k = 2 → W p l e R s m args below meth c H locs cells slots Q (F0 m pc ls (.ref nb :: .ref a :: rest)) := by
    intro e0
    subst e0
    exact cu_R1 (n := 1) (As := [.ref nb]) (rest := rest) hc (D_push5_2 l hw hat hN) (lw_O (owner := "SmokeLeans$Gap") h1 q488 q486 q497 q486 q74 q499) q499 ⟨by decide, by decide, by decide +kernel⟩ ⟨by have := hR.1; omega, by have := hR.2; omega⟩ (o_recv hK hat rfl) rfl hsz rfl hW8 hdg hf kk
  have k3 : k = 3 → W p l e R s m args below meth c H locs cells slots Q (F0 m pc ls (.ref nb :: .ref a :: rest)) := by
    intro e0
    subst e0
    exact cu_R1 (n := 1) (As := [.ref nb]) (rest := rest) hc (D_push5_3 l hw hat hN) (lw_O (owner := "SmokeLeans$Gap") h1 q488 q486 q496 q486 q74 q499) q499 ⟨by decide, by decide, by decide +kernel⟩ ⟨by have := hR.1; omega, by have := hR.2; omega⟩ (o_recv hK hat rfl) rfl hsz rfl hW8 hdg hf kk
  have k4 : k = 4 → W p l e R s m args below meth c H locs cells slots Q (F0 m pc ls (.ref nb :: .ref a :: rest)) := by
    intro e0
    subst e0
    exact cu_R1 (n := 1) (As := [.ref nb]) (rest := rest) hc (D_push5_4 l hw hat hN) (lw_O (owner := "SmokeLeans$Gap") h1 q488 q486 q498 q486 q74 q499) q499 ⟨by decide, by decide, by decide +kernel⟩ ⟨by have := hR.1; omega, by have := hR.2; omega⟩ (o_recv hK hat rfl) rfl hsz rfl hW8 hdg hf kk
  have k5 : k = 5 → W p l e R s m args below meth c H locs cells slots Q (F0 m pc ls (.ref nb :: .ref a :: rest)) := by
    intro e0
    subst e0
    exact cu_R1 (n := 1) (As := [.ref nb]) (rest := rest) hc (D_push10 l hw hat hN) (lw_O (owner := "SmokeLeans$Gap") h1 q488 q486 q489 q490 q79 q491) q499 ⟨by decide, by decide, by decide +kernel⟩ ⟨by have := hR.1; omega, by have := hR.2; omega⟩ (o_recv hK hat rfl) rfl hsz rfl hW8 hdg hf kk
  rcases (show k = 0 ∨ k = 1 ∨ k = 2 ∨ k = 3 ∨ k = 4 ∨ k = 5 by omega) with h | h | h | h | h | h
  · exact k0 h
  · exact k1 h
  · exact k2 h
  · exact k3 h
  · exact k4 h
  · exact k5 h
end
section
variable {p : Program} {l : Launch} {e : Env} {R : Room} {s : State} {m : MethodId} {args : Array Value} {below : List Frame} {meth : Method} {c : Code} {H : Heap} {locs : List Loc} {cells slots : Nat} {Q : State → Prop}
variable {pc nL index : Nat} {ls : Array Slot} {rest : List Value} {G : GD} {cc : ByteArray} {own : String} {a g nb : Nat} {r : Nat → Int32}
set_option maxHeartbeats 4000000 in
theorem gv_kind (hc : Cx G p s m args c cc nL own) (h1 : Cond.methodLink own index ⟨"SmokeLeans$Gap", "kind", "()I"⟩ ∈ lw_all) {k : Nat} (hk : k < 6) (hat : va_at G.1 vwCl (a, .inr (5 + k, gfs r g)) H) (hR : 3 ≤ R.frames ∧ 104 ≤ R.locals) (hsz : ls.size = nL) (hW8 : (rest.map fun v => v.category).sum ≤ 8) (hdg : decode cc pc = .ok (.invokevirtual index, 3)) (hf : cells ≤ R.cells ∧ slots ≤ R.slots)
    (kk : W p l e R s m args below meth c H locs cells slots Q (F0 m (pc + 3) ls (.int (nI k) :: rest))) : W p l e R s m args below meth c H locs cells slots Q (F0 m pc ls (.ref a :: rest)) := by
  have hK := hc.2.2.2.2.2
  have k0 : k = 0 → W p l e R s m args below meth c H locs cells slots Q (F0 m pc ls (.ref a :: rest)) := by
    intro e0
    subst e0
    exact cu_R1 (n := 0) (As := []) (rest := rest) hc (D_kind5 l a) (lw_O (owner := "SmokeLeans$Gap") h1 q436 q434 q435 q434 q74 q457) q457 ⟨by decide, by decide, by decide +kernel⟩ ⟨by have := hR.1; omega, by have := hR.2; omega⟩ (o_recv hK hat rfl) rfl hsz rfl hW8 hdg hf kk
  have k1 : k = 1 → W p l e R s m args below meth c H locs cells slots Q (F0 m pc ls (.ref a :: rest)) := by
    intro e0
    subst e0
    exact cu_R1 (n := 0) (As := []) (rest := rest) hc (D_kind6 l hat) (lw_O (owner := "SmokeLeans$Gap") h1 q436 q434 q444 q445 q75 q446) q457 ⟨by decide, by decide, by decide +kernel⟩ ⟨by have := hR.1; omega, by have := hR.2; omega⟩ (o_recv hK hat rfl) rfl hsz rfl hW8 hdg hf kk
  have k2 : k = 2 → W p l e R s m args below meth c H locs cells slots Q (F0 m pc ls (.ref a :: rest)) := by
    intro e0
    subst e0
    exact cu_R1 (n := 0) (As := []) (rest := rest) hc (D_kind7 l hat) (lw_O (owner := "SmokeLeans$Gap") h1 q436 q434 q452 q441 q76 q442) q457 ⟨by decide, by decide, by decide +kernel⟩ ⟨by have := hR.1; omega, by have := hR.2; omega⟩ (o_recv hK hat rfl) rfl hsz rfl hW8 hdg hf kk
  have k3 : k = 3 → W p l e R s m args below meth c H locs cells slots Q (F0 m pc ls (.ref a :: rest)) := by
    intro e0
    subst e0
    exact cu_R1 (n := 0) (As := []) (rest := rest) hc (D_kind8 l hat) (lw_O (owner := "SmokeLeans$Gap") h1 q436 q434 q448 q449 q77 q450) q457 ⟨by decide, by decide, by decide +kernel⟩ ⟨by have := hR.1; omega, by have := hR.2; omega⟩ (o_recv hK hat rfl) rfl hsz rfl hW8 hdg hf kk
  have k4 : k = 4 → W p l e R s m args below meth c H locs cells slots Q (F0 m pc ls (.ref a :: rest)) := by
    intro e0
    subst e0
    exact cu_R1 (n := 0) (As := []) (rest := rest) hc (D_kind9 l hat) (lw_O (owner := "SmokeLeans$Gap") h1 q436 q434 q453 q454 q78 q455) q457 ⟨by decide, by decide, by decide +kernel⟩ ⟨by have := hR.1; omega, by have := hR.2; omega⟩ (o_recv hK hat rfl) rfl hsz rfl hW8 hdg hf kk
  have k5 : k = 5 → W p l e R s m args below meth c H locs cells slots Q (F0 m pc ls (.ref a :: rest)) := by
    intro e0
    subst e0
    exact cu_R1 (n := 0) (As := []) (rest := rest) hc (D_kind10 l hat) (lw_O (owner := "SmokeLeans$Gap") h1 q436 q434 q437 q438 q79 q439) q457 ⟨by decide, by decide, by decide +kernel⟩ ⟨by have := hR.1; omega, by have := hR.2; omega⟩ (o_recv hK hat rfl) rfl hsz rfl hW8 hdg hf kk
  rcases (show k = 0 ∨ k = 1 ∨ k = 2 ∨ k = 3 ∨ k = 4 ∨ k = 5 by omega) with h | h | h | h | h | h
  · exact k0 h
  · exact k1 h
  · exact k2 h
  · exact k3 h
  · exact k4 h
  · exact k5 h
end
section
variable {p : Program} {l : Launch} {e : Env} {R : Room} {s : State} {m : MethodId} {args : Array Value} {below : List Frame} {meth : Method} {c : Code} {H : Heap} {locs : List Loc} {cells slots : Nat} {Q : State → Prop}
variable {pc nL index : Nat} {ls : Array Slot} {rest : List Value} {G : GD} {cc : ByteArray} {own : String} {a g nb : Nat} {r : Nat → Int32}
set_option maxHeartbeats 4000000 in
theorem gv_is (hc : Cx G p s m args c cc nL own) (h1 : Cond.methodLink own index ⟨"SmokeLeans$Gap", "is", "(I)Z"⟩ ∈ lw_all) {q : Int32} {k : Nat} (hk : k < 6) (hat : va_at G.1 vwCl (a, .inr (5 + k, gfs r g)) H) (hR : 5 ≤ R.frames ∧ 189 ≤ R.locals) (hsz : ls.size = nL) (hW8 : (rest.map fun v => v.category).sum ≤ 8) (hdg : decode cc pc = .ok (.invokevirtual index, 3)) (hf : cells ≤ R.cells ∧ slots ≤ R.slots)
    (kk : W p l e R s m args below meth c H locs cells slots Q (F0 m (pc + 3) ls (.int (b2i (isB k q = true)) :: rest))) : W p l e R s m args below meth c H locs cells slots Q (F0 m pc ls (.int q :: .ref a :: rest)) := by
  have hK := hc.2.2.2.2.2
  have k0 : k = 0 → W p l e R s m args below meth c H locs cells slots Q (F0 m pc ls (.int q :: .ref a :: rest)) := by
    intro e0
    subst e0
    exact cu_R1 (n := 1) (As := [.int q]) (rest := rest) hc (D_is5_0 l hat q) (lw_O (owner := "SmokeLeans$Gap") h1 q530 q528 q529 q528 q74 q539) q539 ⟨by decide, by decide, by decide +kernel⟩ ⟨by have := hR.1; omega, by have := hR.2; omega⟩ (o_recv hK hat rfl) rfl hsz rfl hW8 hdg hf (sm_topi (b2i_congr ⟨fun h => decide_eq_true h, fun h => of_decide_eq_true h⟩) kk)
  have k1 : k = 1 → W p l e R s m args below meth c H locs cells slots Q (F0 m pc ls (.int q :: .ref a :: rest)) := by
    intro e0
    subst e0
    exact cu_R1 (n := 1) (As := [.int q]) (rest := rest) hc (D_is5_1 l hat q) (lw_O (owner := "SmokeLeans$Gap") h1 q530 q528 q535 q528 q74 q539) q539 ⟨by decide, by decide, by decide +kernel⟩ ⟨by have := hR.1; omega, by have := hR.2; omega⟩ (o_recv hK hat rfl) rfl hsz rfl hW8 hdg hf (sm_topi (b2i_congr ⟨fun h => decide_eq_true h, fun h => of_decide_eq_true h⟩) kk)
  have k2 : k = 2 → W p l e R s m args below meth c H locs cells slots Q (F0 m pc ls (.int q :: .ref a :: rest)) := by
    intro e0
    subst e0
    exact cu_R1 (n := 1) (As := [.int q]) (rest := rest) hc (D_is7_2 l hat q) (lw_O (owner := "SmokeLeans$Gap") h1 q530 q528 q537 q532 q76 q533) q539 ⟨by decide, by decide, by decide +kernel⟩ ⟨by have := hR.1; omega, by have := hR.2; omega⟩ (o_recv hK hat rfl) rfl hsz rfl hW8 hdg hf (sm_topi (b2i_congr ⟨fun h => decide_eq_true h, fun h => of_decide_eq_true h⟩) kk)
  have k3 : k = 3 → W p l e R s m args below meth c H locs cells slots Q (F0 m pc ls (.int q :: .ref a :: rest)) := by
    intro e0
    subst e0
    exact cu_R1 (n := 1) (As := [.int q]) (rest := rest) hc (D_is5_3 l hat q) (lw_O (owner := "SmokeLeans$Gap") h1 q530 q528 q536 q528 q74 q539) q539 ⟨by decide, by decide, by decide +kernel⟩ ⟨by have := hR.1; omega, by have := hR.2; omega⟩ (o_recv hK hat rfl) rfl hsz rfl hW8 hdg hf (sm_topi (b2i_congr ⟨fun h => decide_eq_true h, fun h => of_decide_eq_true h⟩) kk)
  have k4 : k = 4 → W p l e R s m args below meth c H locs cells slots Q (F0 m pc ls (.int q :: .ref a :: rest)) := by
    intro e0
    subst e0
    exact cu_R1 (n := 1) (As := [.int q]) (rest := rest) hc (D_is5_4 l hat q) (lw_O (owner := "SmokeLeans$Gap") h1 q530 q528 q538 q528 q74 q539) q539 ⟨by decide, by decide, by decide +kernel⟩ ⟨by have := hR.1; omega, by have := hR.2; omega⟩ (o_recv hK hat rfl) rfl hsz rfl hW8 hdg hf (sm_topi (b2i_congr ⟨fun h => decide_eq_true h, fun h => of_decide_eq_true h⟩) kk)
  have k5 : k = 5 → W p l e R s m args below meth c H locs cells slots Q (F0 m pc ls (.int q :: .ref a :: rest)) := by
    intro e0
    subst e0
    exact cu_R1 (n := 1) (As := [.int q]) (rest := rest) hc (D_is7_5 l hat q) (lw_O (owner := "SmokeLeans$Gap") h1 q530 q528 q531 q532 q76 q533) q539 ⟨by decide, by decide, by decide +kernel⟩ ⟨by have := hR.1; omega, by have := hR.2; omega⟩ (o_recv hK hat rfl) rfl hsz rfl hW8 hdg hf (sm_topi (b2i_congr ⟨fun h => decide_eq_true h, fun h => of_decide_eq_true h⟩) kk)
  rcases (show k = 0 ∨ k = 1 ∨ k = 2 ∨ k = 3 ∨ k = 4 ∨ k = 5 by omega) with h | h | h | h | h | h
  · exact k0 h
  · exact k1 h
  · exact k2 h
  · exact k3 h
  · exact k4 h
  · exact k5 h
end
