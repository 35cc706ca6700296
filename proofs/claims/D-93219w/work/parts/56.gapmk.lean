/-! gaps are made: constructors, gapOf, copyOf -/
set_option maxRecDepth 100000
def gvF (a b c d f g z : Int32) : List Value := [.int a, .int b, .int c, .int d, .int f, .int g, .int z]
theorem ni_X5_init : yX5_init.cls ≠ "java/lang/invoke/MethodHandle" ∧ yX5_init.cls ≠ "java/lang/invoke/VarHandle" ∧ (parseMethodDescriptor yX5_init.desc).map (fun d => d.parameters.length) = some 6 := by decide +kernel
set_option maxHeartbeats 4000000 in
theorem D_gi5_0 (l : Launch) {G : GD} {H0 : Heap} {a : Nat} (hat : va_at G.1 vwCl (a, .inr (5, gvF 0 0 0 0 0 0 0)) H0) (x1 x2 x3 x4 x5 x6 : Int32) : MetW l G yX5_init cX5_init 7 none 1 0 0 (fun q => q = a) [.ref a, .int x1, .int x2, .int x3, .int x4, .int x5, .int x6] H0 none (fun H => va_at G.1 vwCl (a, .inr (5, gvF x1 x2 x3 x4 x5 x6 0)) H ∧ H.size = H0.size) := by
  refine mx_of (by decide) (Nat.le_of_ble_eq_true rfl) ?_
  intro p e s m below meth c hx hb hr hc hlk hnm hs0 ls hl
  subst hs0
  have hown := hc.2.2.2.1
  have hts := hc.2.2.2.2.1
  have hK := hc.2.2.2.2.2
  have hl : lv_has ls 7 [(0, .ref a), (1, .int x1), (2, .int x2), (3, .int x3), (4, .int x4), (5, .int x5), (6, .int x6)] := hl
  have hS : va_S (fun q => q = a) s.heap s.heap [] := va_S.rf
  have hz : s.heap.size = s.heap.size := rfl
  refine lv_aload_n hx hb dX5_init_0 rfl (lv_at hl 0 rfl) ?_
  refine a_oinit hc q310 hl.1 dX5_init_1 (Nat.le_of_ble_eq_true rfl) (Nat.le_of_ble_eq_true rfl) ?_
  refine lv_aload_n hx hb dX5_init_4 rfl (lv_at hl 0 rfl) ?_
  refine lv_iload_n hx hb dX5_init_5 rfl (lv_at hl 1 rfl) ?_
  refine s_putF hx hb hts in_X5 tyX5 tyX5_ok nmX5 hown hK.1 hat rfl 0 (by decide) (hts _ q311) (fun x h => h) rfl hnm rfl rfl rfl rfl (Nat.le_of_ble_eq_true rfl) dX5_init_6 (fun H i hat z oq => ?_)
  have hat : va_at G.1 vwCl (a, .inr (5, gvF x1 0 0 0 0 0 0)) H := hat
  have hS := hS.put (k := i) z oq rfl
  have hz := z.trans hz
  refine lv_aload_n hx hb dX5_init_9 rfl (lv_at hl 0 rfl) ?_
  refine lv_iload_n hx hb dX5_init_10 rfl (lv_at hl 2 rfl) ?_
  refine s_putF hx hb hts in_X5 tyX5 tyX5_ok nmX5 hown hK.1 hat rfl 1 (by decide) (hts _ q314) (fun x h => h) rfl hnm rfl rfl rfl rfl (Nat.le_of_ble_eq_true rfl) dX5_init_11 (fun H i hat z oq => ?_)
  have hat : va_at G.1 vwCl (a, .inr (5, gvF x1 x2 0 0 0 0 0)) H := hat
  have hS := hS.put (k := i) z oq rfl
  have hz := z.trans hz
  refine lv_aload_n hx hb dX5_init_14 rfl (lv_at hl 0 rfl) ?_
  refine lv_iload_n hx hb dX5_init_15 rfl (lv_at hl 3 rfl) ?_
  refine s_put hx hb hts in_X5 tyX5 tyX5_ok nmX5 hown hK.1 hat rfl 2 (by decide) (hts _ q319) (fun x h => h) rfl rfl rfl rfl (Nat.le_of_ble_eq_true rfl) dX5_init_16 (fun H i hat z oq => ?_)
  have hat : va_at G.1 vwCl (a, .inr (5, gvF x1 x2 x3 0 0 0 0)) H := hat
  have hS := hS.put (k := i) z oq rfl
  have hz := z.trans hz
  refine lv_aload_n hx hb dX5_init_19 rfl (lv_at hl 0 rfl) ?_
  refine lv_iload hx hb dX5_init_20 (lv_at hl 4 rfl) ?_
  refine s_putF hx hb hts in_X5 tyX5 tyX5_ok nmX5 hown hK.1 hat rfl 3 (by decide) (hts _ q321) (fun x h => h) rfl hnm rfl rfl rfl rfl (Nat.le_of_ble_eq_true rfl) dX5_init_22 (fun H i hat z oq => ?_)
  have hat : va_at G.1 vwCl (a, .inr (5, gvF x1 x2 x3 x4 0 0 0)) H := hat
  have hS := hS.put (k := i) z oq rfl
  have hz := z.trans hz
  refine lv_aload_n hx hb dX5_init_25 rfl (lv_at hl 0 rfl) ?_
  refine lv_iload hx hb dX5_init_26 (lv_at hl 5 rfl) ?_
  refine s_putF hx hb hts in_X5 tyX5 tyX5_ok nmX5 hown hK.1 hat rfl 4 (by decide) (hts _ q323) (fun x h => h) rfl hnm rfl rfl rfl rfl (Nat.le_of_ble_eq_true rfl) dX5_init_28 (fun H i hat z oq => ?_)
  have hat : va_at G.1 vwCl (a, .inr (5, gvF x1 x2 x3 x4 x5 0 0)) H := hat
  have hS := hS.put (k := i) z oq rfl
  have hz := z.trans hz
  refine lv_aload_n hx hb dX5_init_31 rfl (lv_at hl 0 rfl) ?_
  refine lv_iload hx hb dX5_init_32 (lv_at hl 6 rfl) ?_
  refine s_putF hx hb hts in_X5 tyX5 tyX5_ok nmX5 hown hK.1 hat rfl 5 (by decide) (hts _ q327) (fun x h => h) rfl hnm rfl rfl rfl rfl (Nat.le_of_ble_eq_true rfl) dX5_init_34 (fun H i hat z oq => ?_)
  have hat : va_at G.1 vwCl (a, .inr (5, gvF x1 x2 x3 x4 x5 x6 0)) H := hat
  have hS := hS.put (k := i) z oq rfl
  have hz := z.trans hz
  exact rv_W hx hb hr hlk hS (⟨hat, hz⟩) dX5_init_37
set_option maxHeartbeats 4000000 in
theorem D_gi5_1 (l : Launch) {G : GD} {H0 : Heap} {a : Nat} (hat : va_at G.1 vwCl (a, .inr (6, gvF 0 0 0 0 0 0 0)) H0) (x1 x2 x3 x4 x5 x6 : Int32) : MetW l G yX5_init cX5_init 7 none 1 0 0 (fun q => q = a) [.ref a, .int x1, .int x2, .int x3, .int x4, .int x5, .int x6] H0 none (fun H => va_at G.1 vwCl (a, .inr (6, gvF x1 x2 x3 x4 x5 x6 0)) H ∧ H.size = H0.size) := by
  refine mx_of (by decide) (Nat.le_of_ble_eq_true rfl) ?_
  intro p e s m below meth c hx hb hr hc hlk hnm hs0 ls hl
  subst hs0
  have hown := hc.2.2.2.1
  have hts := hc.2.2.2.2.1
  have hK := hc.2.2.2.2.2
  have hl : lv_has ls 7 [(0, .ref a), (1, .int x1), (2, .int x2), (3, .int x3), (4, .int x4), (5, .int x5), (6, .int x6)] := hl
  have hS : va_S (fun q => q = a) s.heap s.heap [] := va_S.rf
  have hz : s.heap.size = s.heap.size := rfl
  refine lv_aload_n hx hb dX5_init_0 rfl (lv_at hl 0 rfl) ?_
  refine a_oinit hc q310 hl.1 dX5_init_1 (Nat.le_of_ble_eq_true rfl) (Nat.le_of_ble_eq_true rfl) ?_
  refine lv_aload_n hx hb dX5_init_4 rfl (lv_at hl 0 rfl) ?_
  refine lv_iload_n hx hb dX5_init_5 rfl (lv_at hl 1 rfl) ?_
  refine s_putF hx hb hts in_X6 tyX6 tyX6_ok nmX6 hown hK.1 hat rfl 0 (by decide) (hts _ q311) (fun x h => h) rfl hnm rfl rfl rfl rfl (Nat.le_of_ble_eq_true rfl) dX5_init_6 (fun H i hat z oq => ?_)
  have hat : va_at G.1 vwCl (a, .inr (6, gvF x1 0 0 0 0 0 0)) H := hat
  have hS := hS.put (k := i) z oq rfl
  have hz := z.trans hz
  refine lv_aload_n hx hb dX5_init_9 rfl (lv_at hl 0 rfl) ?_
  refine lv_iload_n hx hb dX5_init_10 rfl (lv_at hl 2 rfl) ?_
  refine s_putF hx hb hts in_X6 tyX6 tyX6_ok nmX6 hown hK.1 hat rfl 1 (by decide) (hts _ q314) (fun x h => h) rfl hnm rfl rfl rfl rfl (Nat.le_of_ble_eq_true rfl) dX5_init_11 (fun H i hat z oq => ?_)
  have hat : va_at G.1 vwCl (a, .inr (6, gvF x1 x2 0 0 0 0 0)) H := hat
  have hS := hS.put (k := i) z oq rfl
  have hz := z.trans hz
  refine lv_aload_n hx hb dX5_init_14 rfl (lv_at hl 0 rfl) ?_
  refine lv_iload_n hx hb dX5_init_15 rfl (lv_at hl 3 rfl) ?_
  refine s_put hx hb hts in_X6 tyX6 tyX6_ok nmX6 hown hK.1 hat rfl 2 (by decide) (hts _ q319) (fun x h => h) rfl rfl rfl rfl (Nat.le_of_ble_eq_true rfl) dX5_init_16 (fun H i hat z oq => ?_)
  have hat : va_at G.1 vwCl (a, .inr (6, gvF x1 x2 x3 0 0 0 0)) H := hat
  have hS := hS.put (k := i) z oq rfl
  have hz := z.trans hz
  refine lv_aload_n hx hb dX5_init_19 rfl (lv_at hl 0 rfl) ?_
  refine lv_iload hx hb dX5_init_20 (lv_at hl 4 rfl) ?_
  refine s_putF hx hb hts in_X6 tyX6 tyX6_ok nmX6 hown hK.1 hat rfl 3 (by decide) (hts _ q321) (fun x h => h) rfl hnm rfl rfl rfl rfl (Nat.le_of_ble_eq_true rfl) dX5_init_22 (fun H i hat z oq => ?_)
  have hat : va_at G.1 vwCl (a, .inr (6, gvF x1 x2 x3 x4 0 0 0)) H := hat
  have hS := hS.put (k := i) z oq rfl
  have hz := z.trans hz
  refine lv_aload_n hx hb dX5_init_25 rfl (lv_at hl 0 rfl) ?_
  refine lv_iload hx hb dX5_init_26 (lv_at hl 5 rfl) ?_
  refine s_putF hx hb hts in_X6 tyX6 tyX6_ok nmX6 hown hK.1 hat rfl 4 (by decide) (hts _ q323) (fun x h => h) rfl hnm rfl rfl rfl rfl (Nat.le_of_ble_eq_true rfl) dX5_init_28 (fun H i hat z oq => ?_)
  have hat : va_at G.1 vwCl (a, .inr (6, gvF x1 x2 x3 x4 x5 0 0)) H := hat
  have hS := hS.put (k := i) z oq rfl
  have hz := z.trans hz
  refine lv_aload_n hx hb dX5_init_31 rfl (lv_at hl 0 rfl) ?_
  refine lv_iload hx hb dX5_init_32 (lv_at hl 6 rfl) ?_
  refine s_putF hx hb hts in_X6 tyX6 tyX6_ok nmX6 hown hK.1 hat rfl 5 (by decide) (hts _ q327) (fun x h => h) rfl hnm rfl rfl rfl rfl (Nat.le_of_ble_eq_true rfl) dX5_init_34 (fun H i hat z oq => ?_)
  have hat : va_at G.1 vwCl (a, .inr (6, gvF x1 x2 x3 x4 x5 x6 0)) H := hat
  have hS := hS.put (k := i) z oq rfl
  have hz := z.trans hz
  exact rv_W hx hb hr hlk hS (⟨hat, hz⟩) dX5_init_37
set_option maxHeartbeats 4000000 in
theorem D_gi5_2 (l : Launch) {G : GD} {H0 : Heap} {a : Nat} (hat : va_at G.1 vwCl (a, .inr (7, gvF 0 0 0 0 0 0 0)) H0) (x1 x2 x3 x4 x5 x6 : Int32) : MetW l G yX5_init cX5_init 7 none 1 0 0 (fun q => q = a) [.ref a, .int x1, .int x2, .int x3, .int x4, .int x5, .int x6] H0 none (fun H => va_at G.1 vwCl (a, .inr (7, gvF x1 x2 x3 x4 x5 x6 0)) H ∧ H.size = H0.size) := by
  refine mx_of (by decide) (Nat.le_of_ble_eq_true rfl) ?_
  intro p e s m below meth c hx hb hr hc hlk hnm hs0 ls hl
  subst hs0
  have hown := hc.2.2.2.1
  have hts := hc.2.2.2.2.1
  have hK := hc.2.2.2.2.2
  have hl : lv_has ls 7 [(0, .ref a), (1, .int x1), (2, .int x2), (3, .int x3), (4, .int x4), (5, .int x5), (6, .int x6)] := hl
  have hS : va_S (fun q => q = a) s.heap s.heap [] := va_S.rf
  have hz : s.heap.size = s.heap.size := rfl
  refine lv_aload_n hx hb dX5_init_0 rfl (lv_at hl 0 rfl) ?_
  refine a_oinit hc q310 hl.1 dX5_init_1 (Nat.le_of_ble_eq_true rfl) (Nat.le_of_ble_eq_true rfl) ?_
  refine lv_aload_n hx hb dX5_init_4 rfl (lv_at hl 0 rfl) ?_
  refine lv_iload_n hx hb dX5_init_5 rfl (lv_at hl 1 rfl) ?_
  refine s_putF hx hb hts in_X7 tyX7 tyX7_ok nmX7 hown hK.1 hat rfl 0 (by decide) (hts _ q311) (fun x h => h) rfl hnm rfl rfl rfl rfl (Nat.le_of_ble_eq_true rfl) dX5_init_6 (fun H i hat z oq => ?_)
  have hat : va_at G.1 vwCl (a, .inr (7, gvF x1 0 0 0 0 0 0)) H := hat
  have hS := hS.put (k := i) z oq rfl
  have hz := z.trans hz
  refine lv_aload_n hx hb dX5_init_9 rfl (lv_at hl 0 rfl) ?_
  refine lv_iload_n hx hb dX5_init_10 rfl (lv_at hl 2 rfl) ?_
  refine s_putF hx hb hts in_X7 tyX7 tyX7_ok nmX7 hown hK.1 hat rfl 1 (by decide) (hts _ q314) (fun x h => h) rfl hnm rfl rfl rfl rfl (Nat.le_of_ble_eq_true rfl) dX5_init_11 (fun H i hat z oq => ?_)
  have hat : va_at G.1 vwCl (a, .inr (7, gvF x1 x2 0 0 0 0 0)) H := hat
  have hS := hS.put (k := i) z oq rfl
  have hz := z.trans hz
  refine lv_aload_n hx hb dX5_init_14 rfl (lv_at hl 0 rfl) ?_
  refine lv_iload_n hx hb dX5_init_15 rfl (lv_at hl 3 rfl) ?_
  refine s_put hx hb hts in_X7 tyX7 tyX7_ok nmX7 hown hK.1 hat rfl 2 (by decide) (hts _ q319) (fun x h => h) rfl rfl rfl rfl (Nat.le_of_ble_eq_true rfl) dX5_init_16 (fun H i hat z oq => ?_)
  have hat : va_at G.1 vwCl (a, .inr (7, gvF x1 x2 x3 0 0 0 0)) H := hat
  have hS := hS.put (k := i) z oq rfl
  have hz := z.trans hz
  refine lv_aload_n hx hb dX5_init_19 rfl (lv_at hl 0 rfl) ?_
  refine lv_iload hx hb dX5_init_20 (lv_at hl 4 rfl) ?_
  refine s_putF hx hb hts in_X7 tyX7 tyX7_ok nmX7 hown hK.1 hat rfl 3 (by decide) (hts _ q321) (fun x h => h) rfl hnm rfl rfl rfl rfl (Nat.le_of_ble_eq_true rfl) dX5_init_22 (fun H i hat z oq => ?_)
  have hat : va_at G.1 vwCl (a, .inr (7, gvF x1 x2 x3 x4 0 0 0)) H := hat
  have hS := hS.put (k := i) z oq rfl
  have hz := z.trans hz
  refine lv_aload_n hx hb dX5_init_25 rfl (lv_at hl 0 rfl) ?_
  refine lv_iload hx hb dX5_init_26 (lv_at hl 5 rfl) ?_
  refine s_putF hx hb hts in_X7 tyX7 tyX7_ok nmX7 hown hK.1 hat rfl 4 (by decide) (hts _ q323) (fun x h => h) rfl hnm rfl rfl rfl rfl (Nat.le_of_ble_eq_true rfl) dX5_init_28 (fun H i hat z oq => ?_)
  have hat : va_at G.1 vwCl (a, .inr (7, gvF x1 x2 x3 x4 x5 0 0)) H := hat
  have hS := hS.put (k := i) z oq rfl
  have hz := z.trans hz
  refine lv_aload_n hx hb dX5_init_31 rfl (lv_at hl 0 rfl) ?_
  refine lv_iload hx hb dX5_init_32 (lv_at hl 6 rfl) ?_
  refine s_putF hx hb hts in_X7 tyX7 tyX7_ok nmX7 hown hK.1 hat rfl 5 (by decide) (hts _ q327) (fun x h => h) rfl hnm rfl rfl rfl rfl (Nat.le_of_ble_eq_true rfl) dX5_init_34 (fun H i hat z oq => ?_)
  have hat : va_at G.1 vwCl (a, .inr (7, gvF x1 x2 x3 x4 x5 x6 0)) H := hat
  have hS := hS.put (k := i) z oq rfl
  have hz := z.trans hz
  exact rv_W hx hb hr hlk hS (⟨hat, hz⟩) dX5_init_37
set_option maxHeartbeats 4000000 in
theorem D_gi5_3 (l : Launch) {G : GD} {H0 : Heap} {a : Nat} (hat : va_at G.1 vwCl (a, .inr (8, gvF 0 0 0 0 0 0 0)) H0) (x1 x2 x3 x4 x5 x6 : Int32) : MetW l G yX5_init cX5_init 7 none 1 0 0 (fun q => q = a) [.ref a, .int x1, .int x2, .int x3, .int x4, .int x5, .int x6] H0 none (fun H => va_at G.1 vwCl (a, .inr (8, gvF x1 x2 x3 x4 x5 x6 0)) H ∧ H.size = H0.size) := by
  refine mx_of (by decide) (Nat.le_of_ble_eq_true rfl) ?_
  intro p e s m below meth c hx hb hr hc hlk hnm hs0 ls hl
  subst hs0
  have hown := hc.2.2.2.1
  have hts := hc.2.2.2.2.1
  have hK := hc.2.2.2.2.2
  have hl : lv_has ls 7 [(0, .ref a), (1, .int x1), (2, .int x2), (3, .int x3), (4, .int x4), (5, .int x5), (6, .int x6)] := hl
  have hS : va_S (fun q => q = a) s.heap s.heap [] := va_S.rf
  have hz : s.heap.size = s.heap.size := rfl
  refine lv_aload_n hx hb dX5_init_0 rfl (lv_at hl 0 rfl) ?_
  refine a_oinit hc q310 hl.1 dX5_init_1 (Nat.le_of_ble_eq_true rfl) (Nat.le_of_ble_eq_true rfl) ?_
  refine lv_aload_n hx hb dX5_init_4 rfl (lv_at hl 0 rfl) ?_
  refine lv_iload_n hx hb dX5_init_5 rfl (lv_at hl 1 rfl) ?_
  refine s_putF hx hb hts in_X8 tyX8 tyX8_ok nmX8 hown hK.1 hat rfl 0 (by decide) (hts _ q311) (fun x h => h) rfl hnm rfl rfl rfl rfl (Nat.le_of_ble_eq_true rfl) dX5_init_6 (fun H i hat z oq => ?_)
  have hat : va_at G.1 vwCl (a, .inr (8, gvF x1 0 0 0 0 0 0)) H := hat
  have hS := hS.put (k := i) z oq rfl
  have hz := z.trans hz
  refine lv_aload_n hx hb dX5_init_9 rfl (lv_at hl 0 rfl) ?_
  refine lv_iload_n hx hb dX5_init_10 rfl (lv_at hl 2 rfl) ?_
  refine s_putF hx hb hts in_X8 tyX8 tyX8_ok nmX8 hown hK.1 hat rfl 1 (by decide) (hts _ q314) (fun x h => h) rfl hnm rfl rfl rfl rfl (Nat.le_of_ble_eq_true rfl) dX5_init_11 (fun H i hat z oq => ?_)
  have hat : va_at G.1 vwCl (a, .inr (8, gvF x1 x2 0 0 0 0 0)) H := hat
  have hS := hS.put (k := i) z oq rfl
  have hz := z.trans hz
  refine lv_aload_n hx hb dX5_init_14 rfl (lv_at hl 0 rfl) ?_
  refine lv_iload_n hx hb dX5_init_15 rfl (lv_at hl 3 rfl) ?_
  refine s_put hx hb hts in_X8 tyX8 tyX8_ok nmX8 hown hK.1 hat rfl 2 (by decide) (hts _ q319) (fun x h => h) rfl rfl rfl rfl (Nat.le_of_ble_eq_true rfl) dX5_init_16 (fun H i hat z oq => ?_)
  have hat : va_at G.1 vwCl (a, .inr (8, gvF x1 x2 x3 0 0 0 0)) H := hat
  have hS := hS.put (k := i) z oq rfl
  have hz := z.trans hz
  refine lv_aload_n hx hb dX5_init_19 rfl (lv_at hl 0 rfl) ?_
  refine lv_iload hx hb dX5_init_20 (lv_at hl 4 rfl) ?_
  refine s_putF hx hb hts in_X8 tyX8 tyX8_ok nmX8 hown hK.1 hat rfl 3 (by decide) (hts _ q321) (fun x h => h) rfl hnm rfl rfl rfl rfl (Nat.le_of_ble_eq_true rfl) dX5_init_22 (fun H i hat z oq => ?_)
  have hat : va_at G.1 vwCl (a, .inr (8, gvF x1 x2 x3 x4 0 0 0)) H := hat
  have hS := hS.put (k := i) z oq rfl
  have hz := z.trans hz
  refine lv_aload_n hx hb dX5_init_25 rfl (lv_at hl 0 rfl) ?_
  refine lv_iload hx hb dX5_init_26 (lv_at hl 5 rfl) ?_
  refine s_putF hx hb hts in_X8 tyX8 tyX8_ok nmX8 hown hK.1 hat rfl 4 (by decide) (hts _ q323) (fun x h => h) rfl hnm rfl rfl rfl rfl (Nat.le_of_ble_eq_true rfl) dX5_init_28 (fun H i hat z oq => ?_)
  have hat : va_at G.1 vwCl (a, .inr (8, gvF x1 x2 x3 x4 x5 0 0)) H := hat
  have hS := hS.put (k := i) z oq rfl
  have hz := z.trans hz
  refine lv_aload_n hx hb dX5_init_31 rfl (lv_at hl 0 rfl) ?_
  refine lv_iload hx hb dX5_init_32 (lv_at hl 6 rfl) ?_
  refine s_putF hx hb hts in_X8 tyX8 tyX8_ok nmX8 hown hK.1 hat rfl 5 (by decide) (hts _ q327) (fun x h => h) rfl hnm rfl rfl rfl rfl (Nat.le_of_ble_eq_true rfl) dX5_init_34 (fun H i hat z oq => ?_)
  have hat : va_at G.1 vwCl (a, .inr (8, gvF x1 x2 x3 x4 x5 x6 0)) H := hat
  have hS := hS.put (k := i) z oq rfl
  have hz := z.trans hz
  exact rv_W hx hb hr hlk hS (⟨hat, hz⟩) dX5_init_37
set_option maxHeartbeats 4000000 in
theorem D_gi5_4 (l : Launch) {G : GD} {H0 : Heap} {a : Nat} (hat : va_at G.1 vwCl (a, .inr (9, gvF 0 0 0 0 0 0 0)) H0) (x1 x2 x3 x4 x5 x6 : Int32) : MetW l G yX5_init cX5_init 7 none 1 0 0 (fun q => q = a) [.ref a, .int x1, .int x2, .int x3, .int x4, .int x5, .int x6] H0 none (fun H => va_at G.1 vwCl (a, .inr (9, gvF x1 x2 x3 x4 x5 x6 0)) H ∧ H.size = H0.size) := by
  refine mx_of (by decide) (Nat.le_of_ble_eq_true rfl) ?_
  intro p e s m below meth c hx hb hr hc hlk hnm hs0 ls hl
  subst hs0
  have hown := hc.2.2.2.1
  have hts := hc.2.2.2.2.1
  have hK := hc.2.2.2.2.2
  have hl : lv_has ls 7 [(0, .ref a), (1, .int x1), (2, .int x2), (3, .int x3), (4, .int x4), (5, .int x5), (6, .int x6)] := hl
  have hS : va_S (fun q => q = a) s.heap s.heap [] := va_S.rf
  have hz : s.heap.size = s.heap.size := rfl
  refine lv_aload_n hx hb dX5_init_0 rfl (lv_at hl 0 rfl) ?_
  refine a_oinit hc q310 hl.1 dX5_init_1 (Nat.le_of_ble_eq_true rfl) (Nat.le_of_ble_eq_true rfl) ?_
  refine lv_aload_n hx hb dX5_init_4 rfl (lv_at hl 0 rfl) ?_
  refine lv_iload_n hx hb dX5_init_5 rfl (lv_at hl 1 rfl) ?_
  refine s_putF hx hb hts in_X9 tyX9 tyX9_ok nmX9 hown hK.1 hat rfl 0 (by decide) (hts _ q311) (fun x h => h) rfl hnm rfl rfl rfl rfl (Nat.le_of_ble_eq_true rfl) dX5_init_6 (fun H i hat z oq => ?_)
  have hat : va_at G.1 vwCl (a, .inr (9, gvF x1 0 0 0 0 0 0)) H := hat
  have hS := hS.put (k := i) z oq rfl
  have hz := z.trans hz
  refine lv_aload_n hx hb dX5_init_9 rfl (lv_at hl 0 rfl) ?_
  refine lv_iload_n hx hb dX5_init_10 rfl (lv_at hl 2 rfl) ?_
  refine s_putF hx hb hts in_X9 tyX9 tyX9_ok nmX9 hown hK.1 hat rfl 1 (by decide) (hts _ q314) (fun x h => h) rfl hnm rfl rfl rfl rfl (Nat.le_of_ble_eq_true rfl) dX5_init_11 (fun H i hat z oq => ?_)
  have hat : va_at G.1 vwCl (a, .inr (9, gvF x1 x2 0 0 0 0 0)) H := hat
  have hS := hS.put (k := i) z oq rfl
  have hz := z.trans hz
  refine lv_aload_n hx hb dX5_init_14 rfl (lv_at hl 0 rfl) ?_
  refine lv_iload_n hx hb dX5_init_15 rfl (lv_at hl 3 rfl) ?_
  refine s_put hx hb hts in_X9 tyX9 tyX9_ok nmX9 hown hK.1 hat rfl 2 (by decide) (hts _ q319) (fun x h => h) rfl rfl rfl rfl (Nat.le_of_ble_eq_true rfl) dX5_init_16 (fun H i hat z oq => ?_)
  have hat : va_at G.1 vwCl (a, .inr (9, gvF x1 x2 x3 0 0 0 0)) H := hat
  have hS := hS.put (k := i) z oq rfl
  have hz := z.trans hz
  refine lv_aload_n hx hb dX5_init_19 rfl (lv_at hl 0 rfl) ?_
  refine lv_iload hx hb dX5_init_20 (lv_at hl 4 rfl) ?_
  refine s_putF hx hb hts in_X9 tyX9 tyX9_ok nmX9 hown hK.1 hat rfl 3 (by decide) (hts _ q321) (fun x h => h) rfl hnm rfl rfl rfl rfl (Nat.le_of_ble_eq_true rfl) dX5_init_22 (fun H i hat z oq => ?_)
  have hat : va_at G.1 vwCl (a, .inr (9, gvF x1 x2 x3 x4 0 0 0)) H := hat
  have hS := hS.put (k := i) z oq rfl
  have hz := z.trans hz
  refine lv_aload_n hx hb dX5_init_25 rfl (lv_at hl 0 rfl) ?_
  refine lv_iload hx hb dX5_init_26 (lv_at hl 5 rfl) ?_
  refine s_putF hx hb hts in_X9 tyX9 tyX9_ok nmX9 hown hK.1 hat rfl 4 (by decide) (hts _ q323) (fun x h => h) rfl hnm rfl rfl rfl rfl (Nat.le_of_ble_eq_true rfl) dX5_init_28 (fun H i hat z oq => ?_)
  have hat : va_at G.1 vwCl (a, .inr (9, gvF x1 x2 x3 x4 x5 0 0)) H := hat
  have hS := hS.put (k := i) z oq rfl
  have hz := z.trans hz
  refine lv_aload_n hx hb dX5_init_31 rfl (lv_at hl 0 rfl) ?_
  refine lv_iload hx hb dX5_init_32 (lv_at hl 6 rfl) ?_
  refine s_putF hx hb hts in_X9 tyX9 tyX9_ok nmX9 hown hK.1 hat rfl 5 (by decide) (hts _ q327) (fun x h => h) rfl hnm rfl rfl rfl rfl (Nat.le_of_ble_eq_true rfl) dX5_init_34 (fun H i hat z oq => ?_)
  have hat : va_at G.1 vwCl (a, .inr (9, gvF x1 x2 x3 x4 x5 x6 0)) H := hat
  have hS := hS.put (k := i) z oq rfl
  have hz := z.trans hz
  exact rv_W hx hb hr hlk hS (⟨hat, hz⟩) dX5_init_37
set_option maxHeartbeats 4000000 in
theorem D_gi5_5 (l : Launch) {G : GD} {H0 : Heap} {a : Nat} (hat : va_at G.1 vwCl (a, .inr (10, gvF 0 0 0 0 0 0 0)) H0) (x1 x2 x3 x4 x5 x6 : Int32) : MetW l G yX5_init cX5_init 7 none 1 0 0 (fun q => q = a) [.ref a, .int x1, .int x2, .int x3, .int x4, .int x5, .int x6] H0 none (fun H => va_at G.1 vwCl (a, .inr (10, gvF x1 x2 x3 x4 x5 x6 0)) H ∧ H.size = H0.size) := by
  refine mx_of (by decide) (Nat.le_of_ble_eq_true rfl) ?_
  intro p e s m below meth c hx hb hr hc hlk hnm hs0 ls hl
  subst hs0
  have hown := hc.2.2.2.1
  have hts := hc.2.2.2.2.1
  have hK := hc.2.2.2.2.2
  have hl : lv_has ls 7 [(0, .ref a), (1, .int x1), (2, .int x2), (3, .int x3), (4, .int x4), (5, .int x5), (6, .int x6)] := hl
  have hS : va_S (fun q => q = a) s.heap s.heap [] := va_S.rf
  have hz : s.heap.size = s.heap.size := rfl
  refine lv_aload_n hx hb dX5_init_0 rfl (lv_at hl 0 rfl) ?_
  refine a_oinit hc q310 hl.1 dX5_init_1 (Nat.le_of_ble_eq_true rfl) (Nat.le_of_ble_eq_true rfl) ?_
  refine lv_aload_n hx hb dX5_init_4 rfl (lv_at hl 0 rfl) ?_
  refine lv_iload_n hx hb dX5_init_5 rfl (lv_at hl 1 rfl) ?_
  refine s_putF hx hb hts in_X10 tyX10 tyX10_ok nmX10 hown hK.1 hat rfl 0 (by decide) (hts _ q311) (fun x h => h) rfl hnm rfl rfl rfl rfl (Nat.le_of_ble_eq_true rfl) dX5_init_6 (fun H i hat z oq => ?_)
  have hat : va_at G.1 vwCl (a, .inr (10, gvF x1 0 0 0 0 0 0)) H := hat
  have hS := hS.put (k := i) z oq rfl
  have hz := z.trans hz
  refine lv_aload_n hx hb dX5_init_9 rfl (lv_at hl 0 rfl) ?_
  refine lv_iload_n hx hb dX5_init_10 rfl (lv_at hl 2 rfl) ?_
  refine s_putF hx hb hts in_X10 tyX10 tyX10_ok nmX10 hown hK.1 hat rfl 1 (by decide) (hts _ q314) (fun x h => h) rfl hnm rfl rfl rfl rfl (Nat.le_of_ble_eq_true rfl) dX5_init_11 (fun H i hat z oq => ?_)
  have hat : va_at G.1 vwCl (a, .inr (10, gvF x1 x2 0 0 0 0 0)) H := hat
  have hS := hS.put (k := i) z oq rfl
  have hz := z.trans hz
  refine lv_aload_n hx hb dX5_init_14 rfl (lv_at hl 0 rfl) ?_
  refine lv_iload_n hx hb dX5_init_15 rfl (lv_at hl 3 rfl) ?_
  refine s_put hx hb hts in_X10 tyX10 tyX10_ok nmX10 hown hK.1 hat rfl 2 (by decide) (hts _ q319) (fun x h => h) rfl rfl rfl rfl (Nat.le_of_ble_eq_true rfl) dX5_init_16 (fun H i hat z oq => ?_)
  have hat : va_at G.1 vwCl (a, .inr (10, gvF x1 x2 x3 0 0 0 0)) H := hat
  have hS := hS.put (k := i) z oq rfl
  have hz := z.trans hz
  refine lv_aload_n hx hb dX5_init_19 rfl (lv_at hl 0 rfl) ?_
  refine lv_iload hx hb dX5_init_20 (lv_at hl 4 rfl) ?_
  refine s_putF hx hb hts in_X10 tyX10 tyX10_ok nmX10 hown hK.1 hat rfl 3 (by decide) (hts _ q321) (fun x h => h) rfl hnm rfl rfl rfl rfl (Nat.le_of_ble_eq_true rfl) dX5_init_22 (fun H i hat z oq => ?_)
  have hat : va_at G.1 vwCl (a, .inr (10, gvF x1 x2 x3 x4 0 0 0)) H := hat
  have hS := hS.put (k := i) z oq rfl
  have hz := z.trans hz
  refine lv_aload_n hx hb dX5_init_25 rfl (lv_at hl 0 rfl) ?_
  refine lv_iload hx hb dX5_init_26 (lv_at hl 5 rfl) ?_
  refine s_putF hx hb hts in_X10 tyX10 tyX10_ok nmX10 hown hK.1 hat rfl 4 (by decide) (hts _ q323) (fun x h => h) rfl hnm rfl rfl rfl rfl (Nat.le_of_ble_eq_true rfl) dX5_init_28 (fun H i hat z oq => ?_)
  have hat : va_at G.1 vwCl (a, .inr (10, gvF x1 x2 x3 x4 x5 0 0)) H := hat
  have hS := hS.put (k := i) z oq rfl
  have hz := z.trans hz
  refine lv_aload_n hx hb dX5_init_31 rfl (lv_at hl 0 rfl) ?_
  refine lv_iload hx hb dX5_init_32 (lv_at hl 6 rfl) ?_
  refine s_putF hx hb hts in_X10 tyX10 tyX10_ok nmX10 hown hK.1 hat rfl 5 (by decide) (hts _ q327) (fun x h => h) rfl hnm rfl rfl rfl rfl (Nat.le_of_ble_eq_true rfl) dX5_init_34 (fun H i hat z oq => ?_)
  have hat : va_at G.1 vwCl (a, .inr (10, gvF x1 x2 x3 x4 x5 x6 0)) H := hat
  have hS := hS.put (k := i) z oq rfl
  have hz := z.trans hz
  exact rv_W hx hb hr hlk hS (⟨hat, hz⟩) dX5_init_37
theorem ni_X6_init : yX6_init.cls ≠ "java/lang/invoke/MethodHandle" ∧ yX6_init.cls ≠ "java/lang/invoke/VarHandle" ∧ (parseMethodDescriptor yX6_init.desc).map (fun d => d.parameters.length) = some 6 := by decide +kernel
set_option maxHeartbeats 4000000 in
theorem D_gi6 (l : Launch) {G : GD} {H0 : Heap} {a : Nat} (hat : va_at G.1 vwCl (a, .inr (6, gvF 0 0 0 0 0 0 0)) H0) (x1 x2 x3 x4 x5 x6 : Int32) : MetW l G yX6_init cX6_init 7 none 2 0 0 (fun q => q = a) [.ref a, .int x1, .int x2, .int x3, .int x4, .int x5, .int x6] H0 none (fun H => va_at G.1 vwCl (a, .inr (6, gvF x1 x2 x3 x4 x5 x6 0)) H ∧ H.size = H0.size) := by
  refine mx_of (by decide) (Nat.le_of_ble_eq_true rfl) ?_
  intro p e s m below meth c hx hb hr hc hlk hnm hs0 ls hl
  subst hs0
  have hown := hc.2.2.2.1
  have hts := hc.2.2.2.2.1
  have hK := hc.2.2.2.2.2
  have hl : lv_has ls 7 [(0, .ref a), (1, .int x1), (2, .int x2), (3, .int x3), (4, .int x4), (5, .int x5), (6, .int x6)] := hl
  have hS : va_S (fun q => q = a) s.heap s.heap [] := va_S.rf
  have hz : s.heap.size = s.heap.size := rfl
  refine lv_aload_n hx hb dX6_init_0 rfl (lv_at hl 0 rfl) ?_
  refine lv_iload_n hx hb dX6_init_1 rfl (lv_at hl 1 rfl) ?_
  refine lv_iload_n hx hb dX6_init_2 rfl (lv_at hl 2 rfl) ?_
  refine lv_iload_n hx hb dX6_init_3 rfl (lv_at hl 3 rfl) ?_
  refine lv_iload hx hb dX6_init_4 (lv_at hl 4 rfl) ?_
  refine lv_iload hx hb dX6_init_6 (lv_at hl 5 rfl) ?_
  refine lv_iload hx hb dX6_init_8 (lv_at hl 6 rfl) ?_
  refine ci_W (rest := []) hc (D_gi5_1 l hat x1 x2 x3 x4 x5 x6) q354 q308 q74 q309 rfl ni_X5_init ⟨Nat.le_of_ble_eq_true rfl, Nat.le_of_ble_eq_true rfl⟩ rfl hl.1 rfl (Nat.le_of_ble_eq_true rfl) dX6_init_10 ⟨Nat.le_of_ble_eq_true rfl, Nat.le_of_ble_eq_true rfl⟩ hS (fun _ h => h) (fun H locs hq hS hz2_ hk => ?_)
  obtain ⟨hat, hz⟩ := hq
  exact rv_W hx hb hr hlk hS (⟨hat, hz⟩) dX6_init_13
theorem ni_X7_init : yX7_init.cls ≠ "java/lang/invoke/MethodHandle" ∧ yX7_init.cls ≠ "java/lang/invoke/VarHandle" ∧ (parseMethodDescriptor yX7_init.desc).map (fun d => d.parameters.length) = some 6 := by decide +kernel
set_option maxHeartbeats 4000000 in
theorem D_gi7 (l : Launch) {G : GD} {H0 : Heap} {a : Nat} (hat : va_at G.1 vwCl (a, .inr (7, gvF 0 0 0 0 0 0 0)) H0) (x1 x2 x3 x4 x5 x6 : Int32) : MetW l G yX7_init cX7_init 7 none 2 0 0 (fun q => q = a) [.ref a, .int x1, .int x2, .int x3, .int x4, .int x5, .int x6] H0 none (fun H => va_at G.1 vwCl (a, .inr (7, gvF x1 x2 x3 x4 x5 x6 0)) H ∧ H.size = H0.size) := by
  refine mx_of (by decide) (Nat.le_of_ble_eq_true rfl) ?_
  intro p e s m below meth c hx hb hr hc hlk hnm hs0 ls hl
  subst hs0
  have hown := hc.2.2.2.1
  have hts := hc.2.2.2.2.1
  have hK := hc.2.2.2.2.2
  have hl : lv_has ls 7 [(0, .ref a), (1, .int x1), (2, .int x2), (3, .int x3), (4, .int x4), (5, .int x5), (6, .int x6)] := hl
  have hS : va_S (fun q => q = a) s.heap s.heap [] := va_S.rf
  have hz : s.heap.size = s.heap.size := rfl
  refine lv_aload_n hx hb dX7_init_0 rfl (lv_at hl 0 rfl) ?_
  refine lv_iload_n hx hb dX7_init_1 rfl (lv_at hl 1 rfl) ?_
  refine lv_iload_n hx hb dX7_init_2 rfl (lv_at hl 2 rfl) ?_
  refine lv_iload_n hx hb dX7_init_3 rfl (lv_at hl 3 rfl) ?_
  refine lv_iload hx hb dX7_init_4 (lv_at hl 4 rfl) ?_
  refine lv_iload hx hb dX7_init_6 (lv_at hl 5 rfl) ?_
  refine lv_iload hx hb dX7_init_8 (lv_at hl 6 rfl) ?_
  refine ci_W (rest := []) hc (D_gi5_2 l hat x1 x2 x3 x4 x5 x6) q368 q308 q74 q309 rfl ni_X5_init ⟨Nat.le_of_ble_eq_true rfl, Nat.le_of_ble_eq_true rfl⟩ rfl hl.1 rfl (Nat.le_of_ble_eq_true rfl) dX7_init_10 ⟨Nat.le_of_ble_eq_true rfl, Nat.le_of_ble_eq_true rfl⟩ hS (fun _ h => h) (fun H locs hq hS hz2_ hk => ?_)
  obtain ⟨hat, hz⟩ := hq
  exact rv_W hx hb hr hlk hS (⟨hat, hz⟩) dX7_init_13
theorem ni_X8_init : yX8_init.cls ≠ "java/lang/invoke/MethodHandle" ∧ yX8_init.cls ≠ "java/lang/invoke/VarHandle" ∧ (parseMethodDescriptor yX8_init.desc).map (fun d => d.parameters.length) = some 6 := by decide +kernel
set_option maxHeartbeats 4000000 in
theorem D_gi8 (l : Launch) {G : GD} {H0 : Heap} {a : Nat} (hat : va_at G.1 vwCl (a, .inr (8, gvF 0 0 0 0 0 0 0)) H0) (x1 x2 x3 x4 x5 x6 : Int32) : MetW l G yX8_init cX8_init 7 none 2 0 0 (fun q => q = a) [.ref a, .int x1, .int x2, .int x3, .int x4, .int x5, .int x6] H0 none (fun H => va_at G.1 vwCl (a, .inr (8, gvF x1 x2 x3 x4 x5 x6 0)) H ∧ H.size = H0.size) := by
  refine mx_of (by decide) (Nat.le_of_ble_eq_true rfl) ?_
  intro p e s m below meth c hx hb hr hc hlk hnm hs0 ls hl
  subst hs0
  have hown := hc.2.2.2.1
  have hts := hc.2.2.2.2.1
  have hK := hc.2.2.2.2.2
  have hl : lv_has ls 7 [(0, .ref a), (1, .int x1), (2, .int x2), (3, .int x3), (4, .int x4), (5, .int x5), (6, .int x6)] := hl
  have hS : va_S (fun q => q = a) s.heap s.heap [] := va_S.rf
  have hz : s.heap.size = s.heap.size := rfl
  refine lv_aload_n hx hb dX8_init_0 rfl (lv_at hl 0 rfl) ?_
  refine lv_iload_n hx hb dX8_init_1 rfl (lv_at hl 1 rfl) ?_
  refine lv_iload_n hx hb dX8_init_2 rfl (lv_at hl 2 rfl) ?_
  refine lv_iload_n hx hb dX8_init_3 rfl (lv_at hl 3 rfl) ?_
  refine lv_iload hx hb dX8_init_4 (lv_at hl 4 rfl) ?_
  refine lv_iload hx hb dX8_init_6 (lv_at hl 5 rfl) ?_
  refine lv_iload hx hb dX8_init_8 (lv_at hl 6 rfl) ?_
  refine ci_W (rest := []) hc (D_gi5_3 l hat x1 x2 x3 x4 x5 x6) q382 q308 q74 q309 rfl ni_X5_init ⟨Nat.le_of_ble_eq_true rfl, Nat.le_of_ble_eq_true rfl⟩ rfl hl.1 rfl (Nat.le_of_ble_eq_true rfl) dX8_init_10 ⟨Nat.le_of_ble_eq_true rfl, Nat.le_of_ble_eq_true rfl⟩ hS (fun _ h => h) (fun H locs hq hS hz2_ hk => ?_)
  obtain ⟨hat, hz⟩ := hq
  exact rv_W hx hb hr hlk hS (⟨hat, hz⟩) dX8_init_13
theorem ni_X9_init : yX9_init.cls ≠ "java/lang/invoke/MethodHandle" ∧ yX9_init.cls ≠ "java/lang/invoke/VarHandle" ∧ (parseMethodDescriptor yX9_init.desc).map (fun d => d.parameters.length) = some 6 := by decide +kernel
set_option maxHeartbeats 4000000 in
theorem D_gi9 (l : Launch) {G : GD} {H0 : Heap} {a : Nat} (hat : va_at G.1 vwCl (a, .inr (9, gvF 0 0 0 0 0 0 0)) H0) (x1 x2 x3 x4 x5 x6 : Int32) : MetW l G yX9_init cX9_init 7 none 2 0 0 (fun q => q = a) [.ref a, .int x1, .int x2, .int x3, .int x4, .int x5, .int x6] H0 none (fun H => va_at G.1 vwCl (a, .inr (9, gvF x1 x2 x3 x4 x5 x6 0)) H ∧ H.size = H0.size) := by
  refine mx_of (by decide) (Nat.le_of_ble_eq_true rfl) ?_
  intro p e s m below meth c hx hb hr hc hlk hnm hs0 ls hl
  subst hs0
  have hown := hc.2.2.2.1
  have hts := hc.2.2.2.2.1
  have hK := hc.2.2.2.2.2
  have hl : lv_has ls 7 [(0, .ref a), (1, .int x1), (2, .int x2), (3, .int x3), (4, .int x4), (5, .int x5), (6, .int x6)] := hl
  have hS : va_S (fun q => q = a) s.heap s.heap [] := va_S.rf
  have hz : s.heap.size = s.heap.size := rfl
  refine lv_aload_n hx hb dX9_init_0 rfl (lv_at hl 0 rfl) ?_
  refine lv_iload_n hx hb dX9_init_1 rfl (lv_at hl 1 rfl) ?_
  refine lv_iload_n hx hb dX9_init_2 rfl (lv_at hl 2 rfl) ?_
  refine lv_iload_n hx hb dX9_init_3 rfl (lv_at hl 3 rfl) ?_
  refine lv_iload hx hb dX9_init_4 (lv_at hl 4 rfl) ?_
  refine lv_iload hx hb dX9_init_6 (lv_at hl 5 rfl) ?_
  refine lv_iload hx hb dX9_init_8 (lv_at hl 6 rfl) ?_
  refine ci_W (rest := []) hc (D_gi5_4 l hat x1 x2 x3 x4 x5 x6) q396 q308 q74 q309 rfl ni_X5_init ⟨Nat.le_of_ble_eq_true rfl, Nat.le_of_ble_eq_true rfl⟩ rfl hl.1 rfl (Nat.le_of_ble_eq_true rfl) dX9_init_10 ⟨Nat.le_of_ble_eq_true rfl, Nat.le_of_ble_eq_true rfl⟩ hS (fun _ h => h) (fun H locs hq hS hz2_ hk => ?_)
  obtain ⟨hat, hz⟩ := hq
  exact rv_W hx hb hr hlk hS (⟨hat, hz⟩) dX9_init_13
set_option maxHeartbeats 4000000 in
theorem D_gi7c (l : Launch) {G : GD} {H0 : Heap} {a : Nat} (hat : va_at G.1 vwCl (a, .inr (10, gvF 0 0 0 0 0 0 0)) H0) (x1 x2 x3 x4 x5 x6 : Int32) : MetW l G yX7_init cX7_init 7 none 2 0 0 (fun q => q = a) [.ref a, .int x1, .int x2, .int x3, .int x4, .int x5, .int x6] H0 none (fun H => va_at G.1 vwCl (a, .inr (10, gvF x1 x2 x3 x4 x5 x6 0)) H ∧ H.size = H0.size) := by
  refine mx_of (by decide) (Nat.le_of_ble_eq_true rfl) ?_
  intro p e s m below meth c hx hb hr hc hlk hnm hs0 ls hl
  subst hs0
  have hown := hc.2.2.2.1
  have hts := hc.2.2.2.2.1
  have hK := hc.2.2.2.2.2
  have hl : lv_has ls 7 [(0, .ref a), (1, .int x1), (2, .int x2), (3, .int x3), (4, .int x4), (5, .int x5), (6, .int x6)] := hl
  have hS : va_S (fun q => q = a) s.heap s.heap [] := va_S.rf
  have hz : s.heap.size = s.heap.size := rfl
  refine lv_aload_n hx hb dX7_init_0 rfl (lv_at hl 0 rfl) ?_
  refine lv_iload_n hx hb dX7_init_1 rfl (lv_at hl 1 rfl) ?_
  refine lv_iload_n hx hb dX7_init_2 rfl (lv_at hl 2 rfl) ?_
  refine lv_iload_n hx hb dX7_init_3 rfl (lv_at hl 3 rfl) ?_
  refine lv_iload hx hb dX7_init_4 (lv_at hl 4 rfl) ?_
  refine lv_iload hx hb dX7_init_6 (lv_at hl 5 rfl) ?_
  refine lv_iload hx hb dX7_init_8 (lv_at hl 6 rfl) ?_
  refine ci_W (rest := []) hc (D_gi5_5 l hat x1 x2 x3 x4 x5 x6) q368 q308 q74 q309 rfl ni_X5_init ⟨Nat.le_of_ble_eq_true rfl, Nat.le_of_ble_eq_true rfl⟩ rfl hl.1 rfl (Nat.le_of_ble_eq_true rfl) dX7_init_10 ⟨Nat.le_of_ble_eq_true rfl, Nat.le_of_ble_eq_true rfl⟩ hS (fun _ h => h) (fun H locs hq hS hz2_ hk => ?_)
  obtain ⟨hat, hz⟩ := hq
  exact rv_W hx hb hr hlk hS (⟨hat, hz⟩) dX7_init_13
theorem ni_X10_init : yX10_init.cls ≠ "java/lang/invoke/MethodHandle" ∧ yX10_init.cls ≠ "java/lang/invoke/VarHandle" ∧ (parseMethodDescriptor yX10_init.desc).map (fun d => d.parameters.length) = some 6 := by decide +kernel
set_option maxHeartbeats 4000000 in
theorem D_gi10 (l : Launch) {G : GD} {H0 : Heap} {a : Nat} (hat : va_at G.1 vwCl (a, .inr (10, gvF 0 0 0 0 0 0 0)) H0) (x1 x2 x3 x4 x5 x6 : Int32) : MetW l G yX10_init cX10_init 7 none 3 0 0 (fun q => q = a) [.ref a, .int x1, .int x2, .int x3, .int x4, .int x5, .int x6] H0 none (fun H => va_at G.1 vwCl (a, .inr (10, gvF x1 x2 x3 x4 x5 x6 0)) H ∧ H.size = H0.size) := by
  refine mx_of (by decide) (Nat.le_of_ble_eq_true rfl) ?_
  intro p e s m below meth c hx hb hr hc hlk hnm hs0 ls hl
  subst hs0
  have hown := hc.2.2.2.1
  have hts := hc.2.2.2.2.1
  have hK := hc.2.2.2.2.2
  have hl : lv_has ls 7 [(0, .ref a), (1, .int x1), (2, .int x2), (3, .int x3), (4, .int x4), (5, .int x5), (6, .int x6)] := hl
  have hS : va_S (fun q => q = a) s.heap s.heap [] := va_S.rf
  have hz : s.heap.size = s.heap.size := rfl
  refine lv_aload_n hx hb dX10_init_0 rfl (lv_at hl 0 rfl) ?_
  refine lv_iload_n hx hb dX10_init_1 rfl (lv_at hl 1 rfl) ?_
  refine lv_iload_n hx hb dX10_init_2 rfl (lv_at hl 2 rfl) ?_
  refine lv_iload_n hx hb dX10_init_3 rfl (lv_at hl 3 rfl) ?_
  refine lv_iload hx hb dX10_init_4 (lv_at hl 4 rfl) ?_
  refine lv_iload hx hb dX10_init_6 (lv_at hl 5 rfl) ?_
  refine lv_iload hx hb dX10_init_8 (lv_at hl 6 rfl) ?_
  refine ci_W (rest := []) hc (D_gi7c l hat x1 x2 x3 x4 x5 x6) q410 q366 q76 q367 rfl ni_X7_init ⟨Nat.le_of_ble_eq_true rfl, Nat.le_of_ble_eq_true rfl⟩ rfl hl.1 rfl (Nat.le_of_ble_eq_true rfl) dX10_init_10 ⟨Nat.le_of_ble_eq_true rfl, Nat.le_of_ble_eq_true rfl⟩ hS (fun _ h => h) (fun H locs hq hS hz2_ hk => ?_)
  obtain ⟨hat, hz⟩ := hq
  exact rv_W hx hb hr hlk hS (⟨hat, hz⟩) dX10_init_13
theorem gv_0 (ty : Nat → FieldType) (h : ∀ j, j < 7 → ty j = if j = 6 then .boolean else .int) : ∀ j, j < 7 → defaultValue (ty j) = vp_V (gvF 0 0 0 0 0 0 0) j := by
  intro j hj
  rw [h j hj]
  rcases j with _ | _ | _ | _ | _ | _ | _ | j <;> first | rfl | omega
theorem ty_gap : (∀ j, j < 7 → tyX5 j = if j = 6 then .boolean else .int) ∧ (∀ j, j < 7 → tyX6 j = if j = 6 then .boolean else .int) ∧ (∀ j, j < 7 → tyX7 j = if j = 6 then .boolean else .int) ∧ (∀ j, j < 7 → tyX8 j = if j = 6 then .boolean else .int) ∧ (∀ j, j < 7 → tyX9 j = if j = 6 then .boolean else .int) ∧ (∀ j, j < 7 → tyX10 j = if j = 6 then .boolean else .int) := by
  refine ⟨?_, ?_, ?_, ?_, ?_, ?_⟩ <;> (intro j hj; rcases j with _ | _ | _ | _ | _ | _ | _ | j <;> first | rfl | omega)
theorem nd_X0_gapOf : yX0_gapOf.cls ≠ "java/lang/invoke/MethodHandle" ∧ yX0_gapOf.cls ≠ "java/lang/invoke/VarHandle" ∧ (parseMethodDescriptor yX0_gapOf.desc).map (fun d => d.parameters.length) = some 7 := by decide +kernel
set_option maxHeartbeats 4000000 in
theorem D_gapOf_0 (l : Launch) {G : GD} {H0 : Heap} (x1 x2 x3 x4 x5 x6 : Int32) : MetW l G yX0_gapOf cX0_gapOf 7 (some (.object "SmokeLeans$Gap")) 4 1 7 (Abv H0.size) [.int (nI 0), .int x1, .int x2, .int x3, .int x4, .int x5, .int x6] H0 (some (.ref H0.size)) (fun H => va_at G.1 vwCl (H0.size, .inr (5, gvF x1 x2 x3 x4 x5 x6 0)) H ∧ H.size = H0.size + 1) := by
  refine mx_of (by decide) (Nat.le_of_ble_eq_true rfl) ?_
  intro p e s m below meth c hx hb hr hc hlk hnm hs0 ls hl
  subst hs0
  have hown := hc.2.2.2.1
  have hts := hc.2.2.2.2.1
  have hK := hc.2.2.2.2.2
  have hl : lv_has ls 7 [(0, .int (nI 0)), (1, .int x1), (2, .int x2), (3, .int x3), (4, .int x4), (5, .int x5), (6, .int x6)] := hl
  have hS : va_S (Abv s.heap.size) s.heap s.heap [] := va_S.rf
  refine lv_iload_n hx hb dX0_gapOf_0 rfl (lv_at hl 0 rfl) ?_
  refine lv_tableIn (off := 35) (tgt := 36) hx hb dX0_gapOf_1 (by decide) (by decide) (by rfl) (by decide) ?_
  refine a_new (ci := 5) hc hS in_X5 tyX5 tyX5_ok q305 q306 q74 rfl (gv_0 _ ty_gap.1) (Nat.le_of_ble_eq_true rfl) (Nat.le_of_ble_eq_true rfl) dX0_gapOf_36 (fun H hat hS z o1 => ?_)
  refine lv_dup hx hb dX0_gapOf_39 rfl ?_
  refine lv_iload_n hx hb dX0_gapOf_40 rfl (lv_at hl 1 rfl) ?_
  refine lv_iload_n hx hb dX0_gapOf_41 rfl (lv_at hl 2 rfl) ?_
  refine lv_iload_n hx hb dX0_gapOf_42 rfl (lv_at hl 3 rfl) ?_
  refine lv_iload hx hb dX0_gapOf_43 (lv_at hl 4 rfl) ?_
  refine lv_iload hx hb dX0_gapOf_45 (lv_at hl 5 rfl) ?_
  refine lv_iload hx hb dX0_gapOf_47 (lv_at hl 6 rfl) ?_
  refine ci_W (rest := [.ref s.heap.size]) hc (D_gi5_0 l hat x1 x2 x3 x4 x5 x6) q307 q308 q74 q309 rfl ni_X5_init ⟨Nat.le_of_ble_eq_true rfl, Nat.le_of_ble_eq_true rfl⟩ rfl hl.1 rfl (Nat.le_of_ble_eq_true rfl) dX0_gapOf_49 ⟨Nat.le_of_ble_eq_true rfl, Nat.le_of_ble_eq_true rfl⟩ hS (fun q h => by rw [h]; exact Nat.le_refl _) (fun H locs hq hS hz2_ hk => ?_)
  exact ra_W hx hb hr (Or.inl ⟨_, rfl⟩) hlk (Or.inr ⟨_, rfl⟩) hS rfl ⟨hq.1, hq.2.trans z⟩ dX0_gapOf_52
set_option maxHeartbeats 4000000 in
theorem D_gapOf_1 (l : Launch) {G : GD} {H0 : Heap} (x1 x2 x3 x4 x5 x6 : Int32) : MetW l G yX0_gapOf cX0_gapOf 7 (some (.object "SmokeLeans$Gap")) 4 1 7 (Abv H0.size) [.int (nI 1), .int x1, .int x2, .int x3, .int x4, .int x5, .int x6] H0 (some (.ref H0.size)) (fun H => va_at G.1 vwCl (H0.size, .inr (6, gvF x1 x2 x3 x4 x5 x6 0)) H ∧ H.size = H0.size + 1) := by
  refine mx_of (by decide) (Nat.le_of_ble_eq_true rfl) ?_
  intro p e s m below meth c hx hb hr hc hlk hnm hs0 ls hl
  subst hs0
  have hown := hc.2.2.2.1
  have hts := hc.2.2.2.2.1
  have hK := hc.2.2.2.2.2
  have hl : lv_has ls 7 [(0, .int (nI 1)), (1, .int x1), (2, .int x2), (3, .int x3), (4, .int x4), (5, .int x5), (6, .int x6)] := hl
  have hS : va_S (Abv s.heap.size) s.heap s.heap [] := va_S.rf
  refine lv_iload_n hx hb dX0_gapOf_0 rfl (lv_at hl 0 rfl) ?_
  refine lv_tableIn (off := 52) (tgt := 53) hx hb dX0_gapOf_1 (by decide) (by decide) (by rfl) (by decide) ?_
  refine a_new (ci := 6) hc hS in_X6 tyX6 tyX6_ok q349 q350 q75 rfl (gv_0 _ ty_gap.2.1) (Nat.le_of_ble_eq_true rfl) (Nat.le_of_ble_eq_true rfl) dX0_gapOf_53 (fun H hat hS z o1 => ?_)
  refine lv_dup hx hb dX0_gapOf_56 rfl ?_
  refine lv_iload_n hx hb dX0_gapOf_57 rfl (lv_at hl 1 rfl) ?_
  refine lv_iload_n hx hb dX0_gapOf_58 rfl (lv_at hl 2 rfl) ?_
  refine lv_iload_n hx hb dX0_gapOf_59 rfl (lv_at hl 3 rfl) ?_
  refine lv_iload hx hb dX0_gapOf_60 (lv_at hl 4 rfl) ?_
  refine lv_iload hx hb dX0_gapOf_62 (lv_at hl 5 rfl) ?_
  refine lv_iload hx hb dX0_gapOf_64 (lv_at hl 6 rfl) ?_
  refine ci_W (rest := [.ref s.heap.size]) hc (D_gi6 l hat x1 x2 x3 x4 x5 x6) q351 q352 q75 q353 rfl ni_X6_init ⟨Nat.le_of_ble_eq_true rfl, Nat.le_of_ble_eq_true rfl⟩ rfl hl.1 rfl (Nat.le_of_ble_eq_true rfl) dX0_gapOf_66 ⟨Nat.le_of_ble_eq_true rfl, Nat.le_of_ble_eq_true rfl⟩ hS (fun q h => by rw [h]; exact Nat.le_refl _) (fun H locs hq hS hz2_ hk => ?_)
  exact ra_W hx hb hr (Or.inl ⟨_, rfl⟩) hlk (Or.inr ⟨_, rfl⟩) hS rfl ⟨hq.1, hq.2.trans z⟩ dX0_gapOf_69
set_option maxHeartbeats 4000000 in
theorem D_gapOf_2 (l : Launch) {G : GD} {H0 : Heap} (x1 x2 x3 x4 x5 x6 : Int32) : MetW l G yX0_gapOf cX0_gapOf 7 (some (.object "SmokeLeans$Gap")) 4 1 7 (Abv H0.size) [.int (nI 2), .int x1, .int x2, .int x3, .int x4, .int x5, .int x6] H0 (some (.ref H0.size)) (fun H => va_at G.1 vwCl (H0.size, .inr (7, gvF x1 x2 x3 x4 x5 x6 0)) H ∧ H.size = H0.size + 1) := by
  refine mx_of (by decide) (Nat.le_of_ble_eq_true rfl) ?_
  intro p e s m below meth c hx hb hr hc hlk hnm hs0 ls hl
  subst hs0
  have hown := hc.2.2.2.1
  have hts := hc.2.2.2.2.1
  have hK := hc.2.2.2.2.2
  have hl : lv_has ls 7 [(0, .int (nI 2)), (1, .int x1), (2, .int x2), (3, .int x3), (4, .int x4), (5, .int x5), (6, .int x6)] := hl
  have hS : va_S (Abv s.heap.size) s.heap s.heap [] := va_S.rf
  refine lv_iload_n hx hb dX0_gapOf_0 rfl (lv_at hl 0 rfl) ?_
  refine lv_tableIn (off := 69) (tgt := 70) hx hb dX0_gapOf_1 (by decide) (by decide) (by rfl) (by decide) ?_
  refine a_new (ci := 7) hc hS in_X7 tyX7 tyX7_ok q363 q364 q76 rfl (gv_0 _ ty_gap.2.2.1) (Nat.le_of_ble_eq_true rfl) (Nat.le_of_ble_eq_true rfl) dX0_gapOf_70 (fun H hat hS z o1 => ?_)
  refine lv_dup hx hb dX0_gapOf_73 rfl ?_
  refine lv_iload_n hx hb dX0_gapOf_74 rfl (lv_at hl 1 rfl) ?_
  refine lv_iload_n hx hb dX0_gapOf_75 rfl (lv_at hl 2 rfl) ?_
  refine lv_iload_n hx hb dX0_gapOf_76 rfl (lv_at hl 3 rfl) ?_
  refine lv_iload hx hb dX0_gapOf_77 (lv_at hl 4 rfl) ?_
  refine lv_iload hx hb dX0_gapOf_79 (lv_at hl 5 rfl) ?_
  refine lv_iload hx hb dX0_gapOf_81 (lv_at hl 6 rfl) ?_
  refine ci_W (rest := [.ref s.heap.size]) hc (D_gi7 l hat x1 x2 x3 x4 x5 x6) q365 q366 q76 q367 rfl ni_X7_init ⟨Nat.le_of_ble_eq_true rfl, Nat.le_of_ble_eq_true rfl⟩ rfl hl.1 rfl (Nat.le_of_ble_eq_true rfl) dX0_gapOf_83 ⟨Nat.le_of_ble_eq_true rfl, Nat.le_of_ble_eq_true rfl⟩ hS (fun q h => by rw [h]; exact Nat.le_refl _) (fun H locs hq hS hz2_ hk => ?_)
  exact ra_W hx hb hr (Or.inl ⟨_, rfl⟩) hlk (Or.inr ⟨_, rfl⟩) hS rfl ⟨hq.1, hq.2.trans z⟩ dX0_gapOf_86
set_option maxHeartbeats 4000000 in
theorem D_gapOf_3 (l : Launch) {G : GD} {H0 : Heap} (x1 x2 x3 x4 x5 x6 : Int32) : MetW l G yX0_gapOf cX0_gapOf 7 (some (.object "SmokeLeans$Gap")) 4 1 7 (Abv H0.size) [.int (nI 3), .int x1, .int x2, .int x3, .int x4, .int x5, .int x6] H0 (some (.ref H0.size)) (fun H => va_at G.1 vwCl (H0.size, .inr (8, gvF x1 x2 x3 x4 x5 x6 0)) H ∧ H.size = H0.size + 1) := by
  refine mx_of (by decide) (Nat.le_of_ble_eq_true rfl) ?_
  intro p e s m below meth c hx hb hr hc hlk hnm hs0 ls hl
  subst hs0
  have hown := hc.2.2.2.1
  have hts := hc.2.2.2.2.1
  have hK := hc.2.2.2.2.2
  have hl : lv_has ls 7 [(0, .int (nI 3)), (1, .int x1), (2, .int x2), (3, .int x3), (4, .int x4), (5, .int x5), (6, .int x6)] := hl
  have hS : va_S (Abv s.heap.size) s.heap s.heap [] := va_S.rf
  refine lv_iload_n hx hb dX0_gapOf_0 rfl (lv_at hl 0 rfl) ?_
  refine lv_tableIn (off := 86) (tgt := 87) hx hb dX0_gapOf_1 (by decide) (by decide) (by rfl) (by decide) ?_
  refine a_new (ci := 8) hc hS in_X8 tyX8 tyX8_ok q377 q378 q77 rfl (gv_0 _ ty_gap.2.2.2.1) (Nat.le_of_ble_eq_true rfl) (Nat.le_of_ble_eq_true rfl) dX0_gapOf_87 (fun H hat hS z o1 => ?_)
  refine lv_dup hx hb dX0_gapOf_90 rfl ?_
  refine lv_iload_n hx hb dX0_gapOf_91 rfl (lv_at hl 1 rfl) ?_
  refine lv_iload_n hx hb dX0_gapOf_92 rfl (lv_at hl 2 rfl) ?_
  refine lv_iload_n hx hb dX0_gapOf_93 rfl (lv_at hl 3 rfl) ?_
  refine lv_iload hx hb dX0_gapOf_94 (lv_at hl 4 rfl) ?_
  refine lv_iload hx hb dX0_gapOf_96 (lv_at hl 5 rfl) ?_
  refine lv_iload hx hb dX0_gapOf_98 (lv_at hl 6 rfl) ?_
  refine ci_W (rest := [.ref s.heap.size]) hc (D_gi8 l hat x1 x2 x3 x4 x5 x6) q379 q380 q77 q381 rfl ni_X8_init ⟨Nat.le_of_ble_eq_true rfl, Nat.le_of_ble_eq_true rfl⟩ rfl hl.1 rfl (Nat.le_of_ble_eq_true rfl) dX0_gapOf_100 ⟨Nat.le_of_ble_eq_true rfl, Nat.le_of_ble_eq_true rfl⟩ hS (fun q h => by rw [h]; exact Nat.le_refl _) (fun H locs hq hS hz2_ hk => ?_)
  exact ra_W hx hb hr (Or.inl ⟨_, rfl⟩) hlk (Or.inr ⟨_, rfl⟩) hS rfl ⟨hq.1, hq.2.trans z⟩ dX0_gapOf_103
set_option maxHeartbeats 4000000 in
theorem D_gapOf_4 (l : Launch) {G : GD} {H0 : Heap} (x1 x2 x3 x4 x5 x6 : Int32) : MetW l G yX0_gapOf cX0_gapOf 7 (some (.object "SmokeLeans$Gap")) 4 1 7 (Abv H0.size) [.int (nI 4), .int x1, .int x2, .int x3, .int x4, .int x5, .int x6] H0 (some (.ref H0.size)) (fun H => va_at G.1 vwCl (H0.size, .inr (9, gvF x1 x2 x3 x4 x5 x6 0)) H ∧ H.size = H0.size + 1) := by
  refine mx_of (by decide) (Nat.le_of_ble_eq_true rfl) ?_
  intro p e s m below meth c hx hb hr hc hlk hnm hs0 ls hl
  subst hs0
  have hown := hc.2.2.2.1
  have hts := hc.2.2.2.2.1
  have hK := hc.2.2.2.2.2
  have hl : lv_has ls 7 [(0, .int (nI 4)), (1, .int x1), (2, .int x2), (3, .int x3), (4, .int x4), (5, .int x5), (6, .int x6)] := hl
  have hS : va_S (Abv s.heap.size) s.heap s.heap [] := va_S.rf
  refine lv_iload_n hx hb dX0_gapOf_0 rfl (lv_at hl 0 rfl) ?_
  refine lv_tableIn (off := 103) (tgt := 104) hx hb dX0_gapOf_1 (by decide) (by decide) (by rfl) (by decide) ?_
  refine a_new (ci := 9) hc hS in_X9 tyX9 tyX9_ok q391 q392 q78 rfl (gv_0 _ ty_gap.2.2.2.2.1) (Nat.le_of_ble_eq_true rfl) (Nat.le_of_ble_eq_true rfl) dX0_gapOf_104 (fun H hat hS z o1 => ?_)
  refine lv_dup hx hb dX0_gapOf_107 rfl ?_
  refine lv_iload_n hx hb dX0_gapOf_108 rfl (lv_at hl 1 rfl) ?_
  refine lv_iload_n hx hb dX0_gapOf_109 rfl (lv_at hl 2 rfl) ?_
  refine lv_iload_n hx hb dX0_gapOf_110 rfl (lv_at hl 3 rfl) ?_
  refine lv_iload hx hb dX0_gapOf_111 (lv_at hl 4 rfl) ?_
  refine lv_iload hx hb dX0_gapOf_113 (lv_at hl 5 rfl) ?_
  refine lv_iload hx hb dX0_gapOf_115 (lv_at hl 6 rfl) ?_
  refine ci_W (rest := [.ref s.heap.size]) hc (D_gi9 l hat x1 x2 x3 x4 x5 x6) q393 q394 q78 q395 rfl ni_X9_init ⟨Nat.le_of_ble_eq_true rfl, Nat.le_of_ble_eq_true rfl⟩ rfl hl.1 rfl (Nat.le_of_ble_eq_true rfl) dX0_gapOf_117 ⟨Nat.le_of_ble_eq_true rfl, Nat.le_of_ble_eq_true rfl⟩ hS (fun q h => by rw [h]; exact Nat.le_refl _) (fun H locs hq hS hz2_ hk => ?_)
  exact ra_W hx hb hr (Or.inl ⟨_, rfl⟩) hlk (Or.inr ⟨_, rfl⟩) hS rfl ⟨hq.1, hq.2.trans z⟩ dX0_gapOf_120
set_option maxHeartbeats 4000000 in
theorem D_gapOf_5 (l : Launch) {G : GD} {H0 : Heap} (x1 x2 x3 x4 x5 x6 : Int32) : MetW l G yX0_gapOf cX0_gapOf 7 (some (.object "SmokeLeans$Gap")) 4 1 7 (Abv H0.size) [.int (nI 5), .int x1, .int x2, .int x3, .int x4, .int x5, .int x6] H0 (some (.ref H0.size)) (fun H => va_at G.1 vwCl (H0.size, .inr (10, gvF x1 x2 x3 x4 x5 x6 0)) H ∧ H.size = H0.size + 1) := by
  refine mx_of (by decide) (Nat.le_of_ble_eq_true rfl) ?_
  intro p e s m below meth c hx hb hr hc hlk hnm hs0 ls hl
  subst hs0
  have hown := hc.2.2.2.1
  have hts := hc.2.2.2.2.1
  have hK := hc.2.2.2.2.2
  have hl : lv_has ls 7 [(0, .int (nI 5)), (1, .int x1), (2, .int x2), (3, .int x3), (4, .int x4), (5, .int x5), (6, .int x6)] := hl
  have hS : va_S (Abv s.heap.size) s.heap s.heap [] := va_S.rf
  refine lv_iload_n hx hb dX0_gapOf_0 rfl (lv_at hl 0 rfl) ?_
  refine lv_tableOut (tgt := 121) hx hb dX0_gapOf_1 (by decide) (by decide) ?_
  refine a_new (ci := 10) hc hS in_X10 tyX10 tyX10_ok q405 q406 q79 rfl (gv_0 _ ty_gap.2.2.2.2.2) (Nat.le_of_ble_eq_true rfl) (Nat.le_of_ble_eq_true rfl) dX0_gapOf_121 (fun H hat hS z o1 => ?_)
  refine lv_dup hx hb dX0_gapOf_124 rfl ?_
  refine lv_iload_n hx hb dX0_gapOf_125 rfl (lv_at hl 1 rfl) ?_
  refine lv_iload_n hx hb dX0_gapOf_126 rfl (lv_at hl 2 rfl) ?_
  refine lv_iload_n hx hb dX0_gapOf_127 rfl (lv_at hl 3 rfl) ?_
  refine lv_iload hx hb dX0_gapOf_128 (lv_at hl 4 rfl) ?_
  refine lv_iload hx hb dX0_gapOf_130 (lv_at hl 5 rfl) ?_
  refine lv_iload hx hb dX0_gapOf_132 (lv_at hl 6 rfl) ?_
  refine ci_W (rest := [.ref s.heap.size]) hc (D_gi10 l hat x1 x2 x3 x4 x5 x6) q407 q408 q79 q409 rfl ni_X10_init ⟨Nat.le_of_ble_eq_true rfl, Nat.le_of_ble_eq_true rfl⟩ rfl hl.1 rfl (Nat.le_of_ble_eq_true rfl) dX0_gapOf_134 ⟨Nat.le_of_ble_eq_true rfl, Nat.le_of_ble_eq_true rfl⟩ hS (fun q h => by rw [h]; exact Nat.le_refl _) (fun H locs hq hS hz2_ hk => ?_)
  exact ra_W hx hb hr (Or.inl ⟨_, rfl⟩) hlk (Or.inr ⟨_, rfl⟩) hS rfl ⟨hq.1, hq.2.trans z⟩ dX0_gapOf_137
theorem D_gapOf (l : Launch) {G : GD} {H0 : Heap} {k : Nat} (hk : k < 6) (x1 x2 x3 x4 x5 x6 : Int32) : MetW l G yX0_gapOf cX0_gapOf 7 (some (.object "SmokeLeans$Gap")) 4 1 7 (Abv H0.size) [.int (nI k), .int x1, .int x2, .int x3, .int x4, .int x5, .int x6] H0 (some (.ref H0.size)) (fun H => va_at G.1 vwCl (H0.size, .inr (5 + k, gvF x1 x2 x3 x4 x5 x6 0)) H ∧ H.size = H0.size + 1) := by
  rcases kd_cases hk with rfl | rfl | rfl | rfl | rfl | rfl
  · exact D_gapOf_0 l x1 x2 x3 x4 x5 x6
  · exact D_gapOf_1 l x1 x2 x3 x4 x5 x6
  · exact D_gapOf_2 l x1 x2 x3 x4 x5 x6
  · exact D_gapOf_3 l x1 x2 x3 x4 x5 x6
  · exact D_gapOf_4 l x1 x2 x3 x4 x5 x6
  · exact D_gapOf_5 l x1 x2 x3 x4 x5 x6
theorem nd_X0_copyOf : yX0_copyOf.cls ≠ "java/lang/invoke/MethodHandle" ∧ yX0_copyOf.cls ≠ "java/lang/invoke/VarHandle" ∧ (parseMethodDescriptor yX0_copyOf.desc).map (fun d => d.parameters.length) = some 1 := by decide +kernel
set_option maxHeartbeats 4000000 in
theorem D_copyOf (l : Launch) {G : GD} {H0 : Heap} {a g k : Nat} {r : Nat → Int32} (hk : k < 6) (hat : va_at G.1 vwCl (a, .inr (5 + k, gfs r g)) H0) (h7 : r (gp g 7) = 0 ∨ r (gp g 7) = 1) : MetW l G yX0_copyOf cX0_copyOf 2 (some (.object "SmokeLeans$Gap")) 5 1 7 (Abv H0.size) [.ref a] H0 (some (.ref H0.size)) (fun H => va_at G.1 vwCl (H0.size, .inr (5 + k, gfs r g)) H ∧ H.size = H0.size + 1) := by
  refine mx_of (by decide) (Nat.le_of_ble_eq_true rfl) ?_
  intro p e s m below meth c hx hb hr hc hlk hnm hs0 ls hl
  subst hs0
  have hown := hc.2.2.2.1
  have hts := hc.2.2.2.2.1
  have hK := hc.2.2.2.2.2
  have hl : lv_has ls 2 [(0, .ref a)] := hl
  have hS : va_S (Abv s.heap.size) s.heap s.heap [] := va_S.rf
  refine lv_aload_n hx hb dX0_copyOf_0 rfl (lv_at hl 0 rfl) ?_
  refine gv_kind (rest := []) hc q433 hk hat ⟨Nat.le_of_ble_eq_true rfl, Nat.le_of_ble_eq_true rfl⟩ hl.1 (Nat.le_of_ble_eq_true rfl) dX0_copyOf_1 ⟨Nat.le_of_ble_eq_true rfl, Nat.le_of_ble_eq_true rfl⟩ ?_
  refine lv_aload_n hx hb dX0_copyOf_4 rfl (lv_at hl 0 rfl) ?_
  refine gv_get hc hk hat 0 (by decide) q313 rfl dX0_copyOf_5 ?_
  refine lv_aload_n hx hb dX0_copyOf_8 rfl (lv_at hl 0 rfl) ?_
  refine gv_get hc hk hat 1 (by decide) q318 rfl dX0_copyOf_9 ?_
  refine lv_aload_n hx hb dX0_copyOf_12 rfl (lv_at hl 0 rfl) ?_
  refine gv_get hc hk hat 2 (by decide) q320 rfl dX0_copyOf_13 ?_
  refine lv_aload_n hx hb dX0_copyOf_16 rfl (lv_at hl 0 rfl) ?_
  refine gv_get hc hk hat 3 (by decide) q322 rfl dX0_copyOf_17 ?_
  refine lv_aload_n hx hb dX0_copyOf_20 rfl (lv_at hl 0 rfl) ?_
  refine gv_get hc hk hat 4 (by decide) q326 rfl dX0_copyOf_21 ?_
  refine lv_aload_n hx hb dX0_copyOf_24 rfl (lv_at hl 0 rfl) ?_
  refine gv_get hc hk hat 5 (by decide) q328 rfl dX0_copyOf_25 ?_
  refine cs_W1 (rest := []) hc (D_gapOf l hk (r (gp g 1)) (r (gp g 2)) (r (gp g 3)) (r (gp g 4)) (r (gp g 5)) (r (gp g 6))) (lw_S q302 q303 q67 q304) nd_X0_gapOf ⟨Nat.le_of_ble_eq_true rfl, Nat.le_of_ble_eq_true rfl⟩ rfl hl.1 rfl (Nat.le_of_ble_eq_true rfl) dX0_copyOf_28 ⟨Nat.le_of_ble_eq_true rfl, Nat.le_of_ble_eq_true rfl⟩ hS (fun q h => h) (fun H locs hq hS hz hk1 => ?_)
  have hat1 := hat.kept (hk1 a hat.lt (fun h => by have := hat.lt; omega))
  refine lv_astore_n (lv' := [(1, .ref s.heap.size), (0, .ref a)]) hx hb dX0_copyOf_31 rfl hl (by decide) rfl (fun ls hl => ?_)
  refine lv_aload_n hx hb dX0_copyOf_32 rfl (lv_at hl 0 rfl) ?_
  refine lv_aload_n hx hb dX0_copyOf_33 rfl (lv_at hl 1 rfl) ?_
  refine gv_get hc hk hat1 6 (by decide) q332 rfl dX0_copyOf_34 ?_
  refine gv_putR hc hk hq.1 rfl 6 (by decide) q332 rfl rfl (by rcases h7 with h | h <;> rw [h] <;> rfl) (by rcases h7 with h | h <;> rw [h] <;> rfl) dX0_copyOf_37 (fun H i hat2 z oq => ?_)
  have hS := hS.put (k := i) z oq (Nat.le_refl s.heap.size)
  refine lv_aload_n hx hb dX0_copyOf_40 rfl (lv_at hl 0 rfl) ?_
  exact ra_W hx hb hr (Or.inl ⟨_, rfl⟩) hlk (Or.inr ⟨_, rfl⟩) hS rfl ⟨hat2, z.trans hq.2⟩ dX0_copyOf_41
