/-! the desk, 7: sheets' acts -/
set_option maxRecDepth 100000
theorem nd_X0_numberAt : yX0_numberAt.cls = "SmokeLeans" ∧ yX0_numberAt.cls ≠ "java/lang/invoke/MethodHandle" ∧ yX0_numberAt.cls ≠ "java/lang/invoke/VarHandle" ∧ (parseMethodDescriptor yX0_numberAt.desc).map (fun d => d.parameters.length) = some 2 := by decide +kernel
set_option maxHeartbeats 4000000 in
theorem D_numAt_a (l : Launch) {G : GD} {A : Nat → Prop} {f b : Nat → Nat → Int32} {g : Nat → Nat → Int64} {hh hk ht : Nat} {ad : Nat → Nat} {H0 : Heap} (hDW : DW G A f g b hh hk ht ad H0) (hI : IG G) (hZ : ZO f g) (hG : SG G) {x i : Int32} (hbad : ¬ (0 ≤ x ∧ x ≤ 3)) : MetX l G yX0_numberAt cX0_numberAt 4 (some (.object "java/lang/Object")) 6 1 7 (Abv H0.size) [.ref (ad 0), .int x, .int i] H0 (FndP G 0 H0.size) := by
  refine mt_of (by decide) (Nat.le_of_ble_eq_true rfl) ?_
  intro p e s m below meth c hx hb hr hc hlk hnm hout hs0 ls hl
  subst hs0
  have hown := hc.2.2.2.1
  have hts := hc.2.2.2.2.1
  have hK := hc.2.2.2.2.2
  have hl : lv_has ls 4 [(0, .ref (ad 0)), (1, .int x), (2, .int i)] := hl
  have hS : va_S (Abv s.heap.size) s.heap s.heap [] := va_S.rf
  refine lv_iload_n hx hb dX0_numberAt_0 rfl (lv_at hl 1 rfl) ?_
  refine cs_T (rest := []) hc (D_sheetAt_no l hG hDW.2.1 hDW.gle hbad) q836 q837 q67 q838 nd_X0_sheetAt ⟨Nat.le_of_ble_eq_true rfl, Nat.le_of_ble_eq_true rfl⟩ rfl hl.1 rfl (Nat.le_of_ble_eq_true rfl) dX0_numberAt_1 ⟨Nat.le_of_ble_eq_true rfl, Nat.le_of_ble_eq_true rfl⟩ hS (fun _ h => h) (fun x H locs hq hS hz hk1 => ?_)
  exact wt_leave hlk (hout _) (fun t ht hW => ⟨⟨_, rfl, by rw [ht]; exact hq⟩, hS.F ht⟩) hS.2.2
set_option maxHeartbeats 4000000 in
theorem D_numAt_b (l : Launch) {G : GD} {A : Nat → Prop} {f b : Nat → Nat → Int32} {g : Nat → Nat → Int64} {hh hk ht : Nat} {ad : Nat → Nat} {H0 : Heap} (hDW : DW G A f g b hh hk ht ad H0) (hI : IG G) (hZ : ZO f g) (hG : SG G) {k : Nat} (k4 : k < 4) {i : Int32} (hbad : f 19 k = 0) : MetX l G yX0_numberAt cX0_numberAt 4 (some (.object "java/lang/Object")) 6 1 7 (Abv H0.size) [.ref (ad 0), .int (nI k), .int i] H0 (FndP G 5 H0.size) := by
  refine mt_of (by decide) (Nat.le_of_ble_eq_true rfl) ?_
  intro p e s m below meth c hx hb hr hc hlk hnm hout hs0 ls hl
  subst hs0
  have hown := hc.2.2.2.1
  have hts := hc.2.2.2.2.1
  have hK := hc.2.2.2.2.2
  have hl : lv_has ls 4 [(0, .ref (ad 0)), (1, .int (nI k)), (2, .int i)] := hl
  have hS : va_S (Abv s.heap.size) s.heap s.heap [] := va_S.rf
  refine lv_iload_n hx hb dX0_numberAt_0 rfl (lv_at hl 1 rfl) ?_
  refine cs_R0 (rest := []) hc (D_sheetAt_ok l (v := nI k) ⟨nI_nn (by omega), nI_le (b := 3) (by omega) (by decide)⟩) (lw_S q836 q837 q67 q838) nd_X0_sheetAt ⟨Nat.le_of_ble_eq_true rfl, Nat.le_of_ble_eq_true rfl⟩ rfl hl.1 rfl (Nat.le_of_ble_eq_true rfl) dX0_numberAt_1 ⟨Nat.le_of_ble_eq_true rfl, Nat.le_of_ble_eq_true rfl⟩ ?_
  refine lv_aload_n hx hb dX0_numberAt_4 rfl (lv_at hl 0 rfl) ?_
  refine lv_iload_n hx hb dX0_numberAt_5 rfl (lv_at hl 1 rfl) ?_
  refine cv_T (rest := []) hc (D_there_no l hDW k4 hG hbad) q839 q841 qs19 q67 q842 nd_X0_there ⟨Nat.le_of_ble_eq_true rfl, Nat.le_of_ble_eq_true rfl⟩ (DW.recv hK hDW) rfl hl.1 rfl (Nat.le_of_ble_eq_true rfl) dX0_numberAt_6 ⟨Nat.le_of_ble_eq_true rfl, Nat.le_of_ble_eq_true rfl⟩ hS (fun _ h => h) (fun x H locs hq hS hz hk1 => ?_)
  exact wt_leave hlk (hout _) (fun t ht hW => ⟨⟨_, rfl, by rw [ht]; exact hq⟩, hS.F ht⟩) hS.2.2
set_option maxHeartbeats 4000000 in
theorem D_numAt_c (l : Launch) {G : GD} {A : Nat → Prop} {f b : Nat → Nat → Int32} {g : Nat → Nat → Int64} {hh hk ht : Nat} {ad : Nat → Nat} {H0 : Heap} (hDW : DW G A f g b hh hk ht ad H0) (hI : IG G) (hZ : ZO f g) (hG : SG G) {k : Nat} (k4 : k < 4) {i : Int32} (hnz : ¬ f 19 k = 0) (hbad : ¬ (0 ≤ i ∧ i ≤ f 20 k - 1)) : MetX l G yX0_numberAt cX0_numberAt 4 (some (.object "java/lang/Object")) 6 1 7 (Abv H0.size) [.ref (ad 0), .int (nI k), .int i] H0 (FndP G 0 H0.size) := by
  refine mt_of (by decide) (Nat.le_of_ble_eq_true rfl) ?_
  intro p e s m below meth c hx hb hr hc hlk hnm hout hs0 ls hl
  subst hs0
  have hown := hc.2.2.2.1
  have hts := hc.2.2.2.2.1
  have hK := hc.2.2.2.2.2
  have hl : lv_has ls 4 [(0, .ref (ad 0)), (1, .int (nI k)), (2, .int i)] := hl
  have hS : va_S (Abv s.heap.size) s.heap s.heap [] := va_S.rf
  obtain ⟨nk, n40k, nkk⟩ := (hZ k k4).2.1
  have hnk : (f 20 k).toNatClampNeg = nk := by rw [nkk]; exact nI_clamp (by omega)
  rw [nkk] at hbad
  refine lv_iload_n hx hb dX0_numberAt_0 rfl (lv_at hl 1 rfl) ?_
  refine cs_R0 (rest := []) hc (D_sheetAt_ok l (v := nI k) ⟨nI_nn (by omega), nI_le (b := 3) (by omega) (by decide)⟩) (lw_S q836 q837 q67 q838) nd_X0_sheetAt ⟨Nat.le_of_ble_eq_true rfl, Nat.le_of_ble_eq_true rfl⟩ rfl hl.1 rfl (Nat.le_of_ble_eq_true rfl) dX0_numberAt_1 ⟨Nat.le_of_ble_eq_true rfl, Nat.le_of_ble_eq_true rfl⟩ ?_
  refine lv_aload_n hx hb dX0_numberAt_4 rfl (lv_at hl 0 rfl) ?_
  refine lv_iload_n hx hb dX0_numberAt_5 rfl (lv_at hl 1 rfl) ?_
  refine cv_R1 (rest := []) hc (D_there_ok l hDW k4 hnz) (lw_V q839 q841 qs19 q67 q842) nd_X0_there ⟨Nat.le_of_ble_eq_true rfl, Nat.le_of_ble_eq_true rfl⟩ (DW.recv hK hDW) rfl hl.1 rfl (Nat.le_of_ble_eq_true rfl) dX0_numberAt_6 ⟨Nat.le_of_ble_eq_true rfl, Nat.le_of_ble_eq_true rfl⟩ ?_
  have hzk : bitsOk (f 19 k) := (hZ k k4).1.resolve_left hnz
  refine lv_astore_n (lv' := [(3, .ref (ad (20 + k))), (0, .ref (ad 0)), (1, .int (nI k)), (2, .int i)]) hx hb dX0_numberAt_9 rfl hl (by decide) rfl (fun ls hl => ?_)
  refine lv_iload_n hx hb dX0_numberAt_10 rfl (lv_at hl 3 rfl) ?_
  refine lv_i2l hx hb dX0_numberAt_11 rfl ?_
  refine lv_lconst (v := (0 : Int32).toInt64) hx hb dX0_numberAt_12 (by decide) ?_
  refine lv_aload_n hx hb dX0_numberAt_13 rfl (lv_at hl 0 rfl) ?_
  refine cs_R1 (rest := [.long ((0 : Int32).toInt64), .long i.toInt64]) hc (D_length l hI hzk (hDW.sh k4 hzk)) (lw_S q843 q844 q67 q845) nd_X0_length ⟨Nat.le_of_ble_eq_true rfl, Nat.le_of_ble_eq_true rfl⟩ rfl hl.1 rfl (Nat.le_of_ble_eq_true rfl) dX0_numberAt_14 ⟨Nat.le_of_ble_eq_true rfl, Nat.le_of_ble_eq_true rfl⟩ (sm_topi (v := nI nk) (by rw [hnk]) ?_)
  refine lv_iconst (v := 1) hx hb dX0_numberAt_17 (by decide) ?_
  refine lv_isub hx hb dX0_numberAt_18 ?_
  refine lv_i2l hx hb dX0_numberAt_19 rfl ?_
  refine cs_R1 (rest := []) hc (D_in32 l i 0 ((nI nk) - 1)) (lw_S q294 q295 q67 q296) nd_X0_in ⟨Nat.le_of_ble_eq_true rfl, Nat.le_of_ble_eq_true rfl⟩ rfl hl.1 rfl (Nat.le_of_ble_eq_true rfl) dX0_numberAt_20 ⟨Nat.le_of_ble_eq_true rfl, Nat.le_of_ble_eq_true rfl⟩ ?_
  refine lv_iconst (v := 0) hx hb dX0_numberAt_23 (by decide) ?_
  refine cs_T (rest := []) hc (D_need_no l hG hDW.2.1 hDW.gle (x := b2i (0 ≤ i ∧ i ≤ ((nI nk) - 1))) (b2i_f hbad) 0) q207 q208 q67 q209 nd_X0_need ⟨Nat.le_of_ble_eq_true rfl, Nat.le_of_ble_eq_true rfl⟩ rfl hl.1 rfl (Nat.le_of_ble_eq_true rfl) dX0_numberAt_24 ⟨Nat.le_of_ble_eq_true rfl, Nat.le_of_ble_eq_true rfl⟩ hS (fun _ h => h) (fun x H locs hq hS hz hk1 => ?_)
  exact wt_leave hlk (hout _) (fun t ht hW => ⟨⟨_, rfl, by rw [ht]; exact hq⟩, hS.F ht⟩) hS.2.2
set_option maxHeartbeats 4000000 in
theorem D_numAt_ok (l : Launch) {G : GD} {A : Nat → Prop} {f b : Nat → Nat → Int32} {g : Nat → Nat → Int64} {hh hk ht : Nat} {ad : Nat → Nat} {H0 : Heap} (hDW : DW G A f g b hh hk ht ad H0) (hI : IG G) (hZ : ZO f g) (hG : SG G) {k : Nat} (k4 : k < 4) {i : Int32} (hnz : ¬ f 19 k = 0) (hgood : 0 ≤ i ∧ i ≤ f 20 k - 1) : MetR l G yX0_numberAt cX0_numberAt 4 (some (.object "java/lang/Object")) 6 [.ref (ad 0), .int (nI k), .int i] H0 (some (.ref (ad (20 + k)))) := by
  refine mx_of (by decide) (Nat.le_of_ble_eq_true rfl) ?_
  intro p e s m below meth c hx hb hr hc hlk hnm hs0 ls hl
  subst hs0
  have hown := hc.2.2.2.1
  have hts := hc.2.2.2.2.1
  have hK := hc.2.2.2.2.2
  have hl : lv_has ls 4 [(0, .ref (ad 0)), (1, .int (nI k)), (2, .int i)] := hl
  obtain ⟨nk, n40k, nkk⟩ := (hZ k k4).2.1
  have hnk : (f 20 k).toNatClampNeg = nk := by rw [nkk]; exact nI_clamp (by omega)
  rw [nkk] at hgood
  refine lv_iload_n hx hb dX0_numberAt_0 rfl (lv_at hl 1 rfl) ?_
  refine cs_R0 (rest := []) hc (D_sheetAt_ok l (v := nI k) ⟨nI_nn (by omega), nI_le (b := 3) (by omega) (by decide)⟩) (lw_S q836 q837 q67 q838) nd_X0_sheetAt ⟨Nat.le_of_ble_eq_true rfl, Nat.le_of_ble_eq_true rfl⟩ rfl hl.1 rfl (Nat.le_of_ble_eq_true rfl) dX0_numberAt_1 ⟨Nat.le_of_ble_eq_true rfl, Nat.le_of_ble_eq_true rfl⟩ ?_
  refine lv_aload_n hx hb dX0_numberAt_4 rfl (lv_at hl 0 rfl) ?_
  refine lv_iload_n hx hb dX0_numberAt_5 rfl (lv_at hl 1 rfl) ?_
  refine cv_R1 (rest := []) hc (D_there_ok l hDW k4 hnz) (lw_V q839 q841 qs19 q67 q842) nd_X0_there ⟨Nat.le_of_ble_eq_true rfl, Nat.le_of_ble_eq_true rfl⟩ (DW.recv hK hDW) rfl hl.1 rfl (Nat.le_of_ble_eq_true rfl) dX0_numberAt_6 ⟨Nat.le_of_ble_eq_true rfl, Nat.le_of_ble_eq_true rfl⟩ ?_
  have hzk : bitsOk (f 19 k) := (hZ k k4).1.resolve_left hnz
  refine lv_astore_n (lv' := [(3, .ref (ad (20 + k))), (0, .ref (ad 0)), (1, .int (nI k)), (2, .int i)]) hx hb dX0_numberAt_9 rfl hl (by decide) rfl (fun ls hl => ?_)
  refine lv_iload_n hx hb dX0_numberAt_10 rfl (lv_at hl 3 rfl) ?_
  refine lv_i2l hx hb dX0_numberAt_11 rfl ?_
  refine lv_lconst (v := (0 : Int32).toInt64) hx hb dX0_numberAt_12 (by decide) ?_
  refine lv_aload_n hx hb dX0_numberAt_13 rfl (lv_at hl 0 rfl) ?_
  refine cs_R1 (rest := [.long ((0 : Int32).toInt64), .long i.toInt64]) hc (D_length l hI hzk (hDW.sh k4 hzk)) (lw_S q843 q844 q67 q845) nd_X0_length ⟨Nat.le_of_ble_eq_true rfl, Nat.le_of_ble_eq_true rfl⟩ rfl hl.1 rfl (Nat.le_of_ble_eq_true rfl) dX0_numberAt_14 ⟨Nat.le_of_ble_eq_true rfl, Nat.le_of_ble_eq_true rfl⟩ (sm_topi (v := nI nk) (by rw [hnk]) ?_)
  refine lv_iconst (v := 1) hx hb dX0_numberAt_17 (by decide) ?_
  refine lv_isub hx hb dX0_numberAt_18 ?_
  refine lv_i2l hx hb dX0_numberAt_19 rfl ?_
  refine cs_R1 (rest := []) hc (D_in32 l i 0 ((nI nk) - 1)) (lw_S q294 q295 q67 q296) nd_X0_in ⟨Nat.le_of_ble_eq_true rfl, Nat.le_of_ble_eq_true rfl⟩ rfl hl.1 rfl (Nat.le_of_ble_eq_true rfl) dX0_numberAt_20 ⟨Nat.le_of_ble_eq_true rfl, Nat.le_of_ble_eq_true rfl⟩ ?_
  refine lv_iconst (v := 0) hx hb dX0_numberAt_23 (by decide) ?_
  refine cs_R0 (rest := []) hc (D_need_ok l (x := b2i (0 ≤ i ∧ i ≤ ((nI nk) - 1))) (by rw [b2i_t hgood]; decide) 0) (lw_S q207 q208 q67 q209) nd_X0_need ⟨Nat.le_of_ble_eq_true rfl, Nat.le_of_ble_eq_true rfl⟩ rfl hl.1 rfl (Nat.le_of_ble_eq_true rfl) dX0_numberAt_24 ⟨Nat.le_of_ble_eq_true rfl, Nat.le_of_ble_eq_true rfl⟩ ?_
  refine lv_aload_n hx hb dX0_numberAt_27 rfl (lv_at hl 0 rfl) ?_
  exact ra_R hx hb hr (Or.inl ⟨_, rfl⟩) hlk (Or.inr ⟨_, rfl⟩) dX0_numberAt_28
theorem nd_X0_write : yX0_write.cls = "SmokeLeans" ∧ yX0_write.cls ≠ "java/lang/invoke/MethodHandle" ∧ yX0_write.cls ≠ "java/lang/invoke/VarHandle" ∧ (parseMethodDescriptor yX0_write.desc).map (fun d => d.parameters.length) = some 3 := by decide +kernel
set_option maxHeartbeats 4000000 in
theorem O_write (l : Launch) {G : GD} {A : Nat → Prop} {f : Nat → Nat → Int32} {g : Nat → Nat → Int64} {xo hk ht : Nat} {H0 : Heap} (hF : FG G) (hC : DC G A f g xo hk ht H0) (hAb : ∀ q, H0.size ≤ q → A q) (hI : IG G) (hZ : ZO f g) (x i : Int32) (v : Int64) : MetH l G yX0_write cX0_write 8 (some .long) [((0), (25), (26), (1))] 7 100 1000 A [.ref xo, .int x, .int i, .long v] H0 (some (.long (writeM f g x i v).1)) (fun H => DC G A (writeM f g x i v).2.1 (writeM f g x i v).2.2 xo hk ht H) := by
  refine mw_of (hh := [((0), (25), (26), (1))]) (by decide) (Nat.le_of_ble_eq_true rfl) ?_
  intro p e s m below meth c hx hb hr hc hlk hnm htab hs0 ls hl
  subst hs0
  have hown := hc.2.2.2.1
  have hts := hc.2.2.2.2.1
  have hK := hc.2.2.2.2.2
  obtain ⟨b, ad, ah, ga, N, R, rfl, hO, hDW, ⟨u, hv, hcok, hW⟩, hdj⟩ := hC
  have hl : lv_has ls 8 [(0, .ref (ad 0)), (1, .int x), (2, .int i), (3, .long v)] := hl
  have hS : va_S A s.heap s.heap [] := va_S.rf
  have hN20 := hO.2.1
  have hHA : ∀ q, HR N ah ga q → A q := fun q h => HR.mem hW h
  refine lv_aload_n hx hb dX0_write_0 rfl (lv_at hl 0 rfl) ?_
  refine lv_iload_n hx hb dX0_write_1 rfl (lv_at hl 1 rfl) ?_
  refine lv_iload_n hx hb dX0_write_2 rfl (lv_at hl 2 rfl) ?_
  by_cases c1 : 0 ≤ x ∧ x ≤ 3
  · obtain ⟨k, k3, rfl⟩ := ex_le 3 (hi := 3) rfl (by decide) c1.1 c1.2
    have k4 : k < 4 := by omega
    have hcl_k : (nI k).toNatClampNeg = k := nI_clamp (by omega)
    obtain ⟨nk, n40k, nkk⟩ := (hZ k k4).2.1
    have hnk : (f 20 k).toNatClampNeg = nk := by rw [nkk]; exact nI_clamp (by omega)
    by_cases c2 : f 19 k = 0
    · refine cv_T (rest := []) hc (D_numAt_b l hDW hI hZ hF.1 k4 c2) q956 q958 qs26 q67 q959 nd_X0_numberAt ⟨Nat.le_of_ble_eq_true rfl, Nat.le_of_ble_eq_true rfl⟩ (DW.recv hK hDW) rfl hl.1 rfl (Nat.le_of_ble_eq_true rfl) dX0_write_3 ⟨Nat.le_of_ble_eq_true rfl, Nat.le_of_ble_eq_true rfl⟩ hS (fun q h => hAb q (Nat.le_trans hS.1 h)) (fun ex H locs hq hS hz hk1 => ?_)
      obtain ⟨hexn, hex, hsz⟩ := hq
      have hne : ex ≠ ad 3 := by have := hDW.lt (r := 3) (fun z => by cases z); omega
      have hDW := hDW.aftM hk1
      have hW := hW.aftM hk1
      refine ct_find (pre := []) (post := []) (y := ⟨0, 25, 26, 1⟩) hc htab (by decide) (by decide) rfl hex ?_
      refine lv_astore (lv' := [(5, .ref ex), (0, .ref (ad 0)), (1, .int (nI k)), (2, .int i), (3, .long v)]) hx hb dX0_write_26 hl (by decide) rfl (fun ls hl => ?_)
      refine lv_aload_n hx hb dX0_write_28 rfl (lv_at hl 1 rfl) ?_
      refine lv_aload hx hb dX0_write_29 (lv_at hl 0 rfl) ?_
      refine cv_W1 (rest := []) hc (D_X0finds l hDW hex hne (k := 5) rfl (by decide)) (lw_V q277 q279 qs1 q67 q280) nd_X0_finds ⟨Nat.le_of_ble_eq_true rfl, Nat.le_of_ble_eq_true rfl⟩ (DW.recv hK hDW) rfl hl.1 rfl (Nat.le_of_ble_eq_true rfl) dX0_write_31 ⟨Nat.le_of_ble_eq_true rfl, Nat.le_of_ble_eq_true rfl⟩ hS (fun _ h => h) (fun H locs hq hS hz hk1 => ?_)
      obtain ⟨hDW, hf3⟩ := hq
      have hW := hW.aftD (hdj 3 (Or.inl (by decide))) (hDW.1 _ (hDW.mem (r := 3) rfl)) hf3
      refine lv_i2l hx hb dX0_write_34 rfl ?_
      have hsp_582 : writeM f g (nI k) i v = ((-1000000006 : Int32).toInt64, cntP f 5, g) := by unfold writeM; rw [if_pos c1, hcl_k, if_pos c2]
      refine w_more (cells' := 100) (slots' := 1000) (Nat.le_of_ble_eq_true rfl) (Nat.le_of_ble_eq_true rfl) ?_
      exact rl_W hx hb hr hlk hS (by rw [hsp_582]; show (-1000000001 - 5 : Int32).toInt64 = (-1000000006 : Int32).toInt64; decide) (by rw [hsp_582]; exact DC.mk' rfl hO hDW hcok hW hdj) dX0_write_35
    · have hzk : bitsOk (f 19 k) := (hZ k k4).1.resolve_left c2
      by_cases c3 : 0 ≤ i ∧ i ≤ f 20 k - 1
      · refine cv_R1 (rest := []) hc (D_numAt_ok l hDW hI hZ hF.1 k4 c2 c3) (lw_V q956 q958 qs26 q67 q959) nd_X0_numberAt ⟨Nat.le_of_ble_eq_true rfl, Nat.le_of_ble_eq_true rfl⟩ (DW.recv hK hDW) rfl hl.1 rfl (Nat.le_of_ble_eq_true rfl) dX0_write_3 ⟨Nat.le_of_ble_eq_true rfl, Nat.le_of_ble_eq_true rfl⟩ ?_
        obtain ⟨j, hj, rfl⟩ := ex_pred nkk (by omega) c3
        have hcl_j : (nI j).toNatClampNeg = j := nI_clamp (by omega)
        refine lv_astore (lv' := [(5, .ref (ad (20 + k))), (0, .ref (ad 0)), (1, .int (nI k)), (2, .int (nI j)), (3, .long v)]) hx hb dX0_write_6 hl (by decide) rfl (fun ls hl => ?_)
        refine lv_aload hx hb dX0_write_8 (lv_at hl 0 rfl) ?_
        refine lv_iload_n hx hb dX0_write_10 rfl (lv_at hl 3 rfl) ?_
        refine cs_R1 (rest := []) hc (D_get l hI hzk (hDW.sh k4 hzk) (x := (nI j)) (j := j) (ix_nI (by rw [hnk]; exact hj) (by rw [hnk]; omega)) ((hZ k k4).2.2 j (by rw [hnk]; exact hj))) (lw_S q936 q937 q67 q938) nd_X0_get ⟨Nat.le_of_ble_eq_true rfl, Nat.le_of_ble_eq_true rfl⟩ rfl hl.1 rfl (Nat.le_of_ble_eq_true rfl) dX0_write_11 ⟨Nat.le_of_ble_eq_true rfl, Nat.le_of_ble_eq_true rfl⟩ (sm_topl (v := g 21 (40 * k + j)) rfl ?_)
        refine lv_lstore (lv' := [(6, .long (g 21 (40 * k + j))), (5, .ref (ad (20 + k))), (0, .ref (ad 0)), (1, .int (nI k)), (2, .int (nI j)), (3, .long v)]) hx hb dX0_write_14 hl (by decide) rfl (fun ls hl => ?_)
        refine lv_aload hx hb dX0_write_16 (lv_at hl 1 rfl) ?_
        refine lv_iload_n hx hb dX0_write_18 rfl (lv_at hl 4 rfl) ?_
        refine lv_lload_n hx hb dX0_write_19 rfl (lv_at hl 5 rfl) ?_
        refine cs_W0 (rest := []) hc (D_put l hI hzk (hDW.sh k4 hzk) (x := (nI j)) (j := j) (ix_nI (by rw [hnk]; exact hj) (by rw [hnk]; omega)) v) (lw_S q850 q851 q67 q852) nd_X0_put ⟨Nat.le_of_ble_eq_true rfl, Nat.le_of_ble_eq_true rfl⟩ rfl hl.1 rfl (Nat.le_of_ble_eq_true rfl) dX0_write_20 ⟨Nat.le_of_ble_eq_true rfl, Nat.le_of_ble_eq_true rfl⟩ hS (fun q h => by rw [h]; exact hDW.msh k4 hzk) (fun H locs hq hS hz hk1 => ?_)
        have hW := hW.aftD (hdj (20 + k) (dS_sh k4 hzk)) (hDW.1 _ (hDW.msh k4 hzk)) hq.2.2
        have hDW := hDW.shput hZ.okz k4 hzk (by rw [hnk]; exact hj) hq.1 hq.2.2
        refine lv_lload hx hb dX0_write_23 (lv_at hl 0 rfl) ?_
        have hsp_583 : writeM f g (nI k) (nI j) v = (g 21 (40 * k + j), f, up2L g 21 (40 * k + j) (narP (f 19 k) v)) := by unfold writeM; rw [if_pos c1, hcl_k, if_neg c2, if_pos c3, hcl_j]
        refine w_more (cells' := 100) (slots' := 1000) (Nat.le_of_ble_eq_true rfl) (Nat.le_of_ble_eq_true rfl) ?_
        exact rl_W hx hb hr hlk hS (by rw [hsp_583]) (by rw [hsp_583]; exact DC.mk' rfl hO hDW hcok hW hdj) dX0_write_25
      · refine cv_T (rest := []) hc (D_numAt_c l hDW hI hZ hF.1 k4 c2 c3) q956 q958 qs26 q67 q959 nd_X0_numberAt ⟨Nat.le_of_ble_eq_true rfl, Nat.le_of_ble_eq_true rfl⟩ (DW.recv hK hDW) rfl hl.1 rfl (Nat.le_of_ble_eq_true rfl) dX0_write_3 ⟨Nat.le_of_ble_eq_true rfl, Nat.le_of_ble_eq_true rfl⟩ hS (fun q h => hAb q (Nat.le_trans hS.1 h)) (fun ex H locs hq hS hz hk1 => ?_)
        obtain ⟨hexn, hex, hsz⟩ := hq
        have hne : ex ≠ ad 3 := by have := hDW.lt (r := 3) (fun z => by cases z); omega
        have hDW := hDW.aftM hk1
        have hW := hW.aftM hk1
        refine ct_find (pre := []) (post := []) (y := ⟨0, 25, 26, 1⟩) hc htab (by decide) (by decide) rfl hex ?_
        refine lv_astore (lv' := [(5, .ref ex), (0, .ref (ad 0)), (1, .int (nI k)), (2, .int i), (3, .long v)]) hx hb dX0_write_26 hl (by decide) rfl (fun ls hl => ?_)
        refine lv_aload_n hx hb dX0_write_28 rfl (lv_at hl 1 rfl) ?_
        refine lv_aload hx hb dX0_write_29 (lv_at hl 0 rfl) ?_
        refine cv_W1 (rest := []) hc (D_X0finds l hDW hex hne (k := 0) rfl (by decide)) (lw_V q277 q279 qs1 q67 q280) nd_X0_finds ⟨Nat.le_of_ble_eq_true rfl, Nat.le_of_ble_eq_true rfl⟩ (DW.recv hK hDW) rfl hl.1 rfl (Nat.le_of_ble_eq_true rfl) dX0_write_31 ⟨Nat.le_of_ble_eq_true rfl, Nat.le_of_ble_eq_true rfl⟩ hS (fun _ h => h) (fun H locs hq hS hz hk1 => ?_)
        obtain ⟨hDW, hf3⟩ := hq
        have hW := hW.aftD (hdj 3 (Or.inl (by decide))) (hDW.1 _ (hDW.mem (r := 3) rfl)) hf3
        refine lv_i2l hx hb dX0_write_34 rfl ?_
        have hsp_584 : writeM f g (nI k) i v = ((-1000000001 : Int32).toInt64, cntP f 0, g) := by unfold writeM; rw [if_pos c1, hcl_k, if_neg c2, if_neg c3]
        refine w_more (cells' := 100) (slots' := 1000) (Nat.le_of_ble_eq_true rfl) (Nat.le_of_ble_eq_true rfl) ?_
        exact rl_W hx hb hr hlk hS (by rw [hsp_584]; show (-1000000001 - 0 : Int32).toInt64 = (-1000000001 : Int32).toInt64; decide) (by rw [hsp_584]; exact DC.mk' rfl hO hDW hcok hW hdj) dX0_write_35
  · refine cv_T (rest := []) hc (D_numAt_a l hDW hI hZ hF.1 c1) q956 q958 qs26 q67 q959 nd_X0_numberAt ⟨Nat.le_of_ble_eq_true rfl, Nat.le_of_ble_eq_true rfl⟩ (DW.recv hK hDW) rfl hl.1 rfl (Nat.le_of_ble_eq_true rfl) dX0_write_3 ⟨Nat.le_of_ble_eq_true rfl, Nat.le_of_ble_eq_true rfl⟩ hS (fun q h => hAb q (Nat.le_trans hS.1 h)) (fun ex H locs hq hS hz hk1 => ?_)
    obtain ⟨hexn, hex, hsz⟩ := hq
    have hne : ex ≠ ad 3 := by have := hDW.lt (r := 3) (fun z => by cases z); omega
    have hDW := hDW.aftM hk1
    have hW := hW.aftM hk1
    refine ct_find (pre := []) (post := []) (y := ⟨0, 25, 26, 1⟩) hc htab (by decide) (by decide) rfl hex ?_
    refine lv_astore (lv' := [(5, .ref ex), (0, .ref (ad 0)), (1, .int x), (2, .int i), (3, .long v)]) hx hb dX0_write_26 hl (by decide) rfl (fun ls hl => ?_)
    refine lv_aload_n hx hb dX0_write_28 rfl (lv_at hl 1 rfl) ?_
    refine lv_aload hx hb dX0_write_29 (lv_at hl 0 rfl) ?_
    refine cv_W1 (rest := []) hc (D_X0finds l hDW hex hne (k := 0) rfl (by decide)) (lw_V q277 q279 qs1 q67 q280) nd_X0_finds ⟨Nat.le_of_ble_eq_true rfl, Nat.le_of_ble_eq_true rfl⟩ (DW.recv hK hDW) rfl hl.1 rfl (Nat.le_of_ble_eq_true rfl) dX0_write_31 ⟨Nat.le_of_ble_eq_true rfl, Nat.le_of_ble_eq_true rfl⟩ hS (fun _ h => h) (fun H locs hq hS hz hk1 => ?_)
    obtain ⟨hDW, hf3⟩ := hq
    have hW := hW.aftD (hdj 3 (Or.inl (by decide))) (hDW.1 _ (hDW.mem (r := 3) rfl)) hf3
    refine lv_i2l hx hb dX0_write_34 rfl ?_
    have hsp_585 : writeM f g x i v = ((-1000000001 : Int32).toInt64, cntP f 0, g) := by unfold writeM; rw [if_neg c1]
    refine w_more (cells' := 100) (slots' := 1000) (Nat.le_of_ble_eq_true rfl) (Nat.le_of_ble_eq_true rfl) ?_
    exact rl_W hx hb hr hlk hS (by rw [hsp_585]; show (-1000000001 - 0 : Int32).toInt64 = (-1000000001 : Int32).toInt64; decide) (by rw [hsp_585]; exact DC.mk' rfl hO hDW hcok hW hdj) dX0_write_35
theorem ly_a {s : Nat → Int32} {c : Nat → Int64} {i : Nat} (h : (0 : Int32).toInt64 ≤ c i ∧ c i ≤ (99 : Int32).toInt64) : lyN s c (i + 1) = (upd (lyN s c i).1 (gp i 3) (c i).toInt32, (lyN s c i).2 + 1) := by simp only [lyN]; rw [if_pos h]
theorem ly_b {s : Nat → Int32} {c : Nat → Int64} {i : Nat} (h : ¬ ((0 : Int32).toInt64 ≤ c i ∧ c i ≤ (99 : Int32).toInt64)) : lyN s c (i + 1) = lyN s c i := by simp only [lyN]; rw [if_neg h]
theorem w99 {x : Int64} (h : (0 : Int32).toInt64 ≤ x ∧ x ≤ (99 : Int32).toInt64) : ∃ w, w < 100 ∧ x.toInt32 = nI w := by
  obtain ⟨h1, h2⟩ := h
  rw [Int64.le_iff_toInt_le, Int32.toInt_toInt64] at h1 h2
  have e0 : (0 : Int32).toInt = 0 := by decide
  have e9 : (99 : Int32).toInt = 99 := by decide
  rw [e0] at h1
  rw [e9] at h2
  refine ⟨x.toInt.toNat, by omega, ?_⟩
  apply Int32.toInt_inj.mp
  rw [nI_toInt (by omega), Int64.toInt_toInt32]
  rw [Int.bmod_eq_of_le (by omega) (by omega)]
  omega
theorem OkN_ly {s : Nat → Int32} {R N : Nat} {c : Nat → Int64} (hO : OkN s R N) : ∀ n, OkN (lyN s c n).1 R N
  | 0 => hO
  | n + 1 => by
    by_cases h : (0 : Int32).toInt64 ≤ c n ∧ c n ≤ (99 : Int32).toInt64
    · rw [ly_a h]
      obtain ⟨w, hw, e⟩ := w99 h
      show OkN (upd (lyN s c n).1 (gp n 3) (c n).toInt32) R N
      rw [e]
      exact OkN_width (OkN_ly hO n) hw
    · rw [ly_b h]
      exact OkN_ly hO n
theorem mn_nat {N n : Nat} (hN : N ≤ 20) (hn : n ≤ 40) : (mnP (nI N) (nI n)).toNatClampNeg = (if N ≤ n then N else n) := by
  rw [mnP_nat (by omega) (by omega)]
  exact nI_clamp (by split <;> omega)
theorem nd_X0_lays : yX0_lays.cls = "SmokeLeans" ∧ yX0_lays.cls ≠ "java/lang/invoke/MethodHandle" ∧ yX0_lays.cls ≠ "java/lang/invoke/VarHandle" ∧ (parseMethodDescriptor yX0_lays.desc).map (fun d => d.parameters.length) = some 1 := by decide +kernel
set_option maxHeartbeats 4000000 in
theorem O_lays (l : Launch) {G : GD} {A : Nat → Prop} {f : Nat → Nat → Int32} {g : Nat → Nat → Int64} {xo hk ht : Nat} {H0 : Heap} (hF : FG G) (hC : DC G A f g xo hk ht H0) (hAb : ∀ q, H0.size ≤ q → A q) (hI : IG G) (hZ : ZO f g) (x : Int32) : MetH l G yX0_lays cX0_lays 5 (some .int) [((0), (91), (92), (1))] 6 100 1000 A [.ref xo, .int x] H0 (some (.int (laysM f g x).1)) (fun H => DC G A (laysM f g x).2.1 (laysM f g x).2.2 xo hk ht H) := by
  refine mw_of (hh := [((0), (91), (92), (1))]) (by decide) (Nat.le_of_ble_eq_true rfl) ?_
  intro p e s m below meth c hx hb hr hc hlk hnm htab hs0 ls hl
  subst hs0
  have hown := hc.2.2.2.1
  have hts := hc.2.2.2.2.1
  have hK := hc.2.2.2.2.2
  obtain ⟨b, ad, ah, ga, N, R, rfl, hO, hDW, ⟨u, hv, hcok, hW⟩, hdj⟩ := hC
  have hl : lv_has ls 5 [(0, .ref (ad 0)), (1, .int x)] := hl
  have hS : va_S A s.heap s.heap [] := va_S.rf
  have hN20 := hO.2.1
  have hHA : ∀ q, HR N ah ga q → A q := fun q h => HR.mem hW h
  refine lv_iload_n hx hb dX0_lays_0 rfl (lv_at hl 1 rfl) ?_
  by_cases c_586 : 0 ≤ x ∧ x ≤ 3
  · refine cs_R0 (rest := []) hc (D_sheetAt_ok l c_586) (lw_S q836 q837 q67 q838) nd_X0_sheetAt ⟨Nat.le_of_ble_eq_true rfl, Nat.le_of_ble_eq_true rfl⟩ rfl hl.1 rfl (Nat.le_of_ble_eq_true rfl) dX0_lays_1 ⟨Nat.le_of_ble_eq_true rfl, Nat.le_of_ble_eq_true rfl⟩ ?_
    obtain ⟨k, k3, rfl⟩ := ex_le 3 (hi := 3) rfl (by decide) c_586.1 c_586.2
    have k4 : k < 4 := by omega
    have hcl_k : (nI k).toNatClampNeg = k := nI_clamp (by omega)
    obtain ⟨nk, n40k, nkk⟩ := (hZ k k4).2.1
    have hnk : (f 20 k).toNatClampNeg = nk := by rw [nkk]; exact nI_clamp (by omega)
    refine lv_aload_n hx hb dX0_lays_4 rfl (lv_at hl 0 rfl) ?_
    refine lv_iload_n hx hb dX0_lays_5 rfl (lv_at hl 1 rfl) ?_
    by_cases c_587 : f 19 k = 0
    · refine cv_T (rest := []) hc (D_there_no l hDW k4 hF.1 c_587) q839 q841 qs19 q67 q842 nd_X0_there ⟨Nat.le_of_ble_eq_true rfl, Nat.le_of_ble_eq_true rfl⟩ (DW.recv hK hDW) rfl hl.1 rfl (Nat.le_of_ble_eq_true rfl) dX0_lays_6 ⟨Nat.le_of_ble_eq_true rfl, Nat.le_of_ble_eq_true rfl⟩ hS (fun q h => hAb q (Nat.le_trans hS.1 h)) (fun ex H locs hq hS hz hk1 => ?_)
      obtain ⟨hexn, hex, hsz⟩ := hq
      have hne : ex ≠ ad 3 := by have := hDW.lt (r := 3) (fun z => by cases z); omega
      have hDW := hDW.aftM hk1
      have hW := hW.aftM hk1
      refine ct_find (pre := []) (post := []) (y := ⟨0, 91, 92, 1⟩) hc htab (by decide) (by decide) rfl hex ?_
      refine lv_astore_n (lv' := [(2, .ref ex), (0, .ref (ad 0)), (1, .int (nI k))]) hx hb dX0_lays_92 rfl hl (by decide) rfl (fun ls hl => ?_)
      refine lv_aload_n hx hb dX0_lays_93 rfl (lv_at hl 1 rfl) ?_
      refine lv_aload_n hx hb dX0_lays_94 rfl (lv_at hl 0 rfl) ?_
      refine cv_W1 (rest := []) hc (D_X0finds l hDW hex hne (k := 5) rfl (by decide)) (lw_V q277 q279 qs1 q67 q280) nd_X0_finds ⟨Nat.le_of_ble_eq_true rfl, Nat.le_of_ble_eq_true rfl⟩ (DW.recv hK hDW) rfl hl.1 rfl (Nat.le_of_ble_eq_true rfl) dX0_lays_95 ⟨Nat.le_of_ble_eq_true rfl, Nat.le_of_ble_eq_true rfl⟩ hS (fun _ h => h) (fun H locs hq hS hz hk1 => ?_)
      obtain ⟨hDW, hf3⟩ := hq
      have hW := hW.aftD (hdj 3 (Or.inl (by decide))) (hDW.1 _ (hDW.mem (r := 3) rfl)) hf3
      have hsp_588 : laysM f g (nI k) = (-1000000006, cntP f 5, g) := by unfold laysM; rw [if_pos c_586, hcl_k, if_pos c_587]
      refine w_more (cells' := 100) (slots' := 1000) (Nat.le_of_ble_eq_true rfl) (Nat.le_of_ble_eq_true rfl) ?_
      exact ri_W hx hb hr hlk hS (by rw [hsp_588]; show (-1000000001 - 5 : Int32) = -1000000006; decide) (by rw [hsp_588]; exact DC.mk' rfl hO hDW hcok hW hdj) dX0_lays_98
    · refine cv_R1 (rest := []) hc (D_there_ok l hDW k4 c_587) (lw_V q839 q841 qs19 q67 q842) nd_X0_there ⟨Nat.le_of_ble_eq_true rfl, Nat.le_of_ble_eq_true rfl⟩ (DW.recv hK hDW) rfl hl.1 rfl (Nat.le_of_ble_eq_true rfl) dX0_lays_6 ⟨Nat.le_of_ble_eq_true rfl, Nat.le_of_ble_eq_true rfl⟩ ?_
      have hzk : bitsOk (f 19 k) := (hZ k k4).1.resolve_left c_587
      refine lv_astore_n (lv' := [(2, .ref (ad (20 + k))), (0, .ref (ad 0)), (1, .int (nI k))]) hx hb dX0_lays_9 rfl hl (by decide) rfl (fun ls hl => ?_)
      refine lv_iconst (v := 0) hx hb dX0_lays_10 (by decide) ?_
      refine lv_istore_n (lv' := [(3, .int 0), (2, .ref (ad (20 + k))), (0, .ref (ad 0)), (1, .int (nI k))]) hx hb dX0_lays_11 rfl hl (by decide) rfl (fun ls hl => ?_)
      refine lv_iconst (v := 0) hx hb dX0_lays_12 (by decide) ?_
      refine lv_istore (lv' := [(4, .int 0), (3, .int 0), (2, .ref (ad (20 + k))), (0, .ref (ad 0)), (1, .int (nI k))]) hx hb dX0_lays_13 hl (by decide) rfl (fun ls hl => ?_)
      have hM : (mnP (f 0 1) (f 20 k)).toNatClampNeg = if N ≤ nk then N else nk := by rw [hO.2.2.2.1, nkk]; exact mn_nat hN20 n40k
      obtain ⟨M, hMe⟩ : ∃ M, M = if N ≤ nk then N else nk := ⟨_, rfl⟩
      have hMN : M ≤ N ∧ M ≤ nk ∧ (M = N ∨ M = nk) := by rw [hMe]; split <;> omega
      rw [← hMe] at hM
      refine w_loopH (σ := Nat) (fun i H locs cells slots fr => cells = 0 ∧ slots = 0 ∧ (∃ ls, fr = F0 m 15 ls [] ∧ lv_has ls 5 [(4, .int (nI i)), (3, .int ((lyN (f 0) (fun j => g 21 (40 * k + j)) i).2)), (2, .ref (ad (20 + k))), (1, .int (nI k)), (0, .ref (ad 0))]) ∧ va_S A s.heap H locs ∧ (i ≤ M ∧ ∃ u hv, HW G A N (lyN (f 0) (fun j => g 21 (40 * k + j)) i).1 u hv ah ga H ∧ DW G A f g b (ah 0) hk ht ad H)) (fun i => M - i) 0 ⟨rfl, rfl, ⟨ls, rfl, lv_sub hl [0, 1, 2, 4, 3] rfl⟩, hS, ⟨Nat.zero_le _, u, hv, hW, hDW⟩⟩ ?_
      intro i H locs cells slots fr hI ih
      obtain ⟨rfl, rfl, ⟨ls, rfl, hl⟩, hS, ⟨hiM, u, hv, hW, hDW⟩⟩ := hI
      have hOi := OkN_ly (c := (fun j => g 21 (40 * k + j))) hO i
      by_cases hi : i < M
      · have hin : i < nk := by omega
        have hiN : i < N := by omega
        refine lv_iload hx hb dX0_lays_15 (lv_at hl 0 rfl) ?_
        refine lv_aload_n hx hb dX0_lays_17 rfl (lv_at hl 2 rfl) ?_
        refine cs_R1 (rest := [.int (nI i)]) hc (D_length l hI hzk (hDW.sh k4 hzk)) (lw_S q843 q844 q67 q845) nd_X0_length ⟨Nat.le_of_ble_eq_true rfl, Nat.le_of_ble_eq_true rfl⟩ rfl hl.1 rfl (Nat.le_of_ble_eq_true rfl) dX0_lays_18 ⟨Nat.le_of_ble_eq_true rfl, Nat.le_of_ble_eq_true rfl⟩ (sm_topi (v := nI nk) (by rw [hnk]) ?_)
        refine lv_icmp_ge (tgt := 83) hx hb dX0_lays_21 (by decide) (fun h => absurd h (nI_ge (show i < nk by omega) (by omega))) (fun _ => ?_)
        refine lv_iload hx hb dX0_lays_24 (lv_at hl 0 rfl) ?_
        refine lv_aload_n hx hb dX0_lays_26 rfl (lv_at hl 4 rfl) ?_
        refine d_get hc hDW 0 (by decide) q161 rfl rfl dX0_lays_27 ?_
        refine h_get hc hW 1 (by decide) rfl q124 rfl rfl dX0_lays_30 ?_
        refine sm_topi (v := nI N) hOi.2.2.2.1 ?_
        refine lv_icmp_ge (tgt := 83) hx hb dX0_lays_33 (by decide) (fun h => absurd h (nI_ge (show i < N by omega) (by omega))) (fun _ => ?_)
        refine lv_aload_n hx hb dX0_lays_36 rfl (lv_at hl 2 rfl) ?_
        refine lv_iload hx hb dX0_lays_37 (lv_at hl 0 rfl) ?_
        refine cs_R1 (rest := []) hc (D_get l hI hzk (hDW.sh k4 hzk) (x := (nI i)) (j := i) (ix_nI (by rw [hnk]; exact hin) (by rw [hnk]; omega)) ((hZ k k4).2.2 i (by rw [hnk]; exact hin))) (lw_S q936 q937 q67 q938) nd_X0_get ⟨Nat.le_of_ble_eq_true rfl, Nat.le_of_ble_eq_true rfl⟩ rfl hl.1 rfl (Nat.le_of_ble_eq_true rfl) dX0_lays_39 ⟨Nat.le_of_ble_eq_true rfl, Nat.le_of_ble_eq_true rfl⟩ (sm_topl (v := g 21 (40 * k + i)) rfl ?_)
        refine lv_lconst (v := (0 : Int32).toInt64) hx hb dX0_lays_42 (by decide) ?_
        refine lv_ldc2 (v := 99) hx hb hown (hts _ q293) dX0_lays_43 (sm_topl (v := (99 : Int32).toInt64) (by decide) ?_)
        refine cs_R1 (rest := []) hc (D_in l (g 21 (40 * k + i)) ((0 : Int32).toInt64) ((99 : Int32).toInt64)) (lw_S q294 q295 q67 q296) nd_X0_in ⟨Nat.le_of_ble_eq_true rfl, Nat.le_of_ble_eq_true rfl⟩ rfl hl.1 rfl (Nat.le_of_ble_eq_true rfl) dX0_lays_46 ⟨Nat.le_of_ble_eq_true rfl, Nat.le_of_ble_eq_true rfl⟩ ?_
        refine bi_ne (tgt := 55) hx hb dX0_lays_49 (by decide) (fun c_589 => ?_) (fun c_589 => ?_)
        · refine lv_aload_n hx hb dX0_lays_55 rfl (lv_at hl 4 rfl) ?_
          refine d_get hc hDW 0 (by decide) q161 rfl rfl dX0_lays_56 ?_
          refine lv_iload hx hb dX0_lays_59 (lv_at hl 0 rfl) ?_
          refine cv_R1 (rest := []) hc (D_hgap l hF hW hOi i hiN) (lw_V q428 q429 q430 q68 q431) nd_X1_gap ⟨Nat.le_of_ble_eq_true rfl, Nat.le_of_ble_eq_true rfl⟩ (HW.recv hK hW) rfl hl.1 rfl (Nat.le_of_ble_eq_true rfl) dX0_lays_61 ⟨Nat.le_of_ble_eq_true rfl, Nat.le_of_ble_eq_true rfl⟩ ?_
          refine lv_aload_n hx hb dX0_lays_64 rfl (lv_at hl 2 rfl) ?_
          refine lv_iload hx hb dX0_lays_65 (lv_at hl 0 rfl) ?_
          refine cs_R1 (rest := [.ref (ga i)]) hc (D_get l hI hzk (hDW.sh k4 hzk) (x := (nI i)) (j := i) (ix_nI (by rw [hnk]; exact hin) (by rw [hnk]; omega)) ((hZ k k4).2.2 i (by rw [hnk]; exact hin))) (lw_S q936 q937 q67 q938) nd_X0_get ⟨Nat.le_of_ble_eq_true rfl, Nat.le_of_ble_eq_true rfl⟩ rfl hl.1 rfl (Nat.le_of_ble_eq_true rfl) dX0_lays_67 ⟨Nat.le_of_ble_eq_true rfl, Nat.le_of_ble_eq_true rfl⟩ (sm_topl (v := g 21 (40 * k + i)) rfl ?_)
          refine lv_l2i hx hb dX0_lays_70 rfl ?_
          refine h_gput hc hW hS hiN (hOi.gap hiN).kd.1 2 3 (by decide) (by decide) gfs_2 q320 rfl rfl rfl rfl dX0_lays_71 (fun H locs hW hS hz oq => ?_)
          have hDW := hDW.aftH hdj hHA (HR.g hiN) oq
          refine lv_iinc (v := ((lyN (f 0) (fun j => g 21 (40 * k + j)) i).2) + 1) (lv' := [(3, .int (((lyN (f 0) (fun j => g 21 (40 * k + j)) i).2) + 1)), (4, .int (nI i)), (2, .ref (ad (20 + k))), (1, .int (nI k)), (0, .ref (ad 0))]) hx hb dX0_lays_74 hl (k := 1) rfl rfl (by decide) rfl (fun ls hl => ?_)
          refine lv_iinc (v := nI (i + 1)) (lv' := [(4, .int (nI (i + 1))), (3, .int (((lyN (f 0) (fun j => g 21 (40 * k + j)) i).2) + 1)), (2, .ref (ad (20 + k))), (1, .int (nI k)), (0, .ref (ad 0))]) hx hb dX0_lays_77 hl (k := 1) rfl (nI_1 _) (by decide) rfl (fun ls hl => ?_)
          refine lv_goto (tgt := 15) hx hb dX0_lays_80 (by decide) ?_
          refine ih (i + 1) _ _ _ _ _ ⟨rfl, rfl, ⟨ls, rfl, ?_⟩, hS, hi, u, hv, ?_, hDW⟩ (by omega)
          · rw [ly_a (c := (fun j => g 21 (40 * k + j))) c_589]
            exact lv_sub hl [0, 1, 2, 3, 4] rfl
          · rw [ly_a (c := (fun j => g 21 (40 * k + j))) c_589]
            exact hW
        · refine lv_goto (tgt := 77) hx hb dX0_lays_52 (by decide) ?_
          refine lv_iinc (v := nI (i + 1)) (lv' := [(4, .int (nI (i + 1))), (3, .int ((lyN (f 0) (fun j => g 21 (40 * k + j)) i).2)), (2, .ref (ad (20 + k))), (1, .int (nI k)), (0, .ref (ad 0))]) hx hb dX0_lays_77 hl (k := 0) rfl (nI_1 _) (by decide) rfl (fun ls hl => ?_)
          refine lv_goto (tgt := 15) hx hb dX0_lays_80 (by decide) ?_
          refine ih (i + 1) _ _ _ _ _ ⟨rfl, rfl, ⟨ls, rfl, ?_⟩, hS, hi, u, hv, ?_, hDW⟩ (by omega)
          · rw [ly_b (c := (fun j => g 21 (40 * k + j))) c_589]
            exact lv_sub hl [0, 1, 2, 3, 4] rfl
          · rw [ly_b (c := (fun j => g 21 (40 * k + j))) c_589]
            exact hW
      · have hiE : M = i := by omega
        subst hiE
        by_cases hMn : M < nk
        · refine lv_iload hx hb dX0_lays_15 (lv_at hl 0 rfl) ?_
          refine lv_aload_n hx hb dX0_lays_17 rfl (lv_at hl 2 rfl) ?_
          refine cs_R1 (rest := [.int (nI M)]) hc (D_length l hI hzk (hDW.sh k4 hzk)) (lw_S q843 q844 q67 q845) nd_X0_length ⟨Nat.le_of_ble_eq_true rfl, Nat.le_of_ble_eq_true rfl⟩ rfl hl.1 rfl (Nat.le_of_ble_eq_true rfl) dX0_lays_18 ⟨Nat.le_of_ble_eq_true rfl, Nat.le_of_ble_eq_true rfl⟩ (sm_topi (v := nI nk) (by rw [hnk]) ?_)
          refine lv_icmp_ge (tgt := 83) hx hb dX0_lays_21 (by decide) (fun h => absurd h (nI_ge hMn (by omega))) (fun _ => ?_)
          refine lv_iload hx hb dX0_lays_24 (lv_at hl 0 rfl) ?_
          refine lv_aload_n hx hb dX0_lays_26 rfl (lv_at hl 4 rfl) ?_
          refine d_get hc hDW 0 (by decide) q161 rfl rfl dX0_lays_27 ?_
          refine h_get hc hW 1 (by decide) rfl q124 rfl rfl dX0_lays_30 ?_
          refine sm_topi (v := nI N) hOi.2.2.2.1 ?_
          refine lv_icmp_ge (tgt := 83) hx hb dX0_lays_33 (by decide) (fun _ => ?_) (fun h => absurd (nI_le (by omega) (by omega)) h)
          refine lv_aload_n hx hb dX0_lays_83 rfl (lv_at hl 4 rfl) ?_
          refine d_get hc hDW 0 (by decide) q161 rfl rfl dX0_lays_84 ?_
          refine cv_W0 (rest := []) hc (D_changes l hF hW.toR hOi) (lw_V q273 q274 q275 q68 q276) nd_X1_changes ⟨Nat.le_of_ble_eq_true rfl, Nat.le_of_ble_eq_true rfl⟩ (HW.recv hK hW) rfl hl.1 rfl (Nat.le_of_ble_eq_true rfl) dX0_lays_87 ⟨Nat.le_of_ble_eq_true rfl, Nat.le_of_ble_eq_true rfl⟩ hS hHA (fun H locs hq hS hz hk1 => ?_)
          have hDW := hDW.aftC hdj hHA hk1
          obtain ⟨u, hv, hcok, hW⟩ := HS.ofR (HS.ch hq) hW.1 hHA
          refine lv_iload_n hx hb dX0_lays_90 rfl (lv_at hl 1 rfl) ?_
          have hsp_590 : laysM f g (nI k) = ((lyN (f 0) (fun j => g 21 (40 * k + j)) M).2, upA f 0 (lyN (f 0) (fun j => g 21 (40 * k + j)) M).1, g) := by unfold laysM; rw [if_pos c_586, hcl_k, if_neg c_587, hM]
          refine w_more (cells' := 100) (slots' := 1000) (Nat.le_of_ble_eq_true rfl) (Nat.le_of_ble_eq_true rfl) ?_
          exact ri_W hx hb hr hlk hS (by rw [hsp_590]) (by rw [hsp_590]; exact DC.mk' (show upA f 0 (lyN (f 0) (fun j => g 21 (40 * k + j)) M).1 0 = _ from if_pos rfl) hOi (hDW.fr rfl rfl rfl rfl rfl rfl) hcok hW hdj) dX0_lays_91
        · refine lv_iload hx hb dX0_lays_15 (lv_at hl 0 rfl) ?_
          refine lv_aload_n hx hb dX0_lays_17 rfl (lv_at hl 2 rfl) ?_
          refine cs_R1 (rest := [.int (nI M)]) hc (D_length l hI hzk (hDW.sh k4 hzk)) (lw_S q843 q844 q67 q845) nd_X0_length ⟨Nat.le_of_ble_eq_true rfl, Nat.le_of_ble_eq_true rfl⟩ rfl hl.1 rfl (Nat.le_of_ble_eq_true rfl) dX0_lays_18 ⟨Nat.le_of_ble_eq_true rfl, Nat.le_of_ble_eq_true rfl⟩ (sm_topi (v := nI nk) (by rw [hnk]) ?_)
          refine lv_icmp_ge (tgt := 83) hx hb dX0_lays_21 (by decide) (fun _ => ?_) (fun h => absurd (nI_le (by omega) (by omega)) h)
          refine lv_aload_n hx hb dX0_lays_83 rfl (lv_at hl 4 rfl) ?_
          refine d_get hc hDW 0 (by decide) q161 rfl rfl dX0_lays_84 ?_
          refine cv_W0 (rest := []) hc (D_changes l hF hW.toR hOi) (lw_V q273 q274 q275 q68 q276) nd_X1_changes ⟨Nat.le_of_ble_eq_true rfl, Nat.le_of_ble_eq_true rfl⟩ (HW.recv hK hW) rfl hl.1 rfl (Nat.le_of_ble_eq_true rfl) dX0_lays_87 ⟨Nat.le_of_ble_eq_true rfl, Nat.le_of_ble_eq_true rfl⟩ hS hHA (fun H locs hq hS hz hk1 => ?_)
          have hDW := hDW.aftC hdj hHA hk1
          obtain ⟨u, hv, hcok, hW⟩ := HS.ofR (HS.ch hq) hW.1 hHA
          refine lv_iload_n hx hb dX0_lays_90 rfl (lv_at hl 1 rfl) ?_
          have hsp_591 : laysM f g (nI k) = ((lyN (f 0) (fun j => g 21 (40 * k + j)) M).2, upA f 0 (lyN (f 0) (fun j => g 21 (40 * k + j)) M).1, g) := by unfold laysM; rw [if_pos c_586, hcl_k, if_neg c_587, hM]
          refine w_more (cells' := 100) (slots' := 1000) (Nat.le_of_ble_eq_true rfl) (Nat.le_of_ble_eq_true rfl) ?_
          exact ri_W hx hb hr hlk hS (by rw [hsp_591]) (by rw [hsp_591]; exact DC.mk' (show upA f 0 (lyN (f 0) (fun j => g 21 (40 * k + j)) M).1 0 = _ from if_pos rfl) hOi (hDW.fr rfl rfl rfl rfl rfl rfl) hcok hW hdj) dX0_lays_91
  · refine cs_T (rest := []) hc (D_sheetAt_no l hF.1 hDW.2.1 hDW.gle c_586) q836 q837 q67 q838 nd_X0_sheetAt ⟨Nat.le_of_ble_eq_true rfl, Nat.le_of_ble_eq_true rfl⟩ rfl hl.1 rfl (Nat.le_of_ble_eq_true rfl) dX0_lays_1 ⟨Nat.le_of_ble_eq_true rfl, Nat.le_of_ble_eq_true rfl⟩ hS (fun q h => hAb q (Nat.le_trans hS.1 h)) (fun ex H locs hq hS hz hk1 => ?_)
    obtain ⟨hexn, hex, hsz⟩ := hq
    have hne : ex ≠ ad 3 := by have := hDW.lt (r := 3) (fun z => by cases z); omega
    have hDW := hDW.aftM hk1
    have hW := hW.aftM hk1
    refine ct_find (pre := []) (post := []) (y := ⟨0, 91, 92, 1⟩) hc htab (by decide) (by decide) rfl hex ?_
    refine lv_astore_n (lv' := [(2, .ref ex), (0, .ref (ad 0)), (1, .int x)]) hx hb dX0_lays_92 rfl hl (by decide) rfl (fun ls hl => ?_)
    refine lv_aload_n hx hb dX0_lays_93 rfl (lv_at hl 1 rfl) ?_
    refine lv_aload_n hx hb dX0_lays_94 rfl (lv_at hl 0 rfl) ?_
    refine cv_W1 (rest := []) hc (D_X0finds l hDW hex hne (k := 0) rfl (by decide)) (lw_V q277 q279 qs1 q67 q280) nd_X0_finds ⟨Nat.le_of_ble_eq_true rfl, Nat.le_of_ble_eq_true rfl⟩ (DW.recv hK hDW) rfl hl.1 rfl (Nat.le_of_ble_eq_true rfl) dX0_lays_95 ⟨Nat.le_of_ble_eq_true rfl, Nat.le_of_ble_eq_true rfl⟩ hS (fun _ h => h) (fun H locs hq hS hz hk1 => ?_)
    obtain ⟨hDW, hf3⟩ := hq
    have hW := hW.aftD (hdj 3 (Or.inl (by decide))) (hDW.1 _ (hDW.mem (r := 3) rfl)) hf3
    have hsp_592 : laysM f g x = (-1000000001, cntP f 0, g) := by unfold laysM; rw [if_neg c_586]
    refine w_more (cells' := 100) (slots' := 1000) (Nat.le_of_ble_eq_true rfl) (Nat.le_of_ble_eq_true rfl) ?_
    exact ri_W hx hb hr hlk hS (by rw [hsp_592]; show (-1000000001 - 0 : Int32) = -1000000001; decide) (by rw [hsp_592]; exact DC.mk' rfl hO hDW hcok hW hdj) dX0_lays_98
