/-! the desk, 1: small helpers, findings, the first acts -/
set_option maxRecDepth 100000
section DCM
variable {G : GD} {A : Nat → Prop} {f f' : Nat → Nat → Int32} {g : Nat → Nat → Int64} {b : Nat → Nat → Int32} {hk ht N R : Nat} {ad ah ga : Nat → Nat} {r : Nat → Int32} {u : Nat → Nat → Int32} {hv : Nat → Value} {H : Heap}
theorem DC.mk' (hr : f' 0 = r) (hO : OkN r R N) (hDW : DW G A f' g b (ah 0) hk ht ad H) (hcok : HCok r u) (hW : HW G A N r u hv ah ga H) (hdj : ∀ q, dS (f' 19) q → ¬ HR N ah ga (ad q)) : DC G A f' g (ad 0) hk ht H := by
  subst hr
  exact ⟨b, ad, ah, ga, N, R, rfl, hO, hDW, ⟨u, hv, hcok, hW⟩, hdj⟩
theorem DW.fr {hh : Nat} (h : DW G A f g b hh hk ht ad H) (h3 : f' 3 = f 3) (h4 : f' 4 0 = f 4 0) (h5 : f' 5 = f 5) (h6 : f' 6 0 = f 6 0) (h19 : f' 19 = f 19) (h20 : f' 20 = f 20) : DW G A f' g b hh hk ht ad H :=
  h.cv (fun _ _ => by rw [h3]) h4 (fun _ _ => by rw [h5]) h6 (fun _ _ => by rw [h19]) (fun _ _ => by rw [h20]) (fun _ _ _ _ => rfl) rfl rfl rfl (fun _ _ => rfl) (fun _ _ => rfl)
theorem HW.aftM {H1 : Heap} (h : HW G A N r u hv ah ga H) (hk1 : ∀ q : Nat, q < H.size → ¬ H.size ≤ q → H1[q]? = H[q]?) : HW G A N r u hv ah ga H1 := Wd.aftN h h.gle hk1
theorem DW.aftM {H1 : Heap} {hh : Nat} (h : DW G A f g b hh hk ht ad H) (hk1 : ∀ q : Nat, q < H.size → ¬ H.size ≤ q → H1[q]? = H[q]?) : DW G A f g b hh hk ht ad H1 := Wd.aftN h h.gle hk1
end DCM
theorem nd_X0_isGap : yX0_isGap.cls = "SmokeLeans" ∧ yX0_isGap.cls ≠ "java/lang/invoke/MethodHandle" ∧ yX0_isGap.cls ≠ "java/lang/invoke/VarHandle" ∧ (parseMethodDescriptor yX0_isGap.desc).map (fun d => d.parameters.length) = some 1 := by decide +kernel
set_option maxHeartbeats 4000000 in
theorem D_isGap (l : Launch) {G : GD} {A : Nat → Prop} {f b : Nat → Nat → Int32} {g : Nat → Nat → Int64} {hk ht N : Nat} {ad ah ga : Nat → Nat} {r : Nat → Int32} {u : Nat → Nat → Int32} {hv : Nat → Value} {H0 : Heap} (hDW : DW G A f g b (ah 0) hk ht ad H0) (hW : HW G A N r u hv ah ga H0) (x : Int32) : MetR l G yX0_isGap cX0_isGap 2 (some .boolean) 1 [.ref (ad 0), .int x] H0 (some (.int (b2i (0 ≤ x ∧ x ≤ r 1 - 1)))) := by
  refine mx_of (by decide) (Nat.le_of_ble_eq_true rfl) ?_
  intro p e s m below meth c hx hb hr hc hlk hnm hs0 ls hl
  subst hs0
  have hown := hc.2.2.2.1
  have hts := hc.2.2.2.2.1
  have hK := hc.2.2.2.2.2
  have hl : lv_has ls 2 [(0, .ref (ad 0)), (1, .int x)] := hl
  refine lv_iload_n hx hb dX0_isGap_0 rfl (lv_at hl 1 rfl) ?_
  refine lv_i2l hx hb dX0_isGap_1 rfl ?_
  refine lv_lconst (v := (0 : Int32).toInt64) hx hb dX0_isGap_2 (by decide) ?_
  refine lv_aload_n hx hb dX0_isGap_3 rfl (lv_at hl 0 rfl) ?_
  refine d_get hc hDW 0 (by decide) q161 rfl rfl dX0_isGap_4 ?_
  refine h_get hc hW 1 (by decide) rfl q124 rfl rfl dX0_isGap_7 ?_
  refine lv_iconst (v := 1) hx hb dX0_isGap_10 (by decide) ?_
  refine lv_isub hx hb dX0_isGap_11 ?_
  refine lv_i2l hx hb dX0_isGap_12 rfl ?_
  refine cs_R1 (rest := []) hc (D_in32 l x 0 ((r 1) - 1)) (lw_S q294 q295 q67 q296) nd_X0_in ⟨Nat.le_of_ble_eq_true rfl, Nat.le_of_ble_eq_true rfl⟩ rfl hl.1 rfl (Nat.le_of_ble_eq_true rfl) dX0_isGap_13 ⟨Nat.le_of_ble_eq_true rfl, Nat.le_of_ble_eq_true rfl⟩ ?_
  exact rz_R hx hb hr hlk (rfl) dX0_isGap_16
theorem nd_X0_isRoom : yX0_isRoom.cls = "SmokeLeans" ∧ yX0_isRoom.cls ≠ "java/lang/invoke/MethodHandle" ∧ yX0_isRoom.cls ≠ "java/lang/invoke/VarHandle" ∧ (parseMethodDescriptor yX0_isRoom.desc).map (fun d => d.parameters.length) = some 1 := by decide +kernel
set_option maxHeartbeats 4000000 in
theorem D_isRoom (l : Launch) {G : GD} {A : Nat → Prop} {f b : Nat → Nat → Int32} {g : Nat → Nat → Int64} {hk ht N : Nat} {ad ah ga : Nat → Nat} {r : Nat → Int32} {u : Nat → Nat → Int32} {hv : Nat → Value} {H0 : Heap} (hDW : DW G A f g b (ah 0) hk ht ad H0) (hW : HW G A N r u hv ah ga H0) (x : Int32) : MetR l G yX0_isRoom cX0_isRoom 2 (some .boolean) 1 [.ref (ad 0), .int x] H0 (some (.int (b2i (0 ≤ x ∧ x ≤ r 0 - 1)))) := by
  refine mx_of (by decide) (Nat.le_of_ble_eq_true rfl) ?_
  intro p e s m below meth c hx hb hr hc hlk hnm hs0 ls hl
  subst hs0
  have hown := hc.2.2.2.1
  have hts := hc.2.2.2.2.1
  have hK := hc.2.2.2.2.2
  have hl : lv_has ls 2 [(0, .ref (ad 0)), (1, .int x)] := hl
  refine lv_iload_n hx hb dX0_isRoom_0 rfl (lv_at hl 1 rfl) ?_
  refine lv_i2l hx hb dX0_isRoom_1 rfl ?_
  refine lv_lconst (v := (0 : Int32).toInt64) hx hb dX0_isRoom_2 (by decide) ?_
  refine lv_aload_n hx hb dX0_isRoom_3 rfl (lv_at hl 0 rfl) ?_
  refine d_get hc hDW 0 (by decide) q161 rfl rfl dX0_isRoom_4 ?_
  refine h_get hc hW 0 (by decide) rfl q121 rfl rfl dX0_isRoom_7 ?_
  refine lv_iconst (v := 1) hx hb dX0_isRoom_10 (by decide) ?_
  refine lv_isub hx hb dX0_isRoom_11 ?_
  refine lv_i2l hx hb dX0_isRoom_12 rfl ?_
  refine cs_R1 (rest := []) hc (D_in32 l x 0 ((r 0) - 1)) (lw_S q294 q295 q67 q296) nd_X0_in ⟨Nat.le_of_ble_eq_true rfl, Nat.le_of_ble_eq_true rfl⟩ rfl hl.1 rfl (Nat.le_of_ble_eq_true rfl) dX0_isRoom_13 ⟨Nat.le_of_ble_eq_true rfl, Nat.le_of_ble_eq_true rfl⟩ ?_
  exact rz_R hx hb hr hlk (rfl) dX0_isRoom_16
theorem nd_X0_isWide : yX0_isWide.cls ≠ "java/lang/invoke/MethodHandle" ∧ yX0_isWide.cls ≠ "java/lang/invoke/VarHandle" ∧ (parseMethodDescriptor yX0_isWide.desc).map (fun d => d.parameters.length) = some 1 := by decide +kernel
set_option maxHeartbeats 4000000 in
theorem D_isWide (l : Launch) {G : GD} {H0 : Heap} (x : Int32) : MetR l G yX0_isWide cX0_isWide 1 (some .boolean) 1 [.int x] H0 (some (.int (b2i (0 ≤ x ∧ x ≤ 99)))) := by
  refine mx_of (by decide) (Nat.le_of_ble_eq_true rfl) ?_
  intro p e s m below meth c hx hb hr hc hlk hnm hs0 ls hl
  subst hs0
  have hown := hc.2.2.2.1
  have hts := hc.2.2.2.2.1
  have hK := hc.2.2.2.2.2
  have hl : lv_has ls 1 [(0, .int x)] := hl
  refine lv_iload_n hx hb dX0_isWide_0 rfl (lv_at hl 0 rfl) ?_
  refine lv_i2l hx hb dX0_isWide_1 rfl ?_
  refine lv_lconst (v := (0 : Int32).toInt64) hx hb dX0_isWide_2 (by decide) ?_
  refine lv_ldc2 (v := 99) hx hb hown (hts _ q293) dX0_isWide_3 (sm_topl (v := (99 : Int32).toInt64) (by decide) ?_)
  refine cs_R1 (rest := []) hc (D_in32 l x 0 99) (lw_S q294 q295 q67 q296) nd_X0_in ⟨Nat.le_of_ble_eq_true rfl, Nat.le_of_ble_eq_true rfl⟩ rfl hl.1 rfl (Nat.le_of_ble_eq_true rfl) dX0_isWide_6 ⟨Nat.le_of_ble_eq_true rfl, Nat.le_of_ble_eq_true rfl⟩ ?_
  exact rz_R hx hb hr hlk (rfl) dX0_isWide_9
def ntP (w v : Int32) : Prop := (0 ≤ w ∧ w ≤ 5) ∧ (leastP w ≤ v ∧ v ≤ mostP w)
theorem nd_X0_finds : yX0_finds.cls = "SmokeLeans" ∧ yX0_finds.cls ≠ "java/lang/invoke/MethodHandle" ∧ yX0_finds.cls ≠ "java/lang/invoke/VarHandle" ∧ (parseMethodDescriptor yX0_finds.desc).map (fun d => d.parameters.length) = some 1 := by decide +kernel
set_option maxHeartbeats 4000000 in
theorem D_X0finds (l : Launch) {G : GD} {A : Nat → Prop} {f b : Nat → Nat → Int32} {g : Nat → Nat → Int64} {hh hk ht : Nat} {ad : Nat → Nat} {H0 : Heap} (hDW : DW G A f g b hh hk ht ad H0) {ex k : Nat} {w : Int32} (hex : va_at G.1 vwCl (ex, .inr (4, efs w)) H0) (hne : ex ≠ ad 3) (hkw : w = nI k) (hk7 : k < 7) : MetW l G yX0_finds cX0_finds 2 (some .int) 1 0 0 A [.ref (ad 0), .ref ex] H0 (some (.int (-1000000001 - w))) (fun H => DW G A (cntP f k) g b hh hk ht ad H ∧ ∀ q : Nat, q ≠ ad 3 → H[q]? = H0[q]?) := by
  refine mx_of (by decide) (Nat.le_of_ble_eq_true rfl) ?_
  intro p e s m below meth c hx hb hr hc hlk hnm hs0 ls hl
  subst hs0
  have hown := hc.2.2.2.1
  have hts := hc.2.2.2.2.1
  have hK := hc.2.2.2.2.2
  have hl : lv_has ls 2 [(0, .ref (ad 0)), (1, .ref ex)] := hl
  have hS : va_S A s.heap s.heap [] := va_S.rf
  refine lv_aload_n hx hb dX0_finds_0 rfl (lv_at hl 0 rfl) ?_
  refine d_get hc hDW 7 (by decide) q168 rfl rfl dX0_finds_1 ?_
  refine lv_aload_n hx hb dX0_finds_4 rfl (lv_at hl 1 rfl) ?_
  refine va_get hx hb hts in_X4 hown hK.1 (P1 hex) 0 rfl rfl 6 (by decide) (hts _ q257) (fun x h => h) rfl dX0_finds_5 ?_
  refine lv_dup2_11 hx hb dX0_finds_8 rfl rfl ?_
  refine h_ild hc hDW.fd (ix_eq (k := k) hkw hk7 (by decide)) dX0_finds_9 ?_
  refine lv_iconst (v := 1) hx hb dX0_finds_10 (by decide) ?_
  refine lv_iadd hx hb dX0_finds_11 ?_
  refine d_fst hc hDW hS (ix_eq (k := k) hkw hk7 (by decide)) dX0_finds_12 (fun H locs hDW hS hz oq => ?_)
  refine lv_aload_n hx hb dX0_finds_13 rfl (lv_at hl 1 rfl) ?_
  have hex := hex.kept (oq ex hne)
  refine cv_R1 (rest := []) hc (D_answer l hex) (lw_V q281 q282 q283 q73 q284) nd_X4_answer ⟨Nat.le_of_ble_eq_true rfl, Nat.le_of_ble_eq_true rfl⟩ (o_recv hK hex rfl) rfl hl.1 rfl (Nat.le_of_ble_eq_true rfl) dX0_finds_14 ⟨Nat.le_of_ble_eq_true rfl, Nat.le_of_ble_eq_true rfl⟩ ?_
  exact ri_W hx hb hr hlk hS (rfl) (⟨hDW, oq⟩) dX0_finds_17
theorem nd_X0_width : yX0_width.cls = "SmokeLeans" ∧ yX0_width.cls ≠ "java/lang/invoke/MethodHandle" ∧ yX0_width.cls ≠ "java/lang/invoke/VarHandle" ∧ (parseMethodDescriptor yX0_width.desc).map (fun d => d.parameters.length) = some 2 := by decide +kernel
set_option maxHeartbeats 4000000 in
theorem O_width (l : Launch) {G : GD} {A : Nat → Prop} {f : Nat → Nat → Int32} {g : Nat → Nat → Int64} {xo hk ht : Nat} {H0 : Heap} (hF : FG G) (hC : DC G A f g xo hk ht H0) (hAb : ∀ q, H0.size ≤ q → A q) (x v : Int32) : MetH l G yX0_width cX0_width 4 (some .int) [((0), (56), (57), (1))] 5 100 1000 A [.ref xo, .int x, .int v] H0 (some (.int (widthM f x v).1)) (fun H => DC G A (widthM f x v).2 g xo hk ht H) := by
  refine mw_of (hh := [((0), (56), (57), (1))]) (by decide) (Nat.le_of_ble_eq_true rfl) ?_
  intro p e s m below meth c hx hb hr hc hlk hnm htab hs0 ls hl
  subst hs0
  have hown := hc.2.2.2.1
  have hts := hc.2.2.2.2.1
  have hK := hc.2.2.2.2.2
  obtain ⟨b, ad, ah, ga, N, R, rfl, hO, hDW, ⟨u, hv, hcok, hW⟩, hdj⟩ := hC
  have hl : lv_has ls 4 [(0, .ref (ad 0)), (1, .int x), (2, .int v)] := hl
  have hS : va_S A s.heap s.heap [] := va_S.rf
  have hN20 := hO.2.1
  have hHA : ∀ q, HR N ah ga q → A q := fun q h => HR.mem hW h
  refine lv_aload_n hx hb dX0_width_0 rfl (lv_at hl 0 rfl) ?_
  refine lv_iload_n hx hb dX0_width_1 rfl (lv_at hl 1 rfl) ?_
  refine cv_R1 (rest := []) hc (D_isGap l hDW hW x) (lw_V q423 q425 qs3 q67 q426) nd_X0_isGap ⟨Nat.le_of_ble_eq_true rfl, Nat.le_of_ble_eq_true rfl⟩ (DW.recv hK hDW) rfl hl.1 rfl (Nat.le_of_ble_eq_true rfl) dX0_width_2 ⟨Nat.le_of_ble_eq_true rfl, Nat.le_of_ble_eq_true rfl⟩ ?_
  refine bi_eq (tgt := 19) hx hb dX0_width_5 (by decide) (fun c_427 => ?_) (fun c_427 => ?_)
  · refine lv_iconst (v := 0) hx hb dX0_width_19 (by decide) ?_
    refine lv_iconst (v := 0) hx hb dX0_width_20 (by decide) ?_
    refine cs_T (rest := []) hc (D_need_no l hF.1 hDW.2.1 hDW.gle (x := 0) rfl 0) q207 q208 q67 q209 nd_X0_need ⟨Nat.le_of_ble_eq_true rfl, Nat.le_of_ble_eq_true rfl⟩ rfl hl.1 rfl (Nat.le_of_ble_eq_true rfl) dX0_width_21 ⟨Nat.le_of_ble_eq_true rfl, Nat.le_of_ble_eq_true rfl⟩ hS (fun q h => hAb q (Nat.le_trans hS.1 h)) (fun ex H locs hq hS hz hk1 => ?_)
    obtain ⟨hexn, hex, hsz⟩ := hq
    have hne : ex ≠ ad 3 := by have := hDW.lt (r := 3) (fun z => by cases z); omega
    have hDW := hDW.aftM hk1
    have hW := hW.aftM hk1
    refine ct_find (pre := []) (post := []) (y := ⟨0, 56, 57, 1⟩) hc htab (by decide) (by decide) rfl hex ?_
    refine lv_astore_n (lv' := [(3, .ref ex), (0, .ref (ad 0)), (1, .int x), (2, .int v)]) hx hb dX0_width_57 rfl hl (by decide) rfl (fun ls hl => ?_)
    refine lv_aload_n hx hb dX0_width_58 rfl (lv_at hl 1 rfl) ?_
    refine lv_aload_n hx hb dX0_width_59 rfl (lv_at hl 0 rfl) ?_
    refine cv_W1 (rest := []) hc (D_X0finds l hDW hex hne (k := 0) rfl (by decide)) (lw_V q277 q279 qs1 q67 q280) nd_X0_finds ⟨Nat.le_of_ble_eq_true rfl, Nat.le_of_ble_eq_true rfl⟩ (DW.recv hK hDW) rfl hl.1 rfl (Nat.le_of_ble_eq_true rfl) dX0_width_60 ⟨Nat.le_of_ble_eq_true rfl, Nat.le_of_ble_eq_true rfl⟩ hS (fun _ h => h) (fun H locs hq hS hz hk1 => ?_)
    obtain ⟨hDW, hf3⟩ := hq
    have hW := hW.aftD (hdj 3 (Or.inl (by decide))) (hDW.1 _ (hDW.mem (r := 3) rfl)) hf3
    have hsp_428 : widthM f x v = (-1000000001, cntP f 0) := by simp only [widthM, if_neg c_427]
    refine w_more (cells' := 100) (slots' := 1000) (Nat.le_of_ble_eq_true rfl) (Nat.le_of_ble_eq_true rfl) ?_
    exact ri_W hx hb hr hlk hS (by rw [hsp_428]; show (-1000000001 - 0 : Int32) = -1000000001; decide) (by rw [hsp_428]; exact DC.mk' rfl hO hDW hcok hW hdj) dX0_width_63
  · refine lv_iload_n hx hb dX0_width_8 rfl (lv_at hl 2 rfl) ?_
    refine cs_R1 (rest := []) hc (D_isWide l v) (lw_S q290 q291 q67 q292) nd_X0_isWide ⟨Nat.le_of_ble_eq_true rfl, Nat.le_of_ble_eq_true rfl⟩ rfl hl.1 rfl (Nat.le_of_ble_eq_true rfl) dX0_width_9 ⟨Nat.le_of_ble_eq_true rfl, Nat.le_of_ble_eq_true rfl⟩ ?_
    refine bi_eq (tgt := 19) hx hb dX0_width_12 (by decide) (fun c_429 => ?_) (fun c_429 => ?_)
    · refine lv_iconst (v := 0) hx hb dX0_width_19 (by decide) ?_
      refine lv_iconst (v := 0) hx hb dX0_width_20 (by decide) ?_
      refine cs_T (rest := []) hc (D_need_no l hF.1 hDW.2.1 hDW.gle (x := 0) rfl 0) q207 q208 q67 q209 nd_X0_need ⟨Nat.le_of_ble_eq_true rfl, Nat.le_of_ble_eq_true rfl⟩ rfl hl.1 rfl (Nat.le_of_ble_eq_true rfl) dX0_width_21 ⟨Nat.le_of_ble_eq_true rfl, Nat.le_of_ble_eq_true rfl⟩ hS (fun q h => hAb q (Nat.le_trans hS.1 h)) (fun ex H locs hq hS hz hk1 => ?_)
      obtain ⟨hexn, hex, hsz⟩ := hq
      have hne : ex ≠ ad 3 := by have := hDW.lt (r := 3) (fun z => by cases z); omega
      have hDW := hDW.aftM hk1
      have hW := hW.aftM hk1
      refine ct_find (pre := []) (post := []) (y := ⟨0, 56, 57, 1⟩) hc htab (by decide) (by decide) rfl hex ?_
      refine lv_astore_n (lv' := [(3, .ref ex), (0, .ref (ad 0)), (1, .int x), (2, .int v)]) hx hb dX0_width_57 rfl hl (by decide) rfl (fun ls hl => ?_)
      refine lv_aload_n hx hb dX0_width_58 rfl (lv_at hl 1 rfl) ?_
      refine lv_aload_n hx hb dX0_width_59 rfl (lv_at hl 0 rfl) ?_
      refine cv_W1 (rest := []) hc (D_X0finds l hDW hex hne (k := 0) rfl (by decide)) (lw_V q277 q279 qs1 q67 q280) nd_X0_finds ⟨Nat.le_of_ble_eq_true rfl, Nat.le_of_ble_eq_true rfl⟩ (DW.recv hK hDW) rfl hl.1 rfl (Nat.le_of_ble_eq_true rfl) dX0_width_60 ⟨Nat.le_of_ble_eq_true rfl, Nat.le_of_ble_eq_true rfl⟩ hS (fun _ h => h) (fun H locs hq hS hz hk1 => ?_)
      obtain ⟨hDW, hf3⟩ := hq
      have hW := hW.aftD (hdj 3 (Or.inl (by decide))) (hDW.1 _ (hDW.mem (r := 3) rfl)) hf3
      have hsp_430 : widthM f x v = (-1000000001, cntP f 0) := by simp only [widthM, if_pos c_427, if_neg c_429]
      refine w_more (cells' := 100) (slots' := 1000) (Nat.le_of_ble_eq_true rfl) (Nat.le_of_ble_eq_true rfl) ?_
      exact ri_W hx hb hr hlk hS (by rw [hsp_430]; show (-1000000001 - 0 : Int32) = -1000000001; decide) (by rw [hsp_430]; exact DC.mk' rfl hO hDW hcok hW hdj) dX0_width_63
    · refine lv_iconst (v := 1) hx hb dX0_width_15 (by decide) ?_
      refine lv_goto (tgt := 20) hx hb dX0_width_16 (by decide) ?_
      refine lv_iconst (v := 0) hx hb dX0_width_20 (by decide) ?_
      refine cs_R0 (rest := []) hc (D_need_ok l (by decide) 0) (lw_S q207 q208 q67 q209) nd_X0_need ⟨Nat.le_of_ble_eq_true rfl, Nat.le_of_ble_eq_true rfl⟩ rfl hl.1 rfl (Nat.le_of_ble_eq_true rfl) dX0_width_21 ⟨Nat.le_of_ble_eq_true rfl, Nat.le_of_ble_eq_true rfl⟩ ?_
      obtain ⟨i, hi, rfl⟩ := hO.exGap c_427
      have hcl_i : (nI i).toNatClampNeg = i := nI_clamp (by omega)
      obtain ⟨v, hv100, rfl⟩ := ex_le 99 (hi := 99) rfl (by decide) c_429.1 c_429.2
      refine lv_aload_n hx hb dX0_width_24 rfl (lv_at hl 0 rfl) ?_
      refine d_get hc hDW 0 (by decide) q161 rfl rfl dX0_width_25 ?_
      refine lv_iload_n hx hb dX0_width_28 rfl (lv_at hl 1 rfl) ?_
      refine cv_R1 (rest := []) hc (D_hgap l hF hW hO i hi) (lw_V q428 q429 q430 q68 q431) nd_X1_gap ⟨Nat.le_of_ble_eq_true rfl, Nat.le_of_ble_eq_true rfl⟩ (HW.recv hK hW) rfl hl.1 rfl (Nat.le_of_ble_eq_true rfl) dX0_width_29 ⟨Nat.le_of_ble_eq_true rfl, Nat.le_of_ble_eq_true rfl⟩ ?_
      refine gv_get hc (hO.gap hi).kd.1 (hW.gp hi) 2 (by decide) q320 rfl dX0_width_32 ?_
      refine lv_istore_n (lv' := [(3, .int ((f 0) (gp i 3))), (0, .ref (ad 0)), (1, .int (nI i)), (2, .int (nI v))]) hx hb dX0_width_35 rfl hl (by decide) rfl (fun ls hl => ?_)
      refine lv_aload_n hx hb dX0_width_36 rfl (lv_at hl 1 rfl) ?_
      refine d_get hc hDW 0 (by decide) q161 rfl rfl dX0_width_37 ?_
      refine lv_iload_n hx hb dX0_width_40 rfl (lv_at hl 2 rfl) ?_
      refine cv_R1 (rest := []) hc (D_hgap l hF hW hO i hi) (lw_V q428 q429 q430 q68 q431) nd_X1_gap ⟨Nat.le_of_ble_eq_true rfl, Nat.le_of_ble_eq_true rfl⟩ (HW.recv hK hW) rfl hl.1 rfl (Nat.le_of_ble_eq_true rfl) dX0_width_41 ⟨Nat.le_of_ble_eq_true rfl, Nat.le_of_ble_eq_true rfl⟩ ?_
      refine lv_iload_n hx hb dX0_width_44 rfl (lv_at hl 3 rfl) ?_
      refine h_gput hc hW hS hi (hO.gap hi).kd.1 2 3 (by decide) (by decide) gfs_2 q320 rfl rfl rfl rfl dX0_width_45 (fun H locs hW hS hz oq => ?_)
      have hO1 := OkN_width (i := i) hO (show v < 100 by omega)
      have hDW := hDW.aftH hdj hHA (HR.g hi) oq
      refine lv_aload_n hx hb dX0_width_48 rfl (lv_at hl 1 rfl) ?_
      refine d_get hc hDW 0 (by decide) q161 rfl rfl dX0_width_49 ?_
      refine cv_W0 (rest := []) hc (D_changes l hF hW.toR hO1) (lw_V q273 q274 q275 q68 q276) nd_X1_changes ⟨Nat.le_of_ble_eq_true rfl, Nat.le_of_ble_eq_true rfl⟩ (HW.recv hK hW) rfl hl.1 rfl (Nat.le_of_ble_eq_true rfl) dX0_width_52 ⟨Nat.le_of_ble_eq_true rfl, Nat.le_of_ble_eq_true rfl⟩ hS hHA (fun H locs hq hS hz hk1 => ?_)
      have hDW := hDW.aftC hdj hHA hk1
      obtain ⟨u, hv, hcok, hW⟩ := HS.ofR (HS.ch hq) hW.1 hHA
      refine lv_iload_n hx hb dX0_width_55 rfl (lv_at hl 0 rfl) ?_
      have hsp_431 : widthM f (nI i) (nI v) = ((f 0) (gp i 3), up2 f 0 (gp i 3) (nI v)) := by simp only [widthM, hcl_i, if_pos c_427, if_pos c_429]
      refine w_more (cells' := 100) (slots' := 1000) (Nat.le_of_ble_eq_true rfl) (Nat.le_of_ble_eq_true rfl) ?_
      exact ri_W hx hb hr hlk hS (by rw [hsp_431]) (by rw [hsp_431]; exact DC.mk' up2_row hO1 (hDW.fr rfl rfl rfl rfl rfl rfl) hcok hW hdj) dX0_width_56
