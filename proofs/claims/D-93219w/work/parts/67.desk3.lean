/-! the desk, 3: acts with loops -/
set_option maxRecDepth 100000
theorem b2i01 {P : Prop} [Decidable P] : b2i P = 0 ∨ b2i P = 1 := by
  by_cases h : P
  · exact Or.inr (b2i_t h)
  · exact Or.inl (b2i_f h)
theorem upd_back {s : Nat → Int32} {k : Nat} {x y : Int32} (h : s k = y) : s = upd (upd s k x) k y := by
  rw [upd_upd, ← h, upd_self]
def bsM (s p : Nat → Int32) : Nat → Int32
  | 0 => -1
  | n + 1 => nI (mostN s p n)
theorem bs_a {s : Nat → Int32} {n : Nat} (h : sizeP (flowP s (n + 1)) ≤ sizeP (flowP s (mostN s (prP s) n))) : bsM s (prP s) (n + 1 + 1) = nI (mostN s (prP s) n) := congrArg nI (if_pos h)
theorem bs_b {s : Nat → Int32} {n : Nat} (h : ¬ sizeP (flowP s (n + 1)) ≤ sizeP (flowP s (mostN s (prP s) n))) : bsM s (prP s) (n + 1 + 1) = nI (n + 1) := congrArg nI (if_neg h)
theorem tr_a {s s1 : Nat → Int32} {n : Nat} (h : 0 ≤ leanP s n * leanP s1 n) : trN s s1 (n + 1) = trN s s1 n := by
  simp only [trN, if_pos h]
  simp
theorem tr_b {s s1 : Nat → Int32} {n : Nat} (h : ¬ 0 ≤ leanP s n * leanP s1 n) : trN s s1 (n + 1) = trN s s1 n ||| (1 : Int32) <<< (nI n &&& 31) := by
  simp only [trN, if_neg h]
theorem nd_X0_rest : yX0_rest.cls = "SmokeLeans" ∧ yX0_rest.cls ≠ "java/lang/invoke/MethodHandle" ∧ yX0_rest.cls ≠ "java/lang/invoke/VarHandle" ∧ (parseMethodDescriptor yX0_rest.desc).map (fun d => d.parameters.length) = some 1 := by decide +kernel
set_option maxHeartbeats 4000000 in
theorem O_rest (l : Launch) {G : GD} {A : Nat → Prop} {f : Nat → Nat → Int32} {g : Nat → Nat → Int64} {xo hk ht : Nat} {H0 : Heap} (hF : FG G) (hC : DC G A f g xo hk ht H0) (hAb : ∀ q, H0.size ≤ q → A q) (x : Int32) : MetH l G yX0_rest cX0_rest 4 (some .int) [((0), (83), (84), (1))] 8 100 1000 A [.ref xo, .int x] H0 (some (.int (restM f x).1)) (fun H => DC G A (restM f x).2 g xo hk ht H) := by
  refine mw_of (hh := [((0), (83), (84), (1))]) (by decide) (Nat.le_of_ble_eq_true rfl) ?_
  intro p e s m below meth c hx hb hr hc hlk hnm htab hs0 ls hl
  subst hs0
  have hown := hc.2.2.2.1
  have hts := hc.2.2.2.2.1
  have hK := hc.2.2.2.2.2
  obtain ⟨b, ad, ah, ga, N, R, rfl, hO, hDW, ⟨u, hv, hcok, hW⟩, hdj⟩ := hC
  have hl : lv_has ls 4 [(0, .ref (ad 0)), (1, .int x)] := hl
  have hS : va_S A s.heap s.heap [] := va_S.rf
  have hN20 := hO.2.1
  have hHA : ∀ q, HR N ah ga q → A q := fun q h => HR.mem hW h
  refine lv_aload_n hx hb dX0_rest_0 rfl (lv_at hl 0 rfl) ?_
  refine lv_iload_n hx hb dX0_rest_1 rfl (lv_at hl 1 rfl) ?_
  refine cv_R1 (rest := []) hc (D_isRoom l hDW hW x) (lw_V q298 q300 qs2 q67 q301) nd_X0_isRoom ⟨Nat.le_of_ble_eq_true rfl, Nat.le_of_ble_eq_true rfl⟩ (DW.recv hK hDW) rfl hl.1 rfl (Nat.le_of_ble_eq_true rfl) dX0_rest_2 ⟨Nat.le_of_ble_eq_true rfl, Nat.le_of_ble_eq_true rfl⟩ ?_
  refine lv_iconst (v := 0) hx hb dX0_rest_5 (by decide) ?_
  by_cases c_483 : 0 ≤ x ∧ x ≤ (f 0) 0 - 1
  · refine cs_R0 (rest := []) hc (D_need_ok l (x := b2i (0 ≤ x ∧ x ≤ (f 0) 0 - 1)) (by rw [b2i_t c_483]; decide) 0) (lw_S q207 q208 q67 q209) nd_X0_need ⟨Nat.le_of_ble_eq_true rfl, Nat.le_of_ble_eq_true rfl⟩ rfl hl.1 rfl (Nat.le_of_ble_eq_true rfl) dX0_rest_6 ⟨Nat.le_of_ble_eq_true rfl, Nat.le_of_ble_eq_true rfl⟩ ?_
    refine lv_iconst (v := 0) hx hb dX0_rest_9 (by decide) ?_
    refine lv_istore_n (lv' := [(2, .int 0), (0, .ref (ad 0)), (1, .int x)]) hx hb dX0_rest_10 rfl hl (by decide) rfl (fun ls hl => ?_)
    refine lv_iconst (v := 0) hx hb dX0_rest_11 (by decide) ?_
    refine lv_istore_n (lv' := [(3, .int 0), (2, .int 0), (0, .ref (ad 0)), (1, .int x)]) hx hb dX0_rest_12 rfl hl (by decide) rfl (fun ls hl => ?_)
    refine w_loopH (σ := Nat) (fun i H locs cells slots fr => cells = 0 ∧ slots = 0 ∧ (∃ ls, fr = F0 m 13 ls [] ∧ lv_has ls 4 [(3, .int (nI i)), (2, .int (restN (f 0) (prP (f 0)) x i)), (1, .int x), (0, .ref (ad 0))]) ∧ va_S A s.heap H locs ∧ (i ≤ N ∧ ∃ u hv, HCok (f 0) u ∧ HW G A N (f 0) u hv ah ga H ∧ DW G A f g (b) (ah 0) hk ht ad H)) (fun i => N - i) 0 ⟨rfl, rfl, ⟨ls, rfl, lv_sub hl [0, 1, 3, 2] rfl⟩, hS, ⟨Nat.zero_le _, u, hv, hcok, hW, hDW⟩⟩ ?_
    intro i H locs cells slots fr hI ih
    obtain ⟨rfl, rfl, ⟨ls, rfl, hl⟩, hS, ⟨hiN, u, hv, hcok, hW, hDW⟩⟩ := hI
    by_cases hi : i < N
    · refine lv_iload_n hx hb dX0_rest_13 rfl (lv_at hl 0 rfl) ?_
      refine lv_aload_n hx hb dX0_rest_14 rfl (lv_at hl 3 rfl) ?_
      refine d_get hc hDW 0 (by decide) q161 rfl rfl dX0_rest_15 ?_
      refine h_get hc hW 1 (by decide) rfl q124 rfl rfl dX0_rest_18 ?_
      refine sm_topi (v := nI N) hO.2.2.2.1 ?_
      refine lv_icmp_ge (tgt := 82) hx hb dX0_rest_21 (by decide) (fun h => absurd h (nI_ge hi (by omega))) (fun _ => ?_)
      refine lv_aload_n hx hb dX0_rest_24 rfl (lv_at hl 3 rfl) ?_
      refine d_get hc hDW 0 (by decide) q161 rfl rfl dX0_rest_25 ?_
      refine lv_iload_n hx hb dX0_rest_28 rfl (lv_at hl 0 rfl) ?_
      refine cv_R1 (rest := []) hc (D_hgap l hF hW hO i hi) (lw_V q428 q429 q430 q68 q431) nd_X1_gap ⟨Nat.le_of_ble_eq_true rfl, Nat.le_of_ble_eq_true rfl⟩ (HW.recv hK hW) rfl hl.1 rfl (Nat.le_of_ble_eq_true rfl) dX0_rest_29 ⟨Nat.le_of_ble_eq_true rfl, Nat.le_of_ble_eq_true rfl⟩ ?_
      refine gv_get hc (hO.gap hi).kd.1 (hW.gp hi) 0 (by decide) q313 rfl dX0_rest_32 ?_
      refine lv_iload_n hx hb dX0_rest_35 rfl (lv_at hl 2 rfl) ?_
      refine lv_icmp_ne (tgt := 50) hx hb dX0_rest_36 (by decide) (fun c_484 => ?_) (fun c_484 => ?_)
      · refine lv_aload_n hx hb dX0_rest_50 rfl (lv_at hl 3 rfl) ?_
        refine d_get hc hDW 0 (by decide) q161 rfl rfl dX0_rest_51 ?_
        refine lv_iload_n hx hb dX0_rest_54 rfl (lv_at hl 0 rfl) ?_
        refine cv_R1 (rest := []) hc (D_hgap l hF hW hO i hi) (lw_V q428 q429 q430 q68 q431) nd_X1_gap ⟨Nat.le_of_ble_eq_true rfl, Nat.le_of_ble_eq_true rfl⟩ (HW.recv hK hW) rfl hl.1 rfl (Nat.le_of_ble_eq_true rfl) dX0_rest_55 ⟨Nat.le_of_ble_eq_true rfl, Nat.le_of_ble_eq_true rfl⟩ ?_
        refine gv_get hc (hO.gap hi).kd.1 (hW.gp hi) 1 (by decide) q318 rfl dX0_rest_58 ?_
        refine lv_iload_n hx hb dX0_rest_61 rfl (lv_at hl 2 rfl) ?_
        refine lv_icmp_ne (tgt := 76) hx hb dX0_rest_62 (by decide) (fun c_485 => ?_) (fun c_485 => ?_)
        · refine lv_iinc (v := nI (i + 1)) (lv' := [(3, .int (nI (i + 1))), (2, .int (restN (f 0) (prP (f 0)) x i)), (1, .int x), (0, .ref (ad 0))]) hx hb dX0_rest_76 hl (k := 0) rfl (nI_1 _) (by decide) rfl (fun ls hl => ?_)
          refine lv_goto (tgt := 13) hx hb dX0_rest_79 (by decide) ?_
          refine ih (i + 1) _ _ _ _ _ ⟨rfl, rfl, ⟨ls, rfl, ?_⟩, hS, hi, u, hv, hcok, hW, hDW⟩ (by omega)
          rw [rsd_3 c_484 c_485]
          exact lv_sub hl [0, 1, 2, 3] rfl
        · refine lv_iload_n hx hb dX0_rest_65 rfl (lv_at hl 1 rfl) ?_
          refine lv_aload_n hx hb dX0_rest_66 rfl (lv_at hl 3 rfl) ?_
          refine d_get hc hDW 0 (by decide) q161 rfl rfl dX0_rest_67 ?_
          refine lv_iload_n hx hb dX0_rest_70 rfl (lv_at hl 0 rfl) ?_
          refine cv_W1 (rest := [.int (restN (f 0) (prP (f 0)) x i)]) hc (D_flow l hF (HS.toR ⟨u, hv, hcok, hW⟩) hO i hi) (lw_V q757 q758 q759 q68 q760) nd_X1_flow ⟨Nat.le_of_ble_eq_true rfl, Nat.le_of_ble_eq_true rfl⟩ (HW.recv hK hW) rfl hl.1 rfl (Nat.le_of_ble_eq_true rfl) dX0_rest_71 ⟨Nat.le_of_ble_eq_true rfl, Nat.le_of_ble_eq_true rfl⟩ hS hHA (fun H locs hq hS hz hk1 => ?_)
          have hDW := hDW.aftC hdj hHA hk1
          obtain ⟨u, hv, hcok, hW⟩ := HS.ofR hq hW.1 hHA
          refine lv_isub hx hb dX0_rest_74 ?_
          refine lv_istore_n (lv' := [(2, .int ((restN (f 0) (prP (f 0)) x i) - (flowP (f 0) i))), (3, .int (nI i)), (1, .int x), (0, .ref (ad 0))]) hx hb dX0_rest_75 rfl hl (by decide) rfl (fun ls hl => ?_)
          refine lv_iinc (v := nI (i + 1)) (lv' := [(3, .int (nI (i + 1))), (2, .int ((restN (f 0) (prP (f 0)) x i) - (flowP (f 0) i))), (1, .int x), (0, .ref (ad 0))]) hx hb dX0_rest_76 hl (k := 1) rfl (nI_1 _) (by decide) rfl (fun ls hl => ?_)
          refine lv_goto (tgt := 13) hx hb dX0_rest_79 (by decide) ?_
          refine ih (i + 1) _ _ _ _ _ ⟨rfl, rfl, ⟨ls, rfl, ?_⟩, hS, hi, u, hv, hcok, hW, hDW⟩ (by omega)
          rw [rsd_2 c_484 c_485]
          exact lv_sub hl [0, 1, 2, 3] rfl
      · refine lv_iload_n hx hb dX0_rest_39 rfl (lv_at hl 1 rfl) ?_
        refine lv_aload_n hx hb dX0_rest_40 rfl (lv_at hl 3 rfl) ?_
        refine d_get hc hDW 0 (by decide) q161 rfl rfl dX0_rest_41 ?_
        refine lv_iload_n hx hb dX0_rest_44 rfl (lv_at hl 0 rfl) ?_
        refine cv_W1 (rest := [.int (restN (f 0) (prP (f 0)) x i)]) hc (D_flow l hF (HS.toR ⟨u, hv, hcok, hW⟩) hO i hi) (lw_V q757 q758 q759 q68 q760) nd_X1_flow ⟨Nat.le_of_ble_eq_true rfl, Nat.le_of_ble_eq_true rfl⟩ (HW.recv hK hW) rfl hl.1 rfl (Nat.le_of_ble_eq_true rfl) dX0_rest_45 ⟨Nat.le_of_ble_eq_true rfl, Nat.le_of_ble_eq_true rfl⟩ hS hHA (fun H locs hq hS hz hk1 => ?_)
        have hDW := hDW.aftC hdj hHA hk1
        obtain ⟨u, hv, hcok, hW⟩ := HS.ofR hq hW.1 hHA
        refine lv_iadd hx hb dX0_rest_48 ?_
        refine lv_istore_n (lv' := [(2, .int ((restN (f 0) (prP (f 0)) x i) + (flowP (f 0) i))), (3, .int (nI i)), (1, .int x), (0, .ref (ad 0))]) hx hb dX0_rest_49 rfl hl (by decide) rfl (fun ls hl => ?_)
        refine lv_aload_n hx hb dX0_rest_50 rfl (lv_at hl 3 rfl) ?_
        refine d_get hc hDW 0 (by decide) q161 rfl rfl dX0_rest_51 ?_
        refine lv_iload_n hx hb dX0_rest_54 rfl (lv_at hl 1 rfl) ?_
        refine cv_R1 (rest := []) hc (D_hgap l hF hW hO i hi) (lw_V q428 q429 q430 q68 q431) nd_X1_gap ⟨Nat.le_of_ble_eq_true rfl, Nat.le_of_ble_eq_true rfl⟩ (HW.recv hK hW) rfl hl.1 rfl (Nat.le_of_ble_eq_true rfl) dX0_rest_55 ⟨Nat.le_of_ble_eq_true rfl, Nat.le_of_ble_eq_true rfl⟩ ?_
        refine gv_get hc (hO.gap hi).kd.1 (hW.gp hi) 1 (by decide) q318 rfl dX0_rest_58 ?_
        refine lv_iload_n hx hb dX0_rest_61 rfl (lv_at hl 2 rfl) ?_
        refine lv_icmp_ne (tgt := 76) hx hb dX0_rest_62 (by decide) (fun _ => ?_) (fun h => absurd h (fun h => (hO.gap hi).2.2.2.1 (h.trans c_484.symm)))
        refine lv_iinc (v := nI (i + 1)) (lv' := [(3, .int (nI (i + 1))), (2, .int ((restN (f 0) (prP (f 0)) x i) + (flowP (f 0) i))), (1, .int x), (0, .ref (ad 0))]) hx hb dX0_rest_76 hl (k := 1) rfl (nI_1 _) (by decide) rfl (fun ls hl => ?_)
        refine lv_goto (tgt := 13) hx hb dX0_rest_79 (by decide) ?_
        refine ih (i + 1) _ _ _ _ _ ⟨rfl, rfl, ⟨ls, rfl, ?_⟩, hS, hi, u, hv, hcok, hW, hDW⟩ (by omega)
        rw [rsd_1 c_484]
        exact lv_sub hl [0, 1, 2, 3] rfl
    · have hiE : N = i := by omega
      subst hiE
      refine lv_iload_n hx hb dX0_rest_13 rfl (lv_at hl 0 rfl) ?_
      refine lv_aload_n hx hb dX0_rest_14 rfl (lv_at hl 3 rfl) ?_
      refine d_get hc hDW 0 (by decide) q161 rfl rfl dX0_rest_15 ?_
      refine h_get hc hW 1 (by decide) rfl q124 rfl rfl dX0_rest_18 ?_
      refine sm_topi (v := nI N) hO.2.2.2.1 ?_
      refine lv_icmp_ge (tgt := 82) hx hb dX0_rest_21 (by decide) (fun _ => ?_) (fun h => absurd (nI_le (by omega) (by omega)) h)
      refine lv_iload_n hx hb dX0_rest_82 rfl (lv_at hl 1 rfl) ?_
      have hsp_486 : restM f x = (restN (f 0) (prP (f 0)) x N, f) := by simp only [restM, if_pos c_483, hO.cl1]
      refine w_more (cells' := 100) (slots' := 1000) (Nat.le_of_ble_eq_true rfl) (Nat.le_of_ble_eq_true rfl) ?_
      exact ri_W hx hb hr hlk hS (by rw [hsp_486]) (by rw [hsp_486]; exact DC.mk' rfl hO hDW hcok hW hdj) dX0_rest_83
  · refine cs_T (rest := []) hc (D_need_no l hF.1 hDW.2.1 hDW.gle (x := b2i (0 ≤ x ∧ x ≤ (f 0) 0 - 1)) (b2i_f c_483) 0) q207 q208 q67 q209 nd_X0_need ⟨Nat.le_of_ble_eq_true rfl, Nat.le_of_ble_eq_true rfl⟩ rfl hl.1 rfl (Nat.le_of_ble_eq_true rfl) dX0_rest_6 ⟨Nat.le_of_ble_eq_true rfl, Nat.le_of_ble_eq_true rfl⟩ hS (fun q h => hAb q (Nat.le_trans hS.1 h)) (fun ex H locs hq hS hz hk1 => ?_)
    obtain ⟨hexn, hex, hsz⟩ := hq
    have hne : ex ≠ ad 3 := by have := hDW.lt (r := 3) (fun z => by cases z); omega
    have hDW := hDW.aftM hk1
    have hW := hW.aftM hk1
    refine ct_find (pre := []) (post := []) (y := ⟨0, 83, 84, 1⟩) hc htab (by decide) (by decide) rfl hex ?_
    refine lv_astore_n (lv' := [(2, .ref ex), (0, .ref (ad 0)), (1, .int x)]) hx hb dX0_rest_84 rfl hl (by decide) rfl (fun ls hl => ?_)
    refine lv_aload_n hx hb dX0_rest_85 rfl (lv_at hl 1 rfl) ?_
    refine lv_aload_n hx hb dX0_rest_86 rfl (lv_at hl 0 rfl) ?_
    refine cv_W1 (rest := []) hc (D_X0finds l hDW hex hne (k := 0) rfl (by decide)) (lw_V q277 q279 qs1 q67 q280) nd_X0_finds ⟨Nat.le_of_ble_eq_true rfl, Nat.le_of_ble_eq_true rfl⟩ (DW.recv hK hDW) rfl hl.1 rfl (Nat.le_of_ble_eq_true rfl) dX0_rest_87 ⟨Nat.le_of_ble_eq_true rfl, Nat.le_of_ble_eq_true rfl⟩ hS (fun _ h => h) (fun H locs hq hS hz hk1 => ?_)
    obtain ⟨hDW, hf3⟩ := hq
    have hW := hW.aftD (hdj 3 (Or.inl (by decide))) (hDW.1 _ (hDW.mem (r := 3) rfl)) hf3
    have hsp_487 : restM f x = (-1000000001, cntP f 0) := by simp only [restM, if_neg c_483]
    refine w_more (cells' := 100) (slots' := 1000) (Nat.le_of_ble_eq_true rfl) (Nat.le_of_ble_eq_true rfl) ?_
    exact ri_W hx hb hr hlk hS (by rw [hsp_487]; show (-1000000001 - 0 : Int32) = -1000000001; decide) (by rw [hsp_487]; exact DC.mk' rfl hO hDW hcok hW hdj) dX0_rest_90
theorem nd_X0_most : yX0_most.cls = "SmokeLeans" ∧ yX0_most.cls ≠ "java/lang/invoke/MethodHandle" ∧ yX0_most.cls ≠ "java/lang/invoke/VarHandle" ∧ (parseMethodDescriptor yX0_most.desc).map (fun d => d.parameters.length) = some 0 := by decide +kernel
set_option maxHeartbeats 4000000 in
theorem O_most (l : Launch) {G : GD} {A : Nat → Prop} {f : Nat → Nat → Int32} {g : Nat → Nat → Int64} {xo hk ht : Nat} {H0 : Heap} (hF : FG G) (hC : DC G A f g xo hk ht H0) (hAb : ∀ q, H0.size ≤ q → A q)  : MetH l G yX0_most cX0_most 3 (some .int) [((0), (56), (57), (1))] 8 100 1000 A [.ref xo] H0 (some (.int (mostM f).1)) (fun H => DC G A (mostM f).2 g xo hk ht H) := by
  refine mw_of (hh := [((0), (56), (57), (1))]) (by decide) (Nat.le_of_ble_eq_true rfl) ?_
  intro p e s m below meth c hx hb hr hc hlk hnm htab hs0 ls hl
  subst hs0
  have hown := hc.2.2.2.1
  have hts := hc.2.2.2.2.1
  have hK := hc.2.2.2.2.2
  obtain ⟨b, ad, ah, ga, N, R, rfl, hO, hDW, ⟨u, hv, hcok, hW⟩, hdj⟩ := hC
  have hl : lv_has ls 3 [(0, .ref (ad 0))] := hl
  have hS : va_S A s.heap s.heap [] := va_S.rf
  have hN20 := hO.2.1
  have hHA : ∀ q, HR N ah ga q → A q := fun q h => HR.mem hW h
  refine lv_iconst (v := (-1)) hx hb dX0_most_0 (by decide) ?_
  refine lv_istore_n (lv' := [(1, .int (-1)), (0, .ref (ad 0))]) hx hb dX0_most_1 rfl hl (by decide) rfl (fun ls hl => ?_)
  refine lv_iconst (v := 0) hx hb dX0_most_2 (by decide) ?_
  refine lv_istore_n (lv' := [(2, .int 0), (1, .int (-1)), (0, .ref (ad 0))]) hx hb dX0_most_3 rfl hl (by decide) rfl (fun ls hl => ?_)
  refine w_loopH (σ := Nat) (fun i H locs cells slots fr => cells = 0 ∧ slots = 0 ∧ (∃ ls, fr = F0 m 4 ls [] ∧ lv_has ls 3 [(2, .int (nI i)), (1, .int (bsM (f 0) (prP (f 0)) i)), (0, .ref (ad 0))]) ∧ va_S A s.heap H locs ∧ (i ≤ N ∧ ∃ u hv, HCok (f 0) u ∧ HW G A N (f 0) u hv ah ga H ∧ DW G A f g (b) (ah 0) hk ht ad H)) (fun i => N - i) 0 ⟨rfl, rfl, ⟨ls, rfl, lv_sub hl [0, 1, 2] rfl⟩, hS, ⟨Nat.zero_le _, u, hv, hcok, hW, hDW⟩⟩ ?_
  intro i H locs cells slots fr hI ih
  obtain ⟨rfl, rfl, ⟨ls, rfl, hl⟩, hS, ⟨hiN, u, hv, hcok, hW, hDW⟩⟩ := hI
  by_cases hi : i < N
  · by_cases hi0 : i = 0
    · subst hi0
      have hl : lv_has ls 3 [(2, .int (nI 0)), (1, .int (-1)), (0, .ref (ad 0))] := hl
      refine lv_iload_n hx hb dX0_most_4 rfl (lv_at hl 0 rfl) ?_
      refine lv_aload_n hx hb dX0_most_5 rfl (lv_at hl 2 rfl) ?_
      refine d_get hc hDW 0 (by decide) q161 rfl rfl dX0_most_6 ?_
      refine h_get hc hW 1 (by decide) rfl q124 rfl rfl dX0_most_9 ?_
      refine sm_topi (v := nI N) hO.2.2.2.1 ?_
      refine lv_icmp_ge (tgt := 52) hx hb dX0_most_12 (by decide) (fun h => absurd h (nI_ge hi (by omega))) (fun _ => ?_)
      refine lv_iload_n hx hb dX0_most_15 rfl (lv_at hl 1 rfl) ?_
      refine lv_if_lt (tgt := 44) hx hb dX0_most_16 (by decide) (fun _ => ?_) (fun h => absurd (by decide) h)
      refine lv_iload_n hx hb dX0_most_44 rfl (lv_at hl 0 rfl) ?_
      refine lv_istore_n (lv' := [(1, .int (nI 0)), (2, .int (nI 0)), (0, .ref (ad 0))]) hx hb dX0_most_45 rfl hl (by decide) rfl (fun ls hl => ?_)
      refine lv_iinc (v := nI (0 + 1)) (lv' := [(2, .int (nI (0 + 1))), (1, .int (nI 0)), (0, .ref (ad 0))]) hx hb dX0_most_46 hl (k := 1) rfl (nI_1 _) (by decide) rfl (fun ls hl => ?_)
      refine lv_goto (tgt := 4) hx hb dX0_most_49 (by decide) ?_
      exact ih 1 _ _ _ _ _ ⟨rfl, rfl, ⟨ls, rfl, lv_sub hl [0, 1, 2] rfl⟩, hS, hi, u, hv, hcok, hW, hDW⟩ (by omega)
    · obtain ⟨n, rfl⟩ : ∃ n, i = n + 1 := ⟨i - 1, by omega⟩
      have hm : mostN (f 0) (prP (f 0)) n < N := by have := mostN_le (s := f 0) (p := prP (f 0)) n; omega
      have hl : lv_has ls 3 [(2, .int (nI (n + 1))), (1, .int (nI (mostN (f 0) (prP (f 0)) n))), (0, .ref (ad 0))] := hl
      refine lv_iload_n hx hb dX0_most_4 rfl (lv_at hl 0 rfl) ?_
      refine lv_aload_n hx hb dX0_most_5 rfl (lv_at hl 2 rfl) ?_
      refine d_get hc hDW 0 (by decide) q161 rfl rfl dX0_most_6 ?_
      refine h_get hc hW 1 (by decide) rfl q124 rfl rfl dX0_most_9 ?_
      refine sm_topi (v := nI N) hO.2.2.2.1 ?_
      refine lv_icmp_ge (tgt := 52) hx hb dX0_most_12 (by decide) (fun h => absurd h (nI_ge hi (by omega))) (fun _ => ?_)
      refine lv_iload_n hx hb dX0_most_15 rfl (lv_at hl 1 rfl) ?_
      refine lv_if_lt (tgt := 44) hx hb dX0_most_16 (by decide) (fun h => absurd h (fun h => absurd (Int32.lt_of_lt_of_le h (nI_le (Nat.zero_le _) (by omega))) Int32.lt_irrefl)) (fun _ => ?_)
      refine lv_aload_n hx hb dX0_most_19 rfl (lv_at hl 2 rfl) ?_
      refine d_get hc hDW 0 (by decide) q161 rfl rfl dX0_most_20 ?_
      refine lv_iload_n hx hb dX0_most_23 rfl (lv_at hl 0 rfl) ?_
      refine cv_W1 (rest := []) hc (D_flow l hF (HS.toR ⟨u, hv, hcok, hW⟩) hO (n + 1) hi) (lw_V q757 q758 q759 q68 q760) nd_X1_flow ⟨Nat.le_of_ble_eq_true rfl, Nat.le_of_ble_eq_true rfl⟩ (HW.recv hK hW) rfl hl.1 rfl (Nat.le_of_ble_eq_true rfl) dX0_most_24 ⟨Nat.le_of_ble_eq_true rfl, Nat.le_of_ble_eq_true rfl⟩ hS hHA (fun H locs hq hS hz hk1 => ?_)
      have hDW := hDW.aftC hdj hHA hk1
      obtain ⟨u, hv, hcok, hW⟩ := HS.ofR hq hW.1 hHA
      refine va_mabs (rest := []) hx hb (hc.2.2.1.trans hl.1.symm) hown (hts _ q866) (hts _ q771) (hts _ q87) (hts _ q772) (Nat.le_of_ble_eq_true rfl) (Nat.le_of_ble_eq_true rfl) (Nat.le_of_ble_eq_true rfl) (Nat.le_of_ble_eq_true rfl) dX0_most_27 (sm_topi (v := sizeP (flowP (f 0) (n + 1))) (abs_size) ?_)
      refine lv_aload_n hx hb dX0_most_30 rfl (lv_at hl 2 rfl) ?_
      refine d_get hc hDW 0 (by decide) q161 rfl rfl dX0_most_31 ?_
      refine lv_iload_n hx hb dX0_most_34 rfl (lv_at hl 1 rfl) ?_
      refine cv_W1 (rest := [.int (sizeP (flowP (f 0) (n + 1)))]) hc (D_flow l hF (HS.toR ⟨u, hv, hcok, hW⟩) hO (mostN (f 0) (prP (f 0)) n) hm) (lw_V q757 q758 q759 q68 q760) nd_X1_flow ⟨Nat.le_of_ble_eq_true rfl, Nat.le_of_ble_eq_true rfl⟩ (HW.recv hK hW) rfl hl.1 rfl (Nat.le_of_ble_eq_true rfl) dX0_most_35 ⟨Nat.le_of_ble_eq_true rfl, Nat.le_of_ble_eq_true rfl⟩ hS hHA (fun H locs hq hS hz hk1 => ?_)
      have hDW := hDW.aftC hdj hHA hk1
      obtain ⟨u, hv, hcok, hW⟩ := HS.ofR hq hW.1 hHA
      refine va_mabs (rest := [.int (sizeP (flowP (f 0) (n + 1)))]) hx hb (hc.2.2.1.trans hl.1.symm) hown (hts _ q866) (hts _ q771) (hts _ q87) (hts _ q772) (Nat.le_of_ble_eq_true rfl) (Nat.le_of_ble_eq_true rfl) (Nat.le_of_ble_eq_true rfl) (Nat.le_of_ble_eq_true rfl) dX0_most_38 (sm_topi (v := sizeP (flowP (f 0) (mostN (f 0) (prP (f 0)) n))) (abs_size) ?_)
      refine lv_icmp_le (tgt := 46) hx hb dX0_most_41 (by decide) (fun c_488 => ?_) (fun c_488 => ?_)
      · refine lv_iinc (v := nI (n + 1 + 1)) (lv' := [(2, .int (nI (n + 1 + 1))), (1, .int (nI (mostN (f 0) (prP (f 0)) n))), (0, .ref (ad 0))]) hx hb dX0_most_46 hl (k := 0) rfl (nI_1 _) (by decide) rfl (fun ls hl => ?_)
        refine lv_goto (tgt := 4) hx hb dX0_most_49 (by decide) ?_
        refine ih (n + 1 + 1) _ _ _ _ _ ⟨rfl, rfl, ⟨ls, rfl, ?_⟩, hS, hi, u, hv, hcok, hW, hDW⟩ (by omega)
        rw [bs_a c_488]
        exact lv_sub hl [0, 1, 2] rfl
      · refine lv_iload_n hx hb dX0_most_44 rfl (lv_at hl 0 rfl) ?_
        refine lv_istore_n (lv' := [(1, .int (nI (n + 1))), (2, .int (nI (n + 1))), (0, .ref (ad 0))]) hx hb dX0_most_45 rfl hl (by decide) rfl (fun ls hl => ?_)
        refine lv_iinc (v := nI (n + 1 + 1)) (lv' := [(2, .int (nI (n + 1 + 1))), (1, .int (nI (n + 1))), (0, .ref (ad 0))]) hx hb dX0_most_46 hl (k := 1) rfl (nI_1 _) (by decide) rfl (fun ls hl => ?_)
        refine lv_goto (tgt := 4) hx hb dX0_most_49 (by decide) ?_
        refine ih (n + 1 + 1) _ _ _ _ _ ⟨rfl, rfl, ⟨ls, rfl, ?_⟩, hS, hi, u, hv, hcok, hW, hDW⟩ (by omega)
        rw [bs_b c_488]
        exact lv_sub hl [0, 1, 2] rfl
  · have hiE : N = i := by omega
    subst hiE
    by_cases hi0 : N = 0
    · subst hi0
      have hl : lv_has ls 3 [(2, .int (nI 0)), (1, .int (-1)), (0, .ref (ad 0))] := hl
      refine lv_iload_n hx hb dX0_most_4 rfl (lv_at hl 0 rfl) ?_
      refine lv_aload_n hx hb dX0_most_5 rfl (lv_at hl 2 rfl) ?_
      refine d_get hc hDW 0 (by decide) q161 rfl rfl dX0_most_6 ?_
      refine h_get hc hW 1 (by decide) rfl q124 rfl rfl dX0_most_9 ?_
      refine sm_topi (v := nI 0) hO.2.2.2.1 ?_
      refine lv_icmp_ge (tgt := 52) hx hb dX0_most_12 (by decide) (fun _ => ?_) (fun h => absurd (nI_le (by omega) (by omega)) h)
      refine lv_iload_n hx hb dX0_most_52 rfl (lv_at hl 1 rfl) ?_
      refine cs_T (rest := []) hc (D_orNone_no l hF.1 hDW.2.1 hDW.gle (by decide)) q859 q860 q67 q861 nd_X0_orNone ⟨Nat.le_of_ble_eq_true rfl, Nat.le_of_ble_eq_true rfl⟩ rfl hl.1 rfl (Nat.le_of_ble_eq_true rfl) dX0_most_53 ⟨Nat.le_of_ble_eq_true rfl, Nat.le_of_ble_eq_true rfl⟩ hS (fun q h => hAb q (Nat.le_trans hS.1 h)) (fun ex H locs hq hS hz hk1 => ?_)
      obtain ⟨hexn, hex, hsz⟩ := hq
      have hne : ex ≠ ad 3 := by have := hDW.lt (r := 3) (fun z => by cases z); omega
      have hDW := hDW.aftM hk1
      have hW := hW.aftM hk1
      refine ct_find (pre := []) (post := []) (y := ⟨0, 56, 57, 1⟩) hc htab (by decide) (by decide) rfl hex ?_
      refine lv_astore_n (lv' := [(1, .ref ex), (2, .int (nI 0)), (0, .ref (ad 0))]) hx hb dX0_most_57 rfl hl (by decide) rfl (fun ls hl => ?_)
      refine lv_aload_n hx hb dX0_most_58 rfl (lv_at hl 2 rfl) ?_
      refine lv_aload_n hx hb dX0_most_59 rfl (lv_at hl 0 rfl) ?_
      refine cv_W1 (rest := []) hc (D_X0finds l hDW hex hne (k := 3) rfl (by decide)) (lw_V q277 q279 qs1 q67 q280) nd_X0_finds ⟨Nat.le_of_ble_eq_true rfl, Nat.le_of_ble_eq_true rfl⟩ (DW.recv hK hDW) rfl hl.1 rfl (Nat.le_of_ble_eq_true rfl) dX0_most_60 ⟨Nat.le_of_ble_eq_true rfl, Nat.le_of_ble_eq_true rfl⟩ hS (fun _ h => h) (fun H locs hq hS hz hk1 => ?_)
      obtain ⟨hDW, hf3⟩ := hq
      have hW := hW.aftD (hdj 3 (Or.inl (by decide))) (hDW.1 _ (hDW.mem (r := 3) rfl)) hf3
      have hsp_489 : mostM f = (-1000000004, cntP f 3) := by unfold mostM; rw [if_pos (show f 0 1 = 0 from hO.2.2.2.1)]
      refine w_more (cells' := 100) (slots' := 1000) (Nat.le_of_ble_eq_true rfl) (Nat.le_of_ble_eq_true rfl) ?_
      exact ri_W hx hb hr hlk hS (by rw [hsp_489]; show (-1000000001 - 3 : Int32) = -1000000004; decide) (by rw [hsp_489]; exact DC.mk' rfl hO hDW hcok hW hdj) dX0_most_63
    · obtain ⟨n, rfl⟩ : ∃ n, N = n + 1 := ⟨N - 1, by omega⟩
      have hl : lv_has ls 3 [(2, .int (nI (n + 1))), (1, .int (nI (mostN (f 0) (prP (f 0)) n))), (0, .ref (ad 0))] := hl
      have hml := mostN_le (s := f 0) (p := prP (f 0)) n
      refine lv_iload_n hx hb dX0_most_4 rfl (lv_at hl 0 rfl) ?_
      refine lv_aload_n hx hb dX0_most_5 rfl (lv_at hl 2 rfl) ?_
      refine d_get hc hDW 0 (by decide) q161 rfl rfl dX0_most_6 ?_
      refine h_get hc hW 1 (by decide) rfl q124 rfl rfl dX0_most_9 ?_
      refine sm_topi (v := nI (n + 1)) hO.2.2.2.1 ?_
      refine lv_icmp_ge (tgt := 52) hx hb dX0_most_12 (by decide) (fun _ => ?_) (fun h => absurd (nI_le (by omega) (by omega)) h)
      refine lv_iload_n hx hb dX0_most_52 rfl (lv_at hl 1 rfl) ?_
      refine cs_R1 (rest := []) hc (D_orNone_ok l (fun h => absurd (Int32.lt_of_lt_of_le h (nI_le (Nat.zero_le _) (by omega))) Int32.lt_irrefl)) (lw_S q859 q860 q67 q861) nd_X0_orNone ⟨Nat.le_of_ble_eq_true rfl, Nat.le_of_ble_eq_true rfl⟩ rfl hl.1 rfl (Nat.le_of_ble_eq_true rfl) dX0_most_53 ⟨Nat.le_of_ble_eq_true rfl, Nat.le_of_ble_eq_true rfl⟩ ?_
      have hsp_490 : mostM f = (nI (mostN (f 0) (prP (f 0)) n), f) := by unfold mostM; rw [if_neg (by rw [hO.2.2.2.1]; exact fun h => absurd (show nI (n + 1) = nI 0 from h) (fun e => by have := congrArg Int32.toNatClampNeg e; rw [nI_clamp (by omega), nI_clamp (by omega)] at this; omega)), hO.cl1, Nat.add_sub_cancel]
      refine w_more (cells' := 100) (slots' := 1000) (Nat.le_of_ble_eq_true rfl) (Nat.le_of_ble_eq_true rfl) ?_
      exact ri_W hx hb hr hlk hS (by rw [hsp_490]) (by rw [hsp_490]; exact DC.mk' rfl hO hDW hcok hW hdj) dX0_most_56
theorem nd_X0_alone : yX0_alone.cls = "SmokeLeans" ∧ yX0_alone.cls ≠ "java/lang/invoke/MethodHandle" ∧ yX0_alone.cls ≠ "java/lang/invoke/VarHandle" ∧ (parseMethodDescriptor yX0_alone.desc).map (fun d => d.parameters.length) = some 2 := by decide +kernel
set_option maxHeartbeats 4000000 in
theorem O_alone (l : Launch) {G : GD} {A : Nat → Prop} {f : Nat → Nat → Int32} {g : Nat → Nat → Int64} {xo hk ht : Nat} {H0 : Heap} (hF : FG G) (hC : DC G A f g xo hk ht H0) (hAb : ∀ q, H0.size ≤ q → A q) (x y : Int32) : MetH l G yX0_alone cX0_alone 7 (some .int) [((0), (85), (86), (1))] 8 100 1000 A [.ref xo, .int x, .int y] H0 (some (.int (aloneM f x y).1)) (fun H => DC G A (aloneM f x y).2 g xo hk ht H) := by
  refine mw_of (hh := [((0), (85), (86), (1))]) (by decide) (Nat.le_of_ble_eq_true rfl) ?_
  intro p e s m below meth c hx hb hr hc hlk hnm htab hs0 ls hl
  subst hs0
  have hown := hc.2.2.2.1
  have hts := hc.2.2.2.2.1
  have hK := hc.2.2.2.2.2
  obtain ⟨b, ad, ah, ga, N, R, rfl, hO, hDW, ⟨u, hv, hcok, hW⟩, hdj⟩ := hC
  have hl : lv_has ls 7 [(0, .ref (ad 0)), (1, .int x), (2, .int y)] := hl
  have hS : va_S A s.heap s.heap [] := va_S.rf
  have hN20 := hO.2.1
  have hHA : ∀ q, HR N ah ga q → A q := fun q h => HR.mem hW h
  refine lv_aload_n hx hb dX0_alone_0 rfl (lv_at hl 0 rfl) ?_
  refine lv_iload_n hx hb dX0_alone_1 rfl (lv_at hl 1 rfl) ?_
  refine cv_R1 (rest := []) hc (D_isGap l hDW hW x) (lw_V q423 q425 qs3 q67 q426) nd_X0_isGap ⟨Nat.le_of_ble_eq_true rfl, Nat.le_of_ble_eq_true rfl⟩ (DW.recv hK hDW) rfl hl.1 rfl (Nat.le_of_ble_eq_true rfl) dX0_alone_2 ⟨Nat.le_of_ble_eq_true rfl, Nat.le_of_ble_eq_true rfl⟩ ?_
  refine bi_eq (tgt := 25) hx hb dX0_alone_5 (by decide) (fun c_491 => ?_) (fun c_491 => ?_)
  · refine lv_iconst (v := 0) hx hb dX0_alone_25 (by decide) ?_
    refine lv_iconst (v := 0) hx hb dX0_alone_26 (by decide) ?_
    refine cs_T (rest := []) hc (D_need_no l hF.1 hDW.2.1 hDW.gle (x := 0) rfl 0) q207 q208 q67 q209 nd_X0_need ⟨Nat.le_of_ble_eq_true rfl, Nat.le_of_ble_eq_true rfl⟩ rfl hl.1 rfl (Nat.le_of_ble_eq_true rfl) dX0_alone_27 ⟨Nat.le_of_ble_eq_true rfl, Nat.le_of_ble_eq_true rfl⟩ hS (fun q h => hAb q (Nat.le_trans hS.1 h)) (fun ex H locs hq hS hz hk1 => ?_)
    obtain ⟨hexn, hex, hsz⟩ := hq
    have hne : ex ≠ ad 3 := by have := hDW.lt (r := 3) (fun z => by cases z); omega
    have hDW := hDW.aftM hk1
    have hW := hW.aftM hk1
    refine ct_find (pre := []) (post := []) (y := ⟨0, 85, 86, 1⟩) hc htab (by decide) (by decide) rfl hex ?_
    refine lv_astore_n (lv' := [(3, .ref ex), (0, .ref (ad 0)), (1, .int x), (2, .int y)]) hx hb dX0_alone_86 rfl hl (by decide) rfl (fun ls hl => ?_)
    refine lv_aload_n hx hb dX0_alone_87 rfl (lv_at hl 1 rfl) ?_
    refine lv_aload_n hx hb dX0_alone_88 rfl (lv_at hl 0 rfl) ?_
    refine cv_W1 (rest := []) hc (D_X0finds l hDW hex hne (k := 0) rfl (by decide)) (lw_V q277 q279 qs1 q67 q280) nd_X0_finds ⟨Nat.le_of_ble_eq_true rfl, Nat.le_of_ble_eq_true rfl⟩ (DW.recv hK hDW) rfl hl.1 rfl (Nat.le_of_ble_eq_true rfl) dX0_alone_89 ⟨Nat.le_of_ble_eq_true rfl, Nat.le_of_ble_eq_true rfl⟩ hS (fun _ h => h) (fun H locs hq hS hz hk1 => ?_)
    obtain ⟨hDW, hf3⟩ := hq
    have hW := hW.aftD (hdj 3 (Or.inl (by decide))) (hDW.1 _ (hDW.mem (r := 3) rfl)) hf3
    have hsp_492 : aloneM f x y = (-1000000001, cntP f 0) := by simp only [aloneM, if_neg c_491]
    refine w_more (cells' := 100) (slots' := 1000) (Nat.le_of_ble_eq_true rfl) (Nat.le_of_ble_eq_true rfl) ?_
    exact ri_W hx hb hr hlk hS (by rw [hsp_492]; show (-1000000001 - 0 : Int32) = -1000000001; decide) (by rw [hsp_492]; exact DC.mk' rfl hO hDW hcok hW hdj) dX0_alone_92
  · refine lv_aload_n hx hb dX0_alone_8 rfl (lv_at hl 0 rfl) ?_
    refine lv_iload_n hx hb dX0_alone_9 rfl (lv_at hl 2 rfl) ?_
    refine cv_R1 (rest := []) hc (D_isGap l hDW hW y) (lw_V q423 q425 qs3 q67 q426) nd_X0_isGap ⟨Nat.le_of_ble_eq_true rfl, Nat.le_of_ble_eq_true rfl⟩ (DW.recv hK hDW) rfl hl.1 rfl (Nat.le_of_ble_eq_true rfl) dX0_alone_10 ⟨Nat.le_of_ble_eq_true rfl, Nat.le_of_ble_eq_true rfl⟩ ?_
    refine bi_eq (tgt := 25) hx hb dX0_alone_13 (by decide) (fun c_493 => ?_) (fun c_493 => ?_)
    · refine lv_iconst (v := 0) hx hb dX0_alone_25 (by decide) ?_
      refine lv_iconst (v := 0) hx hb dX0_alone_26 (by decide) ?_
      refine cs_T (rest := []) hc (D_need_no l hF.1 hDW.2.1 hDW.gle (x := 0) rfl 0) q207 q208 q67 q209 nd_X0_need ⟨Nat.le_of_ble_eq_true rfl, Nat.le_of_ble_eq_true rfl⟩ rfl hl.1 rfl (Nat.le_of_ble_eq_true rfl) dX0_alone_27 ⟨Nat.le_of_ble_eq_true rfl, Nat.le_of_ble_eq_true rfl⟩ hS (fun q h => hAb q (Nat.le_trans hS.1 h)) (fun ex H locs hq hS hz hk1 => ?_)
      obtain ⟨hexn, hex, hsz⟩ := hq
      have hne : ex ≠ ad 3 := by have := hDW.lt (r := 3) (fun z => by cases z); omega
      have hDW := hDW.aftM hk1
      have hW := hW.aftM hk1
      refine ct_find (pre := []) (post := []) (y := ⟨0, 85, 86, 1⟩) hc htab (by decide) (by decide) rfl hex ?_
      refine lv_astore_n (lv' := [(3, .ref ex), (0, .ref (ad 0)), (1, .int x), (2, .int y)]) hx hb dX0_alone_86 rfl hl (by decide) rfl (fun ls hl => ?_)
      refine lv_aload_n hx hb dX0_alone_87 rfl (lv_at hl 1 rfl) ?_
      refine lv_aload_n hx hb dX0_alone_88 rfl (lv_at hl 0 rfl) ?_
      refine cv_W1 (rest := []) hc (D_X0finds l hDW hex hne (k := 0) rfl (by decide)) (lw_V q277 q279 qs1 q67 q280) nd_X0_finds ⟨Nat.le_of_ble_eq_true rfl, Nat.le_of_ble_eq_true rfl⟩ (DW.recv hK hDW) rfl hl.1 rfl (Nat.le_of_ble_eq_true rfl) dX0_alone_89 ⟨Nat.le_of_ble_eq_true rfl, Nat.le_of_ble_eq_true rfl⟩ hS (fun _ h => h) (fun H locs hq hS hz hk1 => ?_)
      obtain ⟨hDW, hf3⟩ := hq
      have hW := hW.aftD (hdj 3 (Or.inl (by decide))) (hDW.1 _ (hDW.mem (r := 3) rfl)) hf3
      have hsp_494 : aloneM f x y = (-1000000001, cntP f 0) := by simp only [aloneM, if_pos c_491, if_neg c_493]
      refine w_more (cells' := 100) (slots' := 1000) (Nat.le_of_ble_eq_true rfl) (Nat.le_of_ble_eq_true rfl) ?_
      exact ri_W hx hb hr hlk hS (by rw [hsp_494]; show (-1000000001 - 0 : Int32) = -1000000001; decide) (by rw [hsp_494]; exact DC.mk' rfl hO hDW hcok hW hdj) dX0_alone_92
    · refine lv_iload_n hx hb dX0_alone_16 rfl (lv_at hl 1 rfl) ?_
      refine lv_iload_n hx hb dX0_alone_17 rfl (lv_at hl 2 rfl) ?_
      refine lv_icmp_eq (tgt := 25) hx hb dX0_alone_18 (by decide) (fun c_495 => ?_) (fun c_495 => ?_)
      · refine lv_iconst (v := 0) hx hb dX0_alone_25 (by decide) ?_
        refine lv_iconst (v := 0) hx hb dX0_alone_26 (by decide) ?_
        refine cs_T (rest := []) hc (D_need_no l hF.1 hDW.2.1 hDW.gle (x := 0) rfl 0) q207 q208 q67 q209 nd_X0_need ⟨Nat.le_of_ble_eq_true rfl, Nat.le_of_ble_eq_true rfl⟩ rfl hl.1 rfl (Nat.le_of_ble_eq_true rfl) dX0_alone_27 ⟨Nat.le_of_ble_eq_true rfl, Nat.le_of_ble_eq_true rfl⟩ hS (fun q h => hAb q (Nat.le_trans hS.1 h)) (fun ex H locs hq hS hz hk1 => ?_)
        obtain ⟨hexn, hex, hsz⟩ := hq
        have hne : ex ≠ ad 3 := by have := hDW.lt (r := 3) (fun z => by cases z); omega
        have hDW := hDW.aftM hk1
        have hW := hW.aftM hk1
        refine ct_find (pre := []) (post := []) (y := ⟨0, 85, 86, 1⟩) hc htab (by decide) (by decide) rfl hex ?_
        refine lv_astore_n (lv' := [(3, .ref ex), (0, .ref (ad 0)), (1, .int x), (2, .int y)]) hx hb dX0_alone_86 rfl hl (by decide) rfl (fun ls hl => ?_)
        refine lv_aload_n hx hb dX0_alone_87 rfl (lv_at hl 1 rfl) ?_
        refine lv_aload_n hx hb dX0_alone_88 rfl (lv_at hl 0 rfl) ?_
        refine cv_W1 (rest := []) hc (D_X0finds l hDW hex hne (k := 0) rfl (by decide)) (lw_V q277 q279 qs1 q67 q280) nd_X0_finds ⟨Nat.le_of_ble_eq_true rfl, Nat.le_of_ble_eq_true rfl⟩ (DW.recv hK hDW) rfl hl.1 rfl (Nat.le_of_ble_eq_true rfl) dX0_alone_89 ⟨Nat.le_of_ble_eq_true rfl, Nat.le_of_ble_eq_true rfl⟩ hS (fun _ h => h) (fun H locs hq hS hz hk1 => ?_)
        obtain ⟨hDW, hf3⟩ := hq
        have hW := hW.aftD (hdj 3 (Or.inl (by decide))) (hDW.1 _ (hDW.mem (r := 3) rfl)) hf3
        have hsp_496 : aloneM f x y = (-1000000001, cntP f 0) := by simp only [aloneM, if_pos c_491, if_pos c_493, if_pos c_495]
        refine w_more (cells' := 100) (slots' := 1000) (Nat.le_of_ble_eq_true rfl) (Nat.le_of_ble_eq_true rfl) ?_
        exact ri_W hx hb hr hlk hS (by rw [hsp_496]; show (-1000000001 - 0 : Int32) = -1000000001; decide) (by rw [hsp_496]; exact DC.mk' rfl hO hDW hcok hW hdj) dX0_alone_92
      · refine lv_iconst (v := 1) hx hb dX0_alone_21 (by decide) ?_
        refine lv_goto (tgt := 26) hx hb dX0_alone_22 (by decide) ?_
        refine lv_iconst (v := 0) hx hb dX0_alone_26 (by decide) ?_
        refine cs_R0 (rest := []) hc (D_need_ok l (by decide) 0) (lw_S q207 q208 q67 q209) nd_X0_need ⟨Nat.le_of_ble_eq_true rfl, Nat.le_of_ble_eq_true rfl⟩ rfl hl.1 rfl (Nat.le_of_ble_eq_true rfl) dX0_alone_27 ⟨Nat.le_of_ble_eq_true rfl, Nat.le_of_ble_eq_true rfl⟩ ?_
        obtain ⟨i, hi, rfl⟩ := hO.exGap c_491
        have hcl_i : (nI i).toNatClampNeg = i := nI_clamp (by omega)
        obtain ⟨j, hj, rfl⟩ := hO.exGap c_493
        have hcl_j : (nI j).toNatClampNeg = j := nI_clamp (by omega)
        refine lv_aload_n hx hb dX0_alone_30 rfl (lv_at hl 0 rfl) ?_
        refine d_get hc hDW 0 (by decide) q161 rfl rfl dX0_alone_31 ?_
        refine lv_iload_n hx hb dX0_alone_34 rfl (lv_at hl 1 rfl) ?_
        refine cv_W1 (rest := []) hc (D_flow l hF (HS.toR ⟨u, hv, hcok, hW⟩) hO i hi) (lw_V q757 q758 q759 q68 q760) nd_X1_flow ⟨Nat.le_of_ble_eq_true rfl, Nat.le_of_ble_eq_true rfl⟩ (HW.recv hK hW) rfl hl.1 rfl (Nat.le_of_ble_eq_true rfl) dX0_alone_35 ⟨Nat.le_of_ble_eq_true rfl, Nat.le_of_ble_eq_true rfl⟩ hS hHA (fun H locs hq hS hz hk1 => ?_)
        have hDW := hDW.aftC hdj hHA hk1
        obtain ⟨u, hv, hcok, hW⟩ := HS.ofR hq hW.1 hHA
        refine lv_istore_n (lv' := [(3, .int (flowP (f 0) i)), (0, .ref (ad 0)), (1, .int (nI i)), (2, .int (nI j))]) hx hb dX0_alone_38 rfl hl (by decide) rfl (fun ls hl => ?_)
        refine lv_aload_n hx hb dX0_alone_39 rfl (lv_at hl 1 rfl) ?_
        refine d_get hc hDW 0 (by decide) q161 rfl rfl dX0_alone_40 ?_
        refine lv_iload_n hx hb dX0_alone_43 rfl (lv_at hl 3 rfl) ?_
        refine lv_iconst (v := 1) hx hb dX0_alone_44 (by decide) ?_
        refine cv_W1 (rest := []) hc (D_shuts l hF (HS.toR ⟨u, hv, hcok, hW⟩) hO j hj (Or.inr rfl)) (lw_V q518 q519 q520 q68 q521) nd_X1_shuts ⟨Nat.le_of_ble_eq_true rfl, Nat.le_of_ble_eq_true rfl⟩ (HW.recv hK hW) rfl hl.1 rfl (Nat.le_of_ble_eq_true rfl) dX0_alone_45 ⟨Nat.le_of_ble_eq_true rfl, Nat.le_of_ble_eq_true rfl⟩ hS hHA (fun H locs hq hS hz hk1 => ?_)
        have hDW := hDW.aftC hdj hHA hk1
        obtain ⟨u, hv, hcok, hW⟩ := HS.ofR hq hW.1 hHA
        have hO_497 := OkN_shut (i := j) hO (Or.inr rfl)
        refine lv_istore (lv' := [(4, .int (b2i ((f 0) (gp j 7) = 1))), (3, .int (flowP (f 0) i)), (0, .ref (ad 0)), (1, .int (nI i)), (2, .int (nI j))]) hx hb dX0_alone_48 hl (by decide) rfl (fun ls hl => ?_)
        refine lv_aload_n hx hb dX0_alone_50 rfl (lv_at hl 2 rfl) ?_
        refine d_get hc hDW 0 (by decide) q161 rfl rfl dX0_alone_51 ?_
        refine lv_iload_n hx hb dX0_alone_54 rfl (lv_at hl 3 rfl) ?_
        refine cv_W1 (rest := []) hc (D_flow l hF (HS.toR ⟨u, hv, hcok, hW⟩) hO_497 i hi) (lw_V q757 q758 q759 q68 q760) nd_X1_flow ⟨Nat.le_of_ble_eq_true rfl, Nat.le_of_ble_eq_true rfl⟩ (HW.recv hK hW) rfl hl.1 rfl (Nat.le_of_ble_eq_true rfl) dX0_alone_55 ⟨Nat.le_of_ble_eq_true rfl, Nat.le_of_ble_eq_true rfl⟩ hS hHA (fun H locs hq hS hz hk1 => ?_)
        have hDW := hDW.aftC hdj hHA hk1
        obtain ⟨u, hv, hcok, hW⟩ := HS.ofR hq hW.1 hHA
        refine lv_iload_n hx hb dX0_alone_58 rfl (lv_at hl 1 rfl) ?_
        refine lv_isub hx hb dX0_alone_59 ?_
        refine lv_istore (lv' := [(5, .int ((flowP (upd (f 0) (gp j 7) 1) i) - (flowP (f 0) i))), (4, .int (b2i ((f 0) (gp j 7) = 1))), (3, .int (flowP (f 0) i)), (0, .ref (ad 0)), (1, .int (nI i)), (2, .int (nI j))]) hx hb dX0_alone_60 hl (by decide) rfl (fun ls hl => ?_)
        refine lv_aload_n hx hb dX0_alone_62 rfl (lv_at hl 3 rfl) ?_
        refine d_get hc hDW 0 (by decide) q161 rfl rfl dX0_alone_63 ?_
        refine lv_iload_n hx hb dX0_alone_66 rfl (lv_at hl 5 rfl) ?_
        refine lv_iload hx hb dX0_alone_67 (lv_at hl 1 rfl) ?_
        refine cv_W1 (rest := []) hc (D_shuts l hF (HS.toR ⟨u, hv, hcok, hW⟩) hO_497 j hj (b2i01 (P := (f 0) (gp j 7) = 1))) (lw_V q518 q519 q520 q68 q521) nd_X1_shuts ⟨Nat.le_of_ble_eq_true rfl, Nat.le_of_ble_eq_true rfl⟩ (HW.recv hK hW) rfl hl.1 rfl (Nat.le_of_ble_eq_true rfl) dX0_alone_69 ⟨Nat.le_of_ble_eq_true rfl, Nat.le_of_ble_eq_true rfl⟩ hS hHA (fun H locs hq hS hz hk1 => ?_)
        have hDW := hDW.aftC hdj hHA hk1
        obtain ⟨u, hv, hcok, hW⟩ := HS.ofR hq hW.1 hHA
        have hO_498 := OkN_shut (i := j) hO_497 (b2i01 (P := (f 0) (gp j 7) = 1))
        refine sm_topi (v := 1) (b2i_t upd_at) ?_
        refine lv_istore (lv' := [(6, .int 1), (5, .int ((flowP (upd (f 0) (gp j 7) 1) i) - (flowP (f 0) i))), (4, .int (b2i ((f 0) (gp j 7) = 1))), (3, .int (flowP (f 0) i)), (0, .ref (ad 0)), (1, .int (nI i)), (2, .int (nI j))]) hx hb dX0_alone_72 hl (by decide) rfl (fun ls hl => ?_)
        refine lv_iload hx hb dX0_alone_74 (lv_at hl 0 rfl) ?_
        refine lv_if_eq (tgt := 84) hx hb dX0_alone_76 (by decide) (fun h => absurd h (by decide)) (fun _ => ?_)
        refine lv_iload hx hb dX0_alone_79 (lv_at hl 1 rfl) ?_
        refine lv_goto (tgt := 85) hx hb dX0_alone_81 (by decide) ?_
        have hsp_499 : aloneM f (nI i) (nI j) = ((flowP (upd (f 0) (gp j 7) 1) i) - (flowP (f 0) i), f) := by simp only [aloneM, hcl_i, hcl_j, if_pos c_491, if_pos c_493, if_neg c_495]
        refine w_more (cells' := 100) (slots' := 1000) (Nat.le_of_ble_eq_true rfl) (Nat.le_of_ble_eq_true rfl) ?_
        exact ri_W hx hb hr hlk hS (by rw [hsp_499]) (by rw [hsp_499]; exact DC.mk' (upd_back (bz_eq (hO.gap hj).2.2.2.2.2.2.2.2)) hO_498 hDW hcok hW hdj) dX0_alone_85
theorem nd_X0_turns : yX0_turns.cls = "SmokeLeans" ∧ yX0_turns.cls ≠ "java/lang/invoke/MethodHandle" ∧ yX0_turns.cls ≠ "java/lang/invoke/VarHandle" ∧ (parseMethodDescriptor yX0_turns.desc).map (fun d => d.parameters.length) = some 1 := by decide +kernel
set_option maxHeartbeats 4000000 in
theorem O_turns (l : Launch) {G : GD} {A : Nat → Prop} {f : Nat → Nat → Int32} {g : Nat → Nat → Int64} {xo hk ht : Nat} {H0 : Heap} (hF : FG G) (hC : DC G A f g xo hk ht H0) (hAb : ∀ q, H0.size ≤ q → A q) (x : Int32) : MetH l G yX0_turns cX0_turns 5 (some .int) [((0), (122), (123), (1))] 9 100 1000 A [.ref xo, .int x] H0 (some (.int (turnsM f x).1)) (fun H => DC G A (turnsM f x).2 g xo hk ht H) := by
  refine mw_of (hh := [((0), (122), (123), (1))]) (by decide) (Nat.le_of_ble_eq_true rfl) ?_
  intro p e s m below meth c hx hb hr hc hlk hnm htab hs0 ls hl
  subst hs0
  have hown := hc.2.2.2.1
  have hts := hc.2.2.2.2.1
  have hK := hc.2.2.2.2.2
  obtain ⟨b, ad, ah, ga, N, R, rfl, hO, hDW, ⟨u, hv, hcok, hW⟩, hdj⟩ := hC
  have hl : lv_has ls 5 [(0, .ref (ad 0)), (1, .int x)] := hl
  have hS : va_S A s.heap s.heap [] := va_S.rf
  have hN20 := hO.2.1
  have hHA : ∀ q, HR N ah ga q → A q := fun q h => HR.mem hW h
  refine lv_aload_n hx hb dX0_turns_0 rfl (lv_at hl 0 rfl) ?_
  refine lv_iload_n hx hb dX0_turns_1 rfl (lv_at hl 1 rfl) ?_
  refine cv_R1 (rest := []) hc (D_isGap l hDW hW x) (lw_V q423 q425 qs3 q67 q426) nd_X0_isGap ⟨Nat.le_of_ble_eq_true rfl, Nat.le_of_ble_eq_true rfl⟩ (DW.recv hK hDW) rfl hl.1 rfl (Nat.le_of_ble_eq_true rfl) dX0_turns_2 ⟨Nat.le_of_ble_eq_true rfl, Nat.le_of_ble_eq_true rfl⟩ ?_
  refine lv_iconst (v := 0) hx hb dX0_turns_5 (by decide) ?_
  by_cases c_500 : 0 ≤ x ∧ x ≤ (f 0) 1 - 1
  · refine cs_R0 (rest := []) hc (D_need_ok l (x := b2i (0 ≤ x ∧ x ≤ (f 0) 1 - 1)) (by rw [b2i_t c_500]; decide) 0) (lw_S q207 q208 q67 q209) nd_X0_need ⟨Nat.le_of_ble_eq_true rfl, Nat.le_of_ble_eq_true rfl⟩ rfl hl.1 rfl (Nat.le_of_ble_eq_true rfl) dX0_turns_6 ⟨Nat.le_of_ble_eq_true rfl, Nat.le_of_ble_eq_true rfl⟩ ?_
    obtain ⟨i0, hi0, rfl⟩ := hO.exGap c_500
    have hcl_i0 : (nI i0).toNatClampNeg = i0 := nI_clamp (by omega)
    refine lv_iconst (v := 0) hx hb dX0_turns_9 (by decide) ?_
    refine lv_istore_n (lv' := [(2, .int 0), (0, .ref (ad 0)), (1, .int (nI i0))]) hx hb dX0_turns_10 rfl hl (by decide) rfl (fun ls hl => ?_)
    refine w_loopH (σ := Nat) (fun i H locs cells slots fr => cells = 0 ∧ slots = 0 ∧ (∃ ls, fr = F0 m 11 ls [] ∧ lv_has ls 5 [(2, .int (nI i)), (1, .int (nI i0)), (0, .ref (ad 0))]) ∧ va_S A s.heap H locs ∧ (i ≤ N ∧ ∃ b1 u hv, (∀ j, j < i → b1 4 j = leanP (f 0) j) ∧ HCok (f 0) u ∧ HW G A N (f 0) u hv ah ga H ∧ DW G A f g (b1) (ah 0) hk ht ad H)) (fun i => N - i) 0 ⟨rfl, rfl, ⟨ls, rfl, lv_sub hl [0, 2, 1] rfl⟩, hS, ⟨Nat.zero_le _, b, u, hv, fun j hj => absurd hj (Nat.not_lt_zero j), hcok, hW, hDW⟩⟩ ?_
    intro i H locs cells slots fr hI ih
    obtain ⟨rfl, rfl, ⟨ls, rfl, hl⟩, hS, ⟨hiN, b1, u, hv, hb1, hcok, hW, hDW⟩⟩ := hI
    by_cases hi : i < N
    · refine lv_iload_n hx hb dX0_turns_11 rfl (lv_at hl 0 rfl) ?_
      refine lv_aload_n hx hb dX0_turns_12 rfl (lv_at hl 2 rfl) ?_
      refine d_get hc hDW 0 (by decide) q161 rfl rfl dX0_turns_13 ?_
      refine h_get hc hW 1 (by decide) rfl q124 rfl rfl dX0_turns_16 ?_
      refine sm_topi (v := nI N) hO.2.2.2.1 ?_
      refine lv_icmp_ge (tgt := 42) hx hb dX0_turns_19 (by decide) (fun h => absurd h (nI_ge hi (by omega))) (fun _ => ?_)
      refine lv_aload_n hx hb dX0_turns_22 rfl (lv_at hl 2 rfl) ?_
      refine d_get hc hDW 12 (by decide) q173 rfl rfl dX0_turns_23 ?_
      refine lv_iload_n hx hb dX0_turns_26 rfl (lv_at hl 0 rfl) ?_
      refine lv_aload_n hx hb dX0_turns_27 rfl (lv_at hl 2 rfl) ?_
      refine d_get hc hDW 0 (by decide) q161 rfl rfl dX0_turns_28 ?_
      refine lv_iload_n hx hb dX0_turns_31 rfl (lv_at hl 0 rfl) ?_
      refine cv_W1 (rest := [.int (nI i), .ref (ad 5)]) hc (D_lean l hF (HS.toR ⟨u, hv, hcok, hW⟩) hO i hi) (lw_V q765 q766 q767 q68 q768) nd_X1_lean ⟨Nat.le_of_ble_eq_true rfl, Nat.le_of_ble_eq_true rfl⟩ (HW.recv hK hW) rfl hl.1 rfl (Nat.le_of_ble_eq_true rfl) dX0_turns_32 ⟨Nat.le_of_ble_eq_true rfl, Nat.le_of_ble_eq_true rfl⟩ hS hHA (fun H locs hq hS hz hk1 => ?_)
      have hDW := hDW.aftC hdj hHA hk1
      obtain ⟨u, hv, hcok, hW⟩ := HS.ofR hq hW.1 hHA
      refine d_bst hc hDW hS 4 (by decide) (ix_nI (by omega) (by decide)) dX0_turns_35 (fun H locs hDW hS hz oq => ?_)
      have hW := hW.aftD (hdj 5 (Or.inl (by decide))) (hDW.1 _ (hDW.mem (r := 5) rfl)) oq
      refine lv_iinc (v := nI (i + 1)) (lv' := [(2, .int (nI (i + 1))), (1, .int (nI i0)), (0, .ref (ad 0))]) hx hb dX0_turns_36 hl (k := 0) rfl (nI_1 _) (by decide) rfl (fun ls hl => ?_)
      refine lv_goto (tgt := 11) hx hb dX0_turns_39 (by decide) ?_
      refine ih (i + 1) _ _ _ _ _ ⟨rfl, rfl, ⟨ls, rfl, lv_sub hl [0, 1, 2] rfl⟩, hS, hi, _, u, hv, fun j hj => ?_, hcok, hW, hDW⟩ (by omega)
      by_cases hji : j = i
      · subst hji; exact up2_at
      · rw [up2_ne2 hji]; exact hb1 j (by omega)
    · have hiE : N = i := by omega
      subst hiE
      refine lv_iload_n hx hb dX0_turns_11 rfl (lv_at hl 0 rfl) ?_
      refine lv_aload_n hx hb dX0_turns_12 rfl (lv_at hl 2 rfl) ?_
      refine d_get hc hDW 0 (by decide) q161 rfl rfl dX0_turns_13 ?_
      refine h_get hc hW 1 (by decide) rfl q124 rfl rfl dX0_turns_16 ?_
      refine sm_topi (v := nI N) hO.2.2.2.1 ?_
      refine lv_icmp_ge (tgt := 42) hx hb dX0_turns_19 (by decide) (fun _ => ?_) (fun h => absurd (nI_le (by omega) (by omega)) h)
      refine lv_aload_n hx hb dX0_turns_42 rfl (lv_at hl 2 rfl) ?_
      refine d_get hc hDW 0 (by decide) q161 rfl rfl dX0_turns_43 ?_
      refine lv_iload_n hx hb dX0_turns_46 rfl (lv_at hl 1 rfl) ?_
      refine lv_iconst (v := 1) hx hb dX0_turns_47 (by decide) ?_
      refine cv_W1 (rest := []) hc (D_shuts l hF (HS.toR ⟨u, hv, hcok, hW⟩) hO i0 hi0 (Or.inr rfl)) (lw_V q518 q519 q520 q68 q521) nd_X1_shuts ⟨Nat.le_of_ble_eq_true rfl, Nat.le_of_ble_eq_true rfl⟩ (HW.recv hK hW) rfl hl.1 rfl (Nat.le_of_ble_eq_true rfl) dX0_turns_48 ⟨Nat.le_of_ble_eq_true rfl, Nat.le_of_ble_eq_true rfl⟩ hS hHA (fun H locs hq hS hz hk1 => ?_)
      have hDW := hDW.aftC hdj hHA hk1
      obtain ⟨u, hv, hcok, hW⟩ := HS.ofR hq hW.1 hHA
      have hO_501 := OkN_shut (i := i0) hO (Or.inr rfl)
      refine lv_istore_n (lv' := [(2, .int (b2i ((f 0) (gp i0 7) = 1))), (1, .int (nI i0)), (0, .ref (ad 0))]) hx hb dX0_turns_51 rfl hl (by decide) rfl (fun ls hl => ?_)
      refine lv_iconst (v := 0) hx hb dX0_turns_52 (by decide) ?_
      refine lv_istore_n (lv' := [(3, .int 0), (2, .int (b2i ((f 0) (gp i0 7) = 1))), (1, .int (nI i0)), (0, .ref (ad 0))]) hx hb dX0_turns_53 rfl hl (by decide) rfl (fun ls hl => ?_)
      refine lv_iconst (v := 0) hx hb dX0_turns_54 (by decide) ?_
      refine lv_istore (lv' := [(4, .int 0), (3, .int 0), (2, .int (b2i ((f 0) (gp i0 7) = 1))), (1, .int (nI i0)), (0, .ref (ad 0))]) hx hb dX0_turns_55 hl (by decide) rfl (fun ls hl => ?_)
      refine w_loopH (σ := Nat) (fun i H locs cells slots fr => cells = 0 ∧ slots = 0 ∧ (∃ ls, fr = F0 m 57 ls [] ∧ lv_has ls 5 [(4, .int (nI i)), (3, .int (trN (f 0) (upd (f 0) (gp i0 7) 1) i)), (2, .int (b2i (f 0 (gp i0 7) = 1))), (1, .int (nI i0)), (0, .ref (ad 0))]) ∧ va_S A s.heap H locs ∧ (i ≤ N ∧ ∃ u hv, HCok (upd (f 0) (gp i0 7) 1) u ∧ HW G A N (upd (f 0) (gp i0 7) 1) u hv ah ga H ∧ DW G A f g (b1) (ah 0) hk ht ad H)) (fun i => N - i) 0 ⟨rfl, rfl, ⟨ls, rfl, lv_sub hl [0, 1, 2, 3, 4] rfl⟩, hS, ⟨Nat.zero_le _, u, hv, hcok, hW, hDW⟩⟩ ?_
      intro i H locs cells slots fr hI ih
      obtain ⟨rfl, rfl, ⟨ls, rfl, hl⟩, hS, ⟨hiN, u, hv, hcok, hW, hDW⟩⟩ := hI
      by_cases hi : i < N
      · refine lv_iload hx hb dX0_turns_57 (lv_at hl 0 rfl) ?_
        refine lv_aload_n hx hb dX0_turns_59 rfl (lv_at hl 4 rfl) ?_
        refine d_get hc hDW 0 (by decide) q161 rfl rfl dX0_turns_60 ?_
        refine h_get hc hW 1 (by decide) rfl q124 rfl rfl dX0_turns_63 ?_
        refine sm_topi (v := nI N) hO_501.2.2.2.1 ?_
        refine lv_icmp_ge (tgt := 102) hx hb dX0_turns_66 (by decide) (fun h => absurd h (nI_ge hi (by omega))) (fun _ => ?_)
        refine lv_aload_n hx hb dX0_turns_69 rfl (lv_at hl 4 rfl) ?_
        refine d_get hc hDW 12 (by decide) q173 rfl rfl dX0_turns_70 ?_
        refine lv_iload hx hb dX0_turns_73 (lv_at hl 0 rfl) ?_
        refine h_ild hc hDW.ln (ix_nI (by omega) (by decide)) dX0_turns_75 ?_
        refine sm_topi (v := leanP (f 0) i) (hb1 i hi) ?_
        refine lv_aload_n hx hb dX0_turns_76 rfl (lv_at hl 4 rfl) ?_
        refine d_get hc hDW 0 (by decide) q161 rfl rfl dX0_turns_77 ?_
        refine lv_iload hx hb dX0_turns_80 (lv_at hl 0 rfl) ?_
        refine cv_W1 (rest := [.int (leanP (f 0) i)]) hc (D_lean l hF (HS.toR ⟨u, hv, hcok, hW⟩) hO_501 i hi) (lw_V q765 q766 q767 q68 q768) nd_X1_lean ⟨Nat.le_of_ble_eq_true rfl, Nat.le_of_ble_eq_true rfl⟩ (HW.recv hK hW) rfl hl.1 rfl (Nat.le_of_ble_eq_true rfl) dX0_turns_82 ⟨Nat.le_of_ble_eq_true rfl, Nat.le_of_ble_eq_true rfl⟩ hS hHA (fun H locs hq hS hz hk1 => ?_)
        have hDW := hDW.aftC hdj hHA hk1
        obtain ⟨u, hv, hcok, hW⟩ := HS.ofR hq hW.1 hHA
        refine lv_imul hx hb dX0_turns_85 ?_
        refine lv_if_ge (tgt := 96) hx hb dX0_turns_86 (by decide) (fun c_502 => ?_) (fun c_502 => ?_)
        · refine lv_iinc (v := nI (i + 1)) (lv' := [(4, .int (nI (i + 1))), (3, .int (trN (f 0) (upd (f 0) (gp i0 7) 1) i)), (2, .int (b2i (f 0 (gp i0 7) = 1))), (1, .int (nI i0)), (0, .ref (ad 0))]) hx hb dX0_turns_96 hl (k := 0) rfl (nI_1 _) (by decide) rfl (fun ls hl => ?_)
          refine lv_goto (tgt := 57) hx hb dX0_turns_99 (by decide) ?_
          refine ih (i + 1) _ _ _ _ _ ⟨rfl, rfl, ⟨ls, rfl, ?_⟩, hS, hi, u, hv, hcok, hW, hDW⟩ (by omega)
          rw [tr_a c_502]
          exact lv_sub hl [0, 1, 2, 3, 4] rfl
        · refine lv_iload_n hx hb dX0_turns_89 rfl (lv_at hl 1 rfl) ?_
          refine lv_iconst (v := 1) hx hb dX0_turns_90 (by decide) ?_
          refine lv_iload hx hb dX0_turns_91 (lv_at hl 0 rfl) ?_
          refine lv_ishl hx hb dX0_turns_93 ?_
          refine lv_ior hx hb dX0_turns_94 ?_
          refine lv_istore_n (lv' := [(3, .int ((trN (f 0) (upd (f 0) (gp i0 7) 1) i) ||| (1 <<< ((nI i) &&& 31)))), (4, .int (nI i)), (2, .int (b2i (f 0 (gp i0 7) = 1))), (1, .int (nI i0)), (0, .ref (ad 0))]) hx hb dX0_turns_95 rfl hl (by decide) rfl (fun ls hl => ?_)
          refine lv_iinc (v := nI (i + 1)) (lv' := [(4, .int (nI (i + 1))), (3, .int ((trN (f 0) (upd (f 0) (gp i0 7) 1) i) ||| (1 <<< ((nI i) &&& 31)))), (2, .int (b2i (f 0 (gp i0 7) = 1))), (1, .int (nI i0)), (0, .ref (ad 0))]) hx hb dX0_turns_96 hl (k := 1) rfl (nI_1 _) (by decide) rfl (fun ls hl => ?_)
          refine lv_goto (tgt := 57) hx hb dX0_turns_99 (by decide) ?_
          refine ih (i + 1) _ _ _ _ _ ⟨rfl, rfl, ⟨ls, rfl, ?_⟩, hS, hi, u, hv, hcok, hW, hDW⟩ (by omega)
          rw [tr_b c_502]
          exact lv_sub hl [0, 1, 2, 3, 4] rfl
      · have hiE : N = i := by omega
        subst hiE
        refine lv_iload hx hb dX0_turns_57 (lv_at hl 0 rfl) ?_
        refine lv_aload_n hx hb dX0_turns_59 rfl (lv_at hl 4 rfl) ?_
        refine d_get hc hDW 0 (by decide) q161 rfl rfl dX0_turns_60 ?_
        refine h_get hc hW 1 (by decide) rfl q124 rfl rfl dX0_turns_63 ?_
        refine sm_topi (v := nI N) hO_501.2.2.2.1 ?_
        refine lv_icmp_ge (tgt := 102) hx hb dX0_turns_66 (by decide) (fun _ => ?_) (fun h => absurd (nI_le (by omega) (by omega)) h)
        refine lv_aload_n hx hb dX0_turns_102 rfl (lv_at hl 4 rfl) ?_
        refine d_get hc hDW 0 (by decide) q161 rfl rfl dX0_turns_103 ?_
        refine lv_iload_n hx hb dX0_turns_106 rfl (lv_at hl 3 rfl) ?_
        refine cv_R1 (rest := []) hc (D_hgap l hF hW hO_501 i0 hi0) (lw_V q428 q429 q430 q68 q431) nd_X1_gap ⟨Nat.le_of_ble_eq_true rfl, Nat.le_of_ble_eq_true rfl⟩ (HW.recv hK hW) rfl hl.1 rfl (Nat.le_of_ble_eq_true rfl) dX0_turns_107 ⟨Nat.le_of_ble_eq_true rfl, Nat.le_of_ble_eq_true rfl⟩ ?_
        refine lv_iload_n hx hb dX0_turns_110 rfl (lv_at hl 2 rfl) ?_
        refine h_gput hc hW hS hi0 (hO_501.gap hi0).kd.1 6 7 (by decide) (by decide) gfs_6 q332 rfl rfl b2i_nar b2i_fit dX0_turns_111 (fun H locs hW hS hz oq => ?_)
        have hOb := OkN_shut (i := i0) hO_501 (b2i01 (P := f 0 (gp i0 7) = 1))
        have hDW := hDW.aftH hdj hHA (HR.g hi0) oq
        refine lv_aload_n hx hb dX0_turns_114 rfl (lv_at hl 4 rfl) ?_
        refine d_get hc hDW 0 (by decide) q161 rfl rfl dX0_turns_115 ?_
        refine cv_W0 (rest := []) hc (D_changes l hF hW.toR hOb) (lw_V q273 q274 q275 q68 q276) nd_X1_changes ⟨Nat.le_of_ble_eq_true rfl, Nat.le_of_ble_eq_true rfl⟩ (HW.recv hK hW) rfl hl.1 rfl (Nat.le_of_ble_eq_true rfl) dX0_turns_118 ⟨Nat.le_of_ble_eq_true rfl, Nat.le_of_ble_eq_true rfl⟩ hS hHA (fun H locs hq hS hz hk1 => ?_)
        have hDW := hDW.aftC hdj hHA hk1
        obtain ⟨u, hv, hcok, hW⟩ := HS.ofR (HS.ch hq) hW.1 hHA
        refine lv_iload_n hx hb dX0_turns_121 rfl (lv_at hl 1 rfl) ?_
        have hsp_503 : turnsM f (nI i0) = (trN (f 0) (upd (f 0) (gp i0 7) 1) N, f) := by simp only [turnsM, hcl_i0, if_pos c_500, hO.cl1]
        refine w_more (cells' := 100) (slots' := 1000) (Nat.le_of_ble_eq_true rfl) (Nat.le_of_ble_eq_true rfl) ?_
        exact ri_W hx hb hr hlk hS (by rw [hsp_503]) (by rw [hsp_503]; exact DC.mk' (upd_back (bz_eq (hO.gap hi0).2.2.2.2.2.2.2.2)) hOb hDW hcok hW hdj) dX0_turns_122
  · refine cs_T (rest := []) hc (D_need_no l hF.1 hDW.2.1 hDW.gle (x := b2i (0 ≤ x ∧ x ≤ (f 0) 1 - 1)) (b2i_f c_500) 0) q207 q208 q67 q209 nd_X0_need ⟨Nat.le_of_ble_eq_true rfl, Nat.le_of_ble_eq_true rfl⟩ rfl hl.1 rfl (Nat.le_of_ble_eq_true rfl) dX0_turns_6 ⟨Nat.le_of_ble_eq_true rfl, Nat.le_of_ble_eq_true rfl⟩ hS (fun q h => hAb q (Nat.le_trans hS.1 h)) (fun ex H locs hq hS hz hk1 => ?_)
    obtain ⟨hexn, hex, hsz⟩ := hq
    have hne : ex ≠ ad 3 := by have := hDW.lt (r := 3) (fun z => by cases z); omega
    have hDW := hDW.aftM hk1
    have hW := hW.aftM hk1
    refine ct_find (pre := []) (post := []) (y := ⟨0, 122, 123, 1⟩) hc htab (by decide) (by decide) rfl hex ?_
    refine lv_astore_n (lv' := [(2, .ref ex), (0, .ref (ad 0)), (1, .int x)]) hx hb dX0_turns_123 rfl hl (by decide) rfl (fun ls hl => ?_)
    refine lv_aload_n hx hb dX0_turns_124 rfl (lv_at hl 1 rfl) ?_
    refine lv_aload_n hx hb dX0_turns_125 rfl (lv_at hl 0 rfl) ?_
    refine cv_W1 (rest := []) hc (D_X0finds l hDW hex hne (k := 0) rfl (by decide)) (lw_V q277 q279 qs1 q67 q280) nd_X0_finds ⟨Nat.le_of_ble_eq_true rfl, Nat.le_of_ble_eq_true rfl⟩ (DW.recv hK hDW) rfl hl.1 rfl (Nat.le_of_ble_eq_true rfl) dX0_turns_126 ⟨Nat.le_of_ble_eq_true rfl, Nat.le_of_ble_eq_true rfl⟩ hS (fun _ h => h) (fun H locs hq hS hz hk1 => ?_)
    obtain ⟨hDW, hf3⟩ := hq
    have hW := hW.aftD (hdj 3 (Or.inl (by decide))) (hDW.1 _ (hDW.mem (r := 3) rfl)) hf3
    have hsp_504 : turnsM f x = (-1000000001, cntP f 0) := by simp only [turnsM, if_neg c_500]
    refine w_more (cells' := 100) (slots' := 1000) (Nat.le_of_ble_eq_true rfl) (Nat.le_of_ble_eq_true rfl) ?_
    exact ri_W hx hb hr hlk hS (by rw [hsp_504]; show (-1000000001 - 0 : Int32) = -1000000001; decide) (by rw [hsp_504]; exact DC.mk' rfl hO hDW hcok hW hdj) dX0_turns_129
theorem ws_a {s : Nat → Int32} {n : Nat} (h : lostP (upd s 4 (nI n)) ≤ (wsN s n).2) : wsN s (n + 1) = wsN s n := by simp only [wsN, if_pos h]
theorem ws_b {s : Nat → Int32} {n : Nat} (h : ¬ lostP (upd s 4 (nI n)) ≤ (wsN s n).2) : wsN s (n + 1) = (n, lostP (upd s 4 (nI n))) := by simp only [wsN, if_neg h]
theorem nd_X0_worst : yX0_worst.cls = "SmokeLeans" ∧ yX0_worst.cls ≠ "java/lang/invoke/MethodHandle" ∧ yX0_worst.cls ≠ "java/lang/invoke/VarHandle" ∧ (parseMethodDescriptor yX0_worst.desc).map (fun d => d.parameters.length) = some 0 := by decide +kernel
set_option maxHeartbeats 4000000 in
theorem O_worst (l : Launch) {G : GD} {A : Nat → Prop} {f : Nat → Nat → Int32} {g : Nat → Nat → Int64} {xo hk ht : Nat} {H0 : Heap} (hF : FG G) (hC : DC G A f g xo hk ht H0) (hAb : ∀ q, H0.size ≤ q → A q)  : MetW l G yX0_worst cX0_worst 6 (some .int) 10 100 1000 A [.ref xo] H0 (some (.int (nI (wsN (f 0) 4).1))) (fun H => DC G A f g xo hk ht H) := by
  refine mx_of (by decide) (Nat.le_of_ble_eq_true rfl) ?_
  intro p e s m below meth c hx hb hr hc hlk hnm hs0 ls hl
  subst hs0
  have hown := hc.2.2.2.1
  have hts := hc.2.2.2.2.1
  have hK := hc.2.2.2.2.2
  obtain ⟨b, ad, ah, ga, N, R, rfl, hO, hDW, ⟨u, hv, hcok, hW⟩, hdj⟩ := hC
  have hl : lv_has ls 6 [(0, .ref (ad 0))] := hl
  have hS : va_S A s.heap s.heap [] := va_S.rf
  have hN20 := hO.2.1
  have hHA : ∀ q, HR N ah ga q → A q := fun q h => HR.mem hW h
  refine lv_aload_n hx hb dX0_worst_0 rfl (lv_at hl 0 rfl) ?_
  refine d_get hc hDW 0 (by decide) q161 rfl rfl dX0_worst_1 ?_
  refine h_get hc hW 3 (by decide) rfl q130 rfl rfl dX0_worst_4 ?_
  refine lv_iconst (v := 2) hx hb dX0_worst_7 (by decide) ?_
  refine nt_ld hc hW.nt (ix_eq (k := 2) rfl (by decide) (by decide)) dX0_worst_8 ?_
  refine sm_topi (v := (f 0) 4) rfl ?_
  refine lv_istore_n (lv' := [(1, .int ((f 0) 4)), (0, .ref (ad 0))]) hx hb dX0_worst_9 rfl hl (by decide) rfl (fun ls hl => ?_)
  refine lv_iconst (v := 0) hx hb dX0_worst_10 (by decide) ?_
  refine lv_istore_n (lv' := [(2, .int 0), (1, .int ((f 0) 4)), (0, .ref (ad 0))]) hx hb dX0_worst_11 rfl hl (by decide) rfl (fun ls hl => ?_)
  refine lv_iconst (v := (-1)) hx hb dX0_worst_12 (by decide) ?_
  refine lv_istore_n (lv' := [(3, .int (-1)), (2, .int 0), (1, .int ((f 0) 4)), (0, .ref (ad 0))]) hx hb dX0_worst_13 rfl hl (by decide) rfl (fun ls hl => ?_)
  refine lv_iconst (v := 0) hx hb dX0_worst_14 (by decide) ?_
  refine lv_istore (lv' := [(4, .int 0), (3, .int (-1)), (2, .int 0), (1, .int ((f 0) 4)), (0, .ref (ad 0))]) hx hb dX0_worst_15 hl (by decide) rfl (fun ls hl => ?_)
  have hW : HW G A N (upd (f 0) 4 (f 0 4)) u hv ah ga s.heap := by rw [upd_self]; exact hW
  have hcok : HCok (upd (f 0) 4 (f 0 4)) u := by rw [upd_self]; exact hcok
  have hOv : OkN (upd (f 0) 4 (f 0 4)) R N := by rw [upd_self]; exact hO
  refine w_loopH (σ := Nat) (fun i H locs cells slots fr => cells = 0 ∧ slots = 0 ∧ (∃ ls, fr = F0 m 17 ls [] ∧ lv_has ls 6 [(4, .int (nI i)), (3, .int ((wsN (f 0) i).2)), (2, .int (nI (wsN (f 0) i).1)), (1, .int (f 0 4)), (0, .ref (ad 0))]) ∧ va_S A s.heap H locs ∧ (i ≤ 4 ∧ ∃ vv u hv, OkN (upd (f 0) 4 vv) R N ∧ HCok (upd (f 0) 4 vv) u ∧ HW G A N (upd (f 0) 4 vv) u hv ah ga H ∧ DW G A f g (b) (ah 0) hk ht ad H)) (fun i => 4 - i) 0 ⟨rfl, rfl, ⟨ls, rfl, lv_sub hl [0, 1, 2, 3, 4] rfl⟩, hS, ⟨Nat.zero_le _, _, u, hv, hOv, hcok, hW, hDW⟩⟩ ?_
  intro i H locs cells slots fr hI ih
  obtain ⟨rfl, rfl, ⟨ls, rfl, hl⟩, hS, ⟨hi4, vv, u, hv, hOv, hcok, hW, hDW⟩⟩ := hI
  by_cases hi : i < 4
  · refine lv_iload hx hb dX0_worst_17 (lv_at hl 0 rfl) ?_
    refine lv_iconst (v := 4) hx hb dX0_worst_19 (by decide) ?_
    refine lv_icmp_ge (tgt := 71) hx hb dX0_worst_20 (by decide) (fun h => absurd h (nI_ge (b := 4) hi (by decide))) (fun _ => ?_)
    refine lv_aload_n hx hb dX0_worst_23 rfl (lv_at hl 4 rfl) ?_
    refine d_get hc hDW 0 (by decide) q161 rfl rfl dX0_worst_24 ?_
    refine h_get hc hW 3 (by decide) rfl q130 rfl rfl dX0_worst_27 ?_
    refine lv_iconst (v := 2) hx hb dX0_worst_30 (by decide) ?_
    refine lv_iload hx hb dX0_worst_31 (lv_at hl 0 rfl) ?_
    refine h_nst hc hW hS (ix_eq (k := 2) rfl (by decide) (by decide)) dX0_worst_33 (fun H locs hW hS hz oq => ?_)
    have hW : HW G A N (upd (upd (f 0) 4 vv) 4 (nI i)) u hv ah ga H := hW
    have hDW := hDW.aftH hdj hHA HR.n oq
    rw [upd_upd] at hW
    have hO4 : OkN (upd (f 0) 4 (nI i)) R N := OkN_from hO (by omega)
    refine lv_aload_n hx hb dX0_worst_34 rfl (lv_at hl 4 rfl) ?_
    refine d_get hc hDW 0 (by decide) q161 rfl rfl dX0_worst_35 ?_
    refine cv_W0 (rest := []) hc (D_changes l hF hW.toR hO4) (lw_V q273 q274 q275 q68 q276) nd_X1_changes ⟨Nat.le_of_ble_eq_true rfl, Nat.le_of_ble_eq_true rfl⟩ (HW.recv hK hW) rfl hl.1 rfl (Nat.le_of_ble_eq_true rfl) dX0_worst_38 ⟨Nat.le_of_ble_eq_true rfl, Nat.le_of_ble_eq_true rfl⟩ hS hHA (fun H locs hq hS hz hk1 => ?_)
    have hDW := hDW.aftC hdj hHA hk1
    obtain ⟨u, hv, hcok, hW⟩ := HS.ofR (HS.ch hq) hW.1 hHA
    refine lv_aload_n hx hb dX0_worst_41 rfl (lv_at hl 4 rfl) ?_
    refine d_get hc hDW 0 (by decide) q161 rfl rfl dX0_worst_42 ?_
    refine cv_W1 (rest := []) hc (D_lost l hF (HS.toR ⟨u, hv, hcok, hW⟩) hO4) (lw_V q799 q800 q801 q68 q802) nd_X1_lost ⟨Nat.le_of_ble_eq_true rfl, Nat.le_of_ble_eq_true rfl⟩ (HW.recv hK hW) rfl hl.1 rfl (Nat.le_of_ble_eq_true rfl) dX0_worst_45 ⟨Nat.le_of_ble_eq_true rfl, Nat.le_of_ble_eq_true rfl⟩ hS hHA (fun H locs hq hS hz hk1 => ?_)
    have hDW := hDW.aftC hdj hHA hk1
    obtain ⟨u, hv, hcok, hW⟩ := HS.ofR hq hW.1 hHA
    refine lv_istore (lv' := [(5, .int (lostP (upd (f 0) 4 (nI i)))), (4, .int (nI i)), (3, .int ((wsN (f 0) i).2)), (2, .int (nI (wsN (f 0) i).1)), (1, .int (f 0 4)), (0, .ref (ad 0))]) hx hb dX0_worst_48 hl (by decide) rfl (fun ls hl => ?_)
    refine lv_iload hx hb dX0_worst_50 (lv_at hl 0 rfl) ?_
    refine lv_iload_n hx hb dX0_worst_52 rfl (lv_at hl 2 rfl) ?_
    refine lv_icmp_gt (tgt := 59) hx hb dX0_worst_53 (by decide) (fun c_505 => ?_) (fun c_505 => ?_)
    · refine lv_iload hx hb dX0_worst_59 (lv_at hl 1 rfl) ?_
      refine lv_istore_n (lv' := [(2, .int (nI i)), (5, .int (lostP (upd (f 0) 4 (nI i)))), (4, .int (nI i)), (3, .int ((wsN (f 0) i).2)), (1, .int (f 0 4)), (0, .ref (ad 0))]) hx hb dX0_worst_61 rfl hl (by decide) rfl (fun ls hl => ?_)
      refine lv_iload hx hb dX0_worst_62 (lv_at hl 1 rfl) ?_
      refine lv_istore_n (lv' := [(3, .int (lostP (upd (f 0) 4 (nI i)))), (2, .int (nI i)), (5, .int (lostP (upd (f 0) 4 (nI i)))), (4, .int (nI i)), (1, .int (f 0 4)), (0, .ref (ad 0))]) hx hb dX0_worst_64 rfl hl (by decide) rfl (fun ls hl => ?_)
      refine lv_iinc (v := nI (i + 1)) (lv' := [(4, .int (nI (i + 1))), (3, .int (lostP (upd (f 0) 4 (nI i)))), (2, .int (nI i)), (5, .int (lostP (upd (f 0) 4 (nI i)))), (1, .int (f 0 4)), (0, .ref (ad 0))]) hx hb dX0_worst_65 hl (k := 3) rfl (nI_1 _) (by decide) rfl (fun ls hl => ?_)
      refine lv_goto (tgt := 17) hx hb dX0_worst_68 (by decide) ?_
      refine ih (i + 1) _ _ _ _ _ ⟨rfl, rfl, ⟨ls, rfl, ?_⟩, hS, hi, _, u, hv, hO4, hcok, hW, hDW⟩ (by omega)
      rw [ws_b (Int32.not_le.mpr c_505)]
      exact lv_sub hl [0, 1, 2, 4, 5] rfl
    · refine lv_goto (tgt := 65) hx hb dX0_worst_56 (by decide) ?_
      refine lv_iinc (v := nI (i + 1)) (lv' := [(4, .int (nI (i + 1))), (5, .int (lostP (upd (f 0) 4 (nI i)))), (3, .int ((wsN (f 0) i).2)), (2, .int (nI (wsN (f 0) i).1)), (1, .int (f 0 4)), (0, .ref (ad 0))]) hx hb dX0_worst_65 hl (k := 1) rfl (nI_1 _) (by decide) rfl (fun ls hl => ?_)
      refine lv_goto (tgt := 17) hx hb dX0_worst_68 (by decide) ?_
      refine ih (i + 1) _ _ _ _ _ ⟨rfl, rfl, ⟨ls, rfl, ?_⟩, hS, hi, _, u, hv, hO4, hcok, hW, hDW⟩ (by omega)
      rw [ws_a (Int32.not_lt.mp c_505)]
      exact lv_sub hl [0, 2, 3, 4, 5] rfl
  · have hiE : 4 = i := by omega
    subst hiE
    refine lv_iload hx hb dX0_worst_17 (lv_at hl 0 rfl) ?_
    refine lv_iconst (v := 4) hx hb dX0_worst_19 (by decide) ?_
    refine lv_icmp_ge (tgt := 71) hx hb dX0_worst_20 (by decide) (fun _ => ?_) (fun h => absurd (nI_le (a := 4) (by omega) (by omega)) h)
    refine lv_aload_n hx hb dX0_worst_71 rfl (lv_at hl 4 rfl) ?_
    refine d_get hc hDW 0 (by decide) q161 rfl rfl dX0_worst_72 ?_
    refine h_get hc hW 3 (by decide) rfl q130 rfl rfl dX0_worst_75 ?_
    refine lv_iconst (v := 2) hx hb dX0_worst_78 (by decide) ?_
    refine lv_iload_n hx hb dX0_worst_79 rfl (lv_at hl 3 rfl) ?_
    refine h_nst hc hW hS (ix_eq (k := 2) rfl (by decide) (by decide)) dX0_worst_80 (fun H locs hW hS hz oq => ?_)
    have hW : HW G A N (upd (upd (f 0) 4 vv) 4 (f 0 4)) u hv ah ga H := hW
    have hDW := hDW.aftH hdj hHA HR.n oq
    rw [upd_upd, upd_self] at hW
    refine lv_aload_n hx hb dX0_worst_81 rfl (lv_at hl 4 rfl) ?_
    refine d_get hc hDW 0 (by decide) q161 rfl rfl dX0_worst_82 ?_
    refine cv_W0 (rest := []) hc (D_changes l hF hW.toR hO) (lw_V q273 q274 q275 q68 q276) nd_X1_changes ⟨Nat.le_of_ble_eq_true rfl, Nat.le_of_ble_eq_true rfl⟩ (HW.recv hK hW) rfl hl.1 rfl (Nat.le_of_ble_eq_true rfl) dX0_worst_85 ⟨Nat.le_of_ble_eq_true rfl, Nat.le_of_ble_eq_true rfl⟩ hS hHA (fun H locs hq hS hz hk1 => ?_)
    have hDW := hDW.aftC hdj hHA hk1
    obtain ⟨u, hv, hcok, hW⟩ := HS.ofR (HS.ch hq) hW.1 hHA
    refine lv_iload_n hx hb dX0_worst_88 rfl (lv_at hl 2 rfl) ?_
    refine w_more (cells' := 100) (slots' := 1000) (Nat.le_of_ble_eq_true rfl) (Nat.le_of_ble_eq_true rfl) ?_
    exact ri_W hx hb hr hlk hS (rfl) (DC.mk' rfl hO hDW (hcok) hW hdj) dX0_worst_89
