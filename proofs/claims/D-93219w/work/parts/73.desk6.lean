/-! the desk, 6: sheets' acts -/
set_option maxRecDepth 100000
theorem nd_X0_there : yX0_there.cls = "SmokeLeans" ∧ yX0_there.cls ≠ "java/lang/invoke/MethodHandle" ∧ yX0_there.cls ≠ "java/lang/invoke/VarHandle" ∧ (parseMethodDescriptor yX0_there.desc).map (fun d => d.parameters.length) = some 1 := by decide +kernel
set_option maxHeartbeats 4000000 in
theorem D_there_ok (l : Launch) {G : GD} {A : Nat → Prop} {f b : Nat → Nat → Int32} {g : Nat → Nat → Int64} {hh hk ht : Nat} {ad : Nat → Nat} {H0 : Heap} (hDW : DW G A f g b hh hk ht ad H0) {k : Nat} (hk4 : k < 4) (hz : ¬ f 19 k = 0) : MetR l G yX0_there cX0_there 3 (some (.object "java/lang/Object")) 5 [.ref (ad 0), .int (nI k)] H0 (some (.ref (ad (20 + k)))) := by
  refine mx_of (by decide) (Nat.le_of_ble_eq_true rfl) ?_
  intro p e s m below meth c hx hb hr hc hlk hnm hs0 ls hl
  subst hs0
  have hown := hc.2.2.2.1
  have hts := hc.2.2.2.2.1
  have hK := hc.2.2.2.2.2
  have hl : lv_has ls 3 [(0, .ref (ad 0)), (1, .int (nI k))] := hl
  refine lv_aload_n hx hb dX0_there_0 rfl (lv_at hl 0 rfl) ?_
  refine d_get hc hDW 6 (by decide) q167 rfl rfl dX0_there_1 ?_
  refine lv_iload_n hx hb dX0_there_4 rfl (lv_at hl 1 rfl) ?_
  refine va_aldq hx hb hK.1 (P1 hDW.sa) 0 4 rfl rfl (ix_nI (by omega) (by decide)).1 dX0_there_5 ?_
  rw [show va_rf (some (ad (10 + (nI k).toNatClampNeg))) = .ref (ad (10 + k)) by rw [(ix_nI (by omega) (by decide)).2]; rfl]
  have hsl := hDW.sl (i := k) hk4
  rw [if_neg hz] at hsl
  refine va_get hx hb hts in_X2 hown hK.1 (P1 hsl) 0 rfl rfl 0 (by decide) (hts _ q115) (fun x h => h) rfl dX0_there_6 ?_
  refine lv_astore_n (lv' := [(2, .ref (ad (20 + k))), (0, .ref (ad 0)), (1, .int (nI k))]) hx hb dX0_there_9 rfl hl (by decide) rfl (fun ls hl => ?_)
  refine lv_aload_n hx hb dX0_there_10 rfl (lv_at hl 0 rfl) ?_
  refine lv_ifnull hx hb dX0_there_11 ?_
  refine lv_iconst (v := 1) hx hb dX0_there_14 (by decide) ?_
  refine lv_goto (tgt := 19) hx hb dX0_there_15 (by decide) ?_
  refine lv_iconst (v := 5) hx hb dX0_there_19 (by decide) ?_
  refine cs_R0 (rest := []) hc (D_need_ok l (by decide) 5) (lw_S q207 q208 q67 q209) nd_X0_need ⟨Nat.le_of_ble_eq_true rfl, Nat.le_of_ble_eq_true rfl⟩ rfl hl.1 rfl (Nat.le_of_ble_eq_true rfl) dX0_there_20 ⟨Nat.le_of_ble_eq_true rfl, Nat.le_of_ble_eq_true rfl⟩ ?_
  refine lv_aload_n hx hb dX0_there_23 rfl (lv_at hl 0 rfl) ?_
  exact ra_R hx hb hr (Or.inl ⟨_, rfl⟩) hlk (Or.inr ⟨_, rfl⟩) dX0_there_24
set_option maxHeartbeats 4000000 in
theorem D_there_no (l : Launch) {G : GD} {A : Nat → Prop} {f b : Nat → Nat → Int32} {g : Nat → Nat → Int64} {hh hk ht : Nat} {ad : Nat → Nat} {H0 : Heap} (hDW : DW G A f g b hh hk ht ad H0) {k : Nat} (hk4 : k < 4) (hG : SG G) (hz : f 19 k = 0) : MetX l G yX0_there cX0_there 3 (some (.object "java/lang/Object")) 5 1 7 (Abv H0.size) [.ref (ad 0), .int (nI k)] H0 (FndP G 5 H0.size) := by
  refine mt_of (by decide) (Nat.le_of_ble_eq_true rfl) ?_
  intro p e s m below meth c hx hb hr hc hlk hnm hout hs0 ls hl
  subst hs0
  have hown := hc.2.2.2.1
  have hts := hc.2.2.2.2.1
  have hK := hc.2.2.2.2.2
  have hl : lv_has ls 3 [(0, .ref (ad 0)), (1, .int (nI k))] := hl
  have hS : va_S (Abv s.heap.size) s.heap s.heap [] := va_S.rf
  refine lv_aload_n hx hb dX0_there_0 rfl (lv_at hl 0 rfl) ?_
  refine d_get hc hDW 6 (by decide) q167 rfl rfl dX0_there_1 ?_
  refine lv_iload_n hx hb dX0_there_4 rfl (lv_at hl 1 rfl) ?_
  refine va_aldq hx hb hK.1 (P1 hDW.sa) 0 4 rfl rfl (ix_nI (by omega) (by decide)).1 dX0_there_5 ?_
  rw [show va_rf (some (ad (10 + (nI k).toNatClampNeg))) = .ref (ad (10 + k)) by rw [(ix_nI (by omega) (by decide)).2]; rfl]
  have hsl := hDW.sl (i := k) hk4
  rw [if_pos hz] at hsl
  refine va_get hx hb hts in_X2 hown hK.1 (P1 hsl) 0 rfl rfl 0 (by decide) (hts _ q115) (fun x h => h) rfl dX0_there_6 ?_
  refine lv_astore_nN (lv' := [(2, .null), (0, .ref (ad 0)), (1, .int (nI k))]) hx hb dX0_there_9 rfl hl (by decide) rfl (fun ls hl => ?_)
  refine lv_aload_nN hx hb dX0_there_10 rfl (lv_at hl 0 rfl) ?_
  refine lv_ifnullN (tgt := 18) hx hb dX0_there_11 (by decide) ?_
  refine lv_iconst (v := 0) hx hb dX0_there_18 (by decide) ?_
  refine lv_iconst (v := 5) hx hb dX0_there_19 (by decide) ?_
  refine cs_T (rest := []) hc (D_need_no l hG hDW.2.1 hDW.gle (x := 0) rfl 5) q207 q208 q67 q209 nd_X0_need ⟨Nat.le_of_ble_eq_true rfl, Nat.le_of_ble_eq_true rfl⟩ rfl hl.1 rfl (Nat.le_of_ble_eq_true rfl) dX0_there_20 ⟨Nat.le_of_ble_eq_true rfl, Nat.le_of_ble_eq_true rfl⟩ hS (fun _ h => h) (fun x H locs hq hS hz hk1 => ?_)
  exact wt_leave hlk (hout _) (fun t ht hW => ⟨⟨_, rfl, by rw [ht]; exact hq⟩, hS.F ht⟩) hS.2.2
theorem rk_a {s : Nat → Int32} {c : Nat → Int64} {N q k : Nat} (h1 : k < N) (h2 : c k = (leanP s k).toInt64) : rkN s c N (q + 1) k = rkN s c N q (k + 1) := by simp only [rkN, if_pos h1, if_pos h2]
theorem rk_b {s : Nat → Int32} {c : Nat → Int64} {N q k : Nat} (h1 : k < N) (h2 : ¬ c k = (leanP s k).toInt64) : rkN s c N (q + 1) k = nI (k + 1) := by simp only [rkN, if_pos h1, if_neg h2]
theorem rk_c {s : Nat → Int32} {c : Nat → Int64} {N q k : Nat} (h1 : ¬ k < N) : rkN s c N (q + 1) k = nI (k + 1) := by simp only [rkN, if_neg h1]
theorem nd_X0_read : yX0_read.cls = "SmokeLeans" ∧ yX0_read.cls ≠ "java/lang/invoke/MethodHandle" ∧ yX0_read.cls ≠ "java/lang/invoke/VarHandle" ∧ (parseMethodDescriptor yX0_read.desc).map (fun d => d.parameters.length) = some 1 := by decide +kernel
set_option maxHeartbeats 4000000 in
theorem O_read (l : Launch) {G : GD} {A : Nat → Prop} {f : Nat → Nat → Int32} {g : Nat → Nat → Int64} {xo hk ht : Nat} {H0 : Heap} (hF : FG G) (hC : DC G A f g xo hk ht H0) (hAb : ∀ q, H0.size ≤ q → A q) (hI : IG G) (hZ : ZO f g) (x : Int32) : MetH l G yX0_read cX0_read 4 (some .int) [((0), (52), (61), (1)), ((53), (60), (61), (1))] 9 100 1000 A [.ref xo, .int x] H0 (some (.int (readM f g x).1)) (fun H => DC G A (readM f g x).2.1 (readM f g x).2.2 xo hk ht H) := by
  refine mw_of (hh := [((0), (52), (61), (1)), ((53), (60), (61), (1))]) (by decide) (Nat.le_of_ble_eq_true rfl) ?_
  intro p e s m below meth c hx hb hr hc hlk hnm htab hs0 ls hl
  subst hs0
  have hown := hc.2.2.2.1
  have hts := hc.2.2.2.2.1
  have hK := hc.2.2.2.2.2
  obtain ⟨b, ad, ah, ga, N, R, rfl, hO, hDW, ⟨u, hv, hcok, hW⟩, hdj⟩ := hC
  have hl : lv_has ls 4 [(0, .ref (ad 0)), (1, .int x)] := hl
  have hS : va_S A s.heap s.heap [] := va_S.rf
  have hN20 := hO.2.1
  have hHA : ∀ q, HR N ah ga q → A q := fun q h => HR.mem hW h
  refine lv_iload_n hx hb dX0_read_0 rfl (lv_at hl 1 rfl) ?_
  by_cases c_574 : 0 ≤ x ∧ x ≤ 3
  · refine cs_R0 (rest := []) hc (D_sheetAt_ok l c_574) (lw_S q836 q837 q67 q838) nd_X0_sheetAt ⟨Nat.le_of_ble_eq_true rfl, Nat.le_of_ble_eq_true rfl⟩ rfl hl.1 rfl (Nat.le_of_ble_eq_true rfl) dX0_read_1 ⟨Nat.le_of_ble_eq_true rfl, Nat.le_of_ble_eq_true rfl⟩ ?_
    obtain ⟨k, k3, rfl⟩ := ex_le 3 (hi := 3) rfl (by decide) c_574.1 c_574.2
    have k4 : k < 4 := by omega
    have hcl_k : (nI k).toNatClampNeg = k := nI_clamp (by omega)
    obtain ⟨nk, n40k, nkk⟩ := (hZ k k4).2.1
    have hnk : (f 20 k).toNatClampNeg = nk := by rw [nkk]; exact nI_clamp (by omega)
    refine lv_aload_n hx hb dX0_read_4 rfl (lv_at hl 0 rfl) ?_
    refine lv_iload_n hx hb dX0_read_5 rfl (lv_at hl 1 rfl) ?_
    by_cases c_575 : f 19 k = 0
    · refine cv_T (rest := []) hc (D_there_no l hDW k4 hF.1 c_575) q839 q841 qs19 q67 q842 nd_X0_there ⟨Nat.le_of_ble_eq_true rfl, Nat.le_of_ble_eq_true rfl⟩ (DW.recv hK hDW) rfl hl.1 rfl (Nat.le_of_ble_eq_true rfl) dX0_read_6 ⟨Nat.le_of_ble_eq_true rfl, Nat.le_of_ble_eq_true rfl⟩ hS (fun q h => hAb q (Nat.le_trans hS.1 h)) (fun ex H locs hq hS hz hk1 => ?_)
      obtain ⟨hexn, hex, hsz⟩ := hq
      have hne : ex ≠ ad 3 := by have := hDW.lt (r := 3) (fun z => by cases z); omega
      have hDW := hDW.aftM hk1
      have hW := hW.aftM hk1
      refine ct_find (pre := []) (post := [⟨53, 60, 61, 1⟩]) (y := ⟨0, 52, 61, 1⟩) hc htab (by decide) (by decide) rfl hex ?_
      refine lv_astore_n (lv' := [(2, .ref ex), (0, .ref (ad 0)), (1, .int (nI k))]) hx hb dX0_read_61 rfl hl (by decide) rfl (fun ls hl => ?_)
      refine lv_aload_n hx hb dX0_read_62 rfl (lv_at hl 1 rfl) ?_
      refine lv_aload_n hx hb dX0_read_63 rfl (lv_at hl 0 rfl) ?_
      refine cv_W1 (rest := []) hc (D_X0finds l hDW hex hne (k := 5) rfl (by decide)) (lw_V q277 q279 qs1 q67 q280) nd_X0_finds ⟨Nat.le_of_ble_eq_true rfl, Nat.le_of_ble_eq_true rfl⟩ (DW.recv hK hDW) rfl hl.1 rfl (Nat.le_of_ble_eq_true rfl) dX0_read_64 ⟨Nat.le_of_ble_eq_true rfl, Nat.le_of_ble_eq_true rfl⟩ hS (fun _ h => h) (fun H locs hq hS hz hk1 => ?_)
      obtain ⟨hDW, hf3⟩ := hq
      have hW := hW.aftD (hdj 3 (Or.inl (by decide))) (hDW.1 _ (hDW.mem (r := 3) rfl)) hf3
      have hsp_576 : readM f g (nI k) = (-1000000006, cntP f 5, g) := by unfold readM; rw [if_pos c_574, hcl_k, if_pos c_575]
      refine w_more (cells' := 100) (slots' := 1000) (Nat.le_of_ble_eq_true rfl) (Nat.le_of_ble_eq_true rfl) ?_
      exact ri_W hx hb hr hlk hS (by rw [hsp_576]; show (-1000000001 - 5 : Int32) = -1000000006; decide) (by rw [hsp_576]; exact DC.mk' rfl hO hDW hcok hW hdj) dX0_read_67
    · refine cv_R1 (rest := []) hc (D_there_ok l hDW k4 c_575) (lw_V q839 q841 qs19 q67 q842) nd_X0_there ⟨Nat.le_of_ble_eq_true rfl, Nat.le_of_ble_eq_true rfl⟩ (DW.recv hK hDW) rfl hl.1 rfl (Nat.le_of_ble_eq_true rfl) dX0_read_6 ⟨Nat.le_of_ble_eq_true rfl, Nat.le_of_ble_eq_true rfl⟩ ?_
      have hzk : bitsOk (f 19 k) := (hZ k k4).1.resolve_left c_575
      refine lv_astore_n (lv' := [(2, .ref (ad (20 + k))), (0, .ref (ad 0)), (1, .int (nI k))]) hx hb dX0_read_9 rfl hl (by decide) rfl (fun ls hl => ?_)
      refine lv_iconst (v := 0) hx hb dX0_read_10 (by decide) ?_
      refine lv_istore_n (lv' := [(3, .int 0), (2, .ref (ad (20 + k))), (0, .ref (ad 0)), (1, .int (nI k))]) hx hb dX0_read_11 rfl hl (by decide) rfl (fun ls hl => ?_)
      refine w_loopH (σ := Nat) (fun i H locs cells slots fr => cells = 0 ∧ slots = 0 ∧ (∃ ls, fr = F0 m 12 ls [] ∧ lv_has ls 4 [(3, .int (nI i)), (2, .ref (ad (20 + k))), (1, .int (nI k)), (0, .ref (ad 0))]) ∧ va_S A s.heap H locs ∧ (i ≤ nk ∧ rkN (f 0) (fun j => g 21 (40 * k + j)) N nk 0 = rkN (f 0) (fun j => g 21 (40 * k + j)) N (nk - i) i ∧ ∃ u hv, HCok (f 0) u ∧ HW G A N (f 0) u hv ah ga H ∧ DW G A f g (b) (ah 0) hk ht ad H)) (fun i => nk - i) 0 ⟨rfl, rfl, ⟨ls, rfl, lv_sub hl [0, 1, 3, 2] rfl⟩, hS, ⟨Nat.zero_le _, rfl, u, hv, hcok, hW, hDW⟩⟩ ?_
      intro i H locs cells slots fr hI ih
      obtain ⟨rfl, rfl, ⟨ls, rfl, hl⟩, hS, ⟨hin, hrk, u, hv, hcok, hW, hDW⟩⟩ := hI
      have hN20 := hO.2.1
      by_cases hi : i < nk
      · obtain ⟨qq, hqq⟩ : ∃ q, nk - i = q + 1 := ⟨nk - i - 1, by omega⟩
        rw [hqq] at hrk
        by_cases hN : i < N
        · refine lv_iload_n hx hb dX0_read_12 rfl (lv_at hl 0 rfl) ?_
          refine lv_aload_n hx hb dX0_read_13 rfl (lv_at hl 1 rfl) ?_
          refine cs_R1 (rest := [.int (nI i)]) hc (D_length l hI hzk (hDW.sh k4 hzk)) (lw_S q843 q844 q67 q845) nd_X0_length ⟨Nat.le_of_ble_eq_true rfl, Nat.le_of_ble_eq_true rfl⟩ rfl hl.1 rfl (Nat.le_of_ble_eq_true rfl) dX0_read_14 ⟨Nat.le_of_ble_eq_true rfl, Nat.le_of_ble_eq_true rfl⟩ (sm_topi (v := nI nk) (by rw [hnk]) ?_)
          refine lv_icmp_ge (tgt := 59) hx hb dX0_read_17 (by decide) (fun h => absurd h (nI_ge hi (by omega))) (fun _ => ?_)
          refine lv_iload_n hx hb dX0_read_20 rfl (lv_at hl 0 rfl) ?_
          refine lv_aload_n hx hb dX0_read_21 rfl (lv_at hl 3 rfl) ?_
          refine d_get hc hDW 0 (by decide) q161 rfl rfl dX0_read_22 ?_
          refine h_get hc hW 1 (by decide) rfl q124 rfl rfl dX0_read_25 ?_
          refine sm_topi (v := nI N) hO.2.2.2.1 ?_
          refine lv_icmp_ge (tgt := 49) hx hb dX0_read_28 (by decide) (fun h => absurd h (nI_ge hN (by omega))) (fun _ => ?_)
          refine lv_aload_n hx hb dX0_read_31 rfl (lv_at hl 1 rfl) ?_
          refine lv_iload_n hx hb dX0_read_32 rfl (lv_at hl 0 rfl) ?_
          refine cs_R1 (rest := []) hc (D_get l hI hzk (hDW.sh k4 hzk) (x := (nI i)) (j := i) (ix_nI (by rw [hnk]; exact hi) (by rw [hnk]; omega)) ((hZ k k4).2.2 i (by rw [hnk]; exact hi))) (lw_S q936 q937 q67 q938) nd_X0_get ⟨Nat.le_of_ble_eq_true rfl, Nat.le_of_ble_eq_true rfl⟩ rfl hl.1 rfl (Nat.le_of_ble_eq_true rfl) dX0_read_33 ⟨Nat.le_of_ble_eq_true rfl, Nat.le_of_ble_eq_true rfl⟩ (sm_topl (v := g 21 (40 * k + i)) rfl ?_)
          refine lv_aload_n hx hb dX0_read_36 rfl (lv_at hl 3 rfl) ?_
          refine d_get hc hDW 0 (by decide) q161 rfl rfl dX0_read_37 ?_
          refine lv_iload_n hx hb dX0_read_40 rfl (lv_at hl 0 rfl) ?_
          refine cv_W1 (rest := [.long (g 21 (40 * k + i))]) hc (D_lean l hF (HS.toR ⟨u, hv, hcok, hW⟩) hO i hN) (lw_V q765 q766 q767 q68 q768) nd_X1_lean ⟨Nat.le_of_ble_eq_true rfl, Nat.le_of_ble_eq_true rfl⟩ (HW.recv hK hW) rfl hl.1 rfl (Nat.le_of_ble_eq_true rfl) dX0_read_41 ⟨Nat.le_of_ble_eq_true rfl, Nat.le_of_ble_eq_true rfl⟩ hS hHA (fun H locs hq hS hz hk1 => ?_)
          have hDW := hDW.aftC hdj hHA hk1
          obtain ⟨u, hv, hcok, hW⟩ := HS.ofR hq hW.1 hHA
          refine lv_i2l hx hb dX0_read_44 rfl ?_
          refine W.lcmp hx hb dX0_read_45 ?_
          refine lv_if_eq (tgt := 53) hx hb dX0_read_46 (by decide) (fun c_577 => ?_) (fun c_577 => ?_)
          · refine lv_iinc (v := nI (i + 1)) (lv' := [(3, .int (nI (i + 1))), (2, .ref (ad (20 + k))), (1, .int (nI k)), (0, .ref (ad 0))]) hx hb dX0_read_53 hl (k := 0) rfl (nI_1 _) (by decide) rfl (fun ls hl => ?_)
            refine lv_goto (tgt := 12) hx hb dX0_read_56 (by decide) ?_
            exact ih (i + 1) _ _ _ _ _ ⟨rfl, rfl, ⟨ls, rfl, lv_sub hl [0, 1, 2, 3] rfl⟩, hS, hi, (by rw [hrk, rk_a hN (lc_eq.mp c_577), show nk - (i + 1) = qq by omega]), u, hv, hcok, hW, hDW⟩ (by omega)
          · refine lv_iconst (v := 1) hx hb dX0_read_49 (by decide) ?_
            refine lv_iload_n hx hb dX0_read_50 rfl (lv_at hl 0 rfl) ?_
            refine lv_iadd hx hb dX0_read_51 (sm_topi (v := nI (1 + i)) (nI_add _ _) ?_)
            have hsp_578 : readM f g (nI k) = (nI (1 + i), f, g) := by unfold readM; rw [if_pos c_574, hcl_k, if_neg c_575, hO.cl1, hnk, hrk, rk_b hN (fun h => c_577 (lc_eq.mpr h)), Nat.add_comm]
            refine w_more (cells' := 100) (slots' := 1000) (Nat.le_of_ble_eq_true rfl) (Nat.le_of_ble_eq_true rfl) ?_
            exact ri_W hx hb hr hlk hS (by rw [hsp_578]) (by rw [hsp_578]; exact DC.mk' rfl hO hDW hcok hW hdj) dX0_read_52
        · refine lv_iload_n hx hb dX0_read_12 rfl (lv_at hl 0 rfl) ?_
          refine lv_aload_n hx hb dX0_read_13 rfl (lv_at hl 1 rfl) ?_
          refine cs_R1 (rest := [.int (nI i)]) hc (D_length l hI hzk (hDW.sh k4 hzk)) (lw_S q843 q844 q67 q845) nd_X0_length ⟨Nat.le_of_ble_eq_true rfl, Nat.le_of_ble_eq_true rfl⟩ rfl hl.1 rfl (Nat.le_of_ble_eq_true rfl) dX0_read_14 ⟨Nat.le_of_ble_eq_true rfl, Nat.le_of_ble_eq_true rfl⟩ (sm_topi (v := nI nk) (by rw [hnk]) ?_)
          refine lv_icmp_ge (tgt := 59) hx hb dX0_read_17 (by decide) (fun h => absurd h (nI_ge hi (by omega))) (fun _ => ?_)
          refine lv_iload_n hx hb dX0_read_20 rfl (lv_at hl 0 rfl) ?_
          refine lv_aload_n hx hb dX0_read_21 rfl (lv_at hl 3 rfl) ?_
          refine d_get hc hDW 0 (by decide) q161 rfl rfl dX0_read_22 ?_
          refine h_get hc hW 1 (by decide) rfl q124 rfl rfl dX0_read_25 ?_
          refine sm_topi (v := nI N) hO.2.2.2.1 ?_
          refine lv_icmp_ge (tgt := 49) hx hb dX0_read_28 (by decide) (fun _ => ?_) (fun h => absurd (nI_le (by omega) (by omega)) h)
          refine lv_iconst (v := 1) hx hb dX0_read_49 (by decide) ?_
          refine lv_iload_n hx hb dX0_read_50 rfl (lv_at hl 0 rfl) ?_
          refine lv_iadd hx hb dX0_read_51 (sm_topi (v := nI (1 + i)) (nI_add _ _) ?_)
          have hsp_579 : readM f g (nI k) = (nI (1 + i), f, g) := by unfold readM; rw [if_pos c_574, hcl_k, if_neg c_575, hO.cl1, hnk, hrk, rk_c hN, Nat.add_comm]
          refine w_more (cells' := 100) (slots' := 1000) (Nat.le_of_ble_eq_true rfl) (Nat.le_of_ble_eq_true rfl) ?_
          exact ri_W hx hb hr hlk hS (by rw [hsp_579]) (by rw [hsp_579]; exact DC.mk' rfl hO hDW hcok hW hdj) dX0_read_52
      · have hiE : nk = i := by omega
        subst hiE
        refine lv_iload_n hx hb dX0_read_12 rfl (lv_at hl 0 rfl) ?_
        refine lv_aload_n hx hb dX0_read_13 rfl (lv_at hl 1 rfl) ?_
        refine cs_R1 (rest := [.int (nI nk)]) hc (D_length l hI hzk (hDW.sh k4 hzk)) (lw_S q843 q844 q67 q845) nd_X0_length ⟨Nat.le_of_ble_eq_true rfl, Nat.le_of_ble_eq_true rfl⟩ rfl hl.1 rfl (Nat.le_of_ble_eq_true rfl) dX0_read_14 ⟨Nat.le_of_ble_eq_true rfl, Nat.le_of_ble_eq_true rfl⟩ (sm_topi (v := nI nk) (by rw [hnk]) ?_)
        refine lv_icmp_ge (tgt := 59) hx hb dX0_read_17 (by decide) (fun _ => ?_) (fun h => absurd (nI_le (by omega) (by omega)) h)
        refine lv_iconst (v := 0) hx hb dX0_read_59 (by decide) ?_
        have hsp_580 : readM f g (nI k) = (0, f, g) := by unfold readM; rw [if_pos c_574, hcl_k, if_neg c_575, hO.cl1, hnk, hrk, Nat.sub_self]; rfl
        refine w_more (cells' := 100) (slots' := 1000) (Nat.le_of_ble_eq_true rfl) (Nat.le_of_ble_eq_true rfl) ?_
        exact ri_W hx hb hr hlk hS (by rw [hsp_580]) (by rw [hsp_580]; exact DC.mk' rfl hO hDW hcok hW hdj) dX0_read_60
  · refine cs_T (rest := []) hc (D_sheetAt_no l hF.1 hDW.2.1 hDW.gle c_574) q836 q837 q67 q838 nd_X0_sheetAt ⟨Nat.le_of_ble_eq_true rfl, Nat.le_of_ble_eq_true rfl⟩ rfl hl.1 rfl (Nat.le_of_ble_eq_true rfl) dX0_read_1 ⟨Nat.le_of_ble_eq_true rfl, Nat.le_of_ble_eq_true rfl⟩ hS (fun q h => hAb q (Nat.le_trans hS.1 h)) (fun ex H locs hq hS hz hk1 => ?_)
    obtain ⟨hexn, hex, hsz⟩ := hq
    have hne : ex ≠ ad 3 := by have := hDW.lt (r := 3) (fun z => by cases z); omega
    have hDW := hDW.aftM hk1
    have hW := hW.aftM hk1
    refine ct_find (pre := []) (post := [⟨53, 60, 61, 1⟩]) (y := ⟨0, 52, 61, 1⟩) hc htab (by decide) (by decide) rfl hex ?_
    refine lv_astore_n (lv' := [(2, .ref ex), (0, .ref (ad 0)), (1, .int x)]) hx hb dX0_read_61 rfl hl (by decide) rfl (fun ls hl => ?_)
    refine lv_aload_n hx hb dX0_read_62 rfl (lv_at hl 1 rfl) ?_
    refine lv_aload_n hx hb dX0_read_63 rfl (lv_at hl 0 rfl) ?_
    refine cv_W1 (rest := []) hc (D_X0finds l hDW hex hne (k := 0) rfl (by decide)) (lw_V q277 q279 qs1 q67 q280) nd_X0_finds ⟨Nat.le_of_ble_eq_true rfl, Nat.le_of_ble_eq_true rfl⟩ (DW.recv hK hDW) rfl hl.1 rfl (Nat.le_of_ble_eq_true rfl) dX0_read_64 ⟨Nat.le_of_ble_eq_true rfl, Nat.le_of_ble_eq_true rfl⟩ hS (fun _ h => h) (fun H locs hq hS hz hk1 => ?_)
    obtain ⟨hDW, hf3⟩ := hq
    have hW := hW.aftD (hdj 3 (Or.inl (by decide))) (hDW.1 _ (hDW.mem (r := 3) rfl)) hf3
    have hsp_581 : readM f g x = (-1000000001, cntP f 0, g) := by unfold readM; rw [if_neg c_574]
    refine w_more (cells' := 100) (slots' := 1000) (Nat.le_of_ble_eq_true rfl) (Nat.le_of_ble_eq_true rfl) ?_
    exact ri_W hx hb hr hlk hS (by rw [hsp_581]; show (-1000000001 - 0 : Int32) = -1000000001; decide) (by rw [hsp_581]; exact DC.mk' rfl hO hDW hcok hW hdj) dX0_read_67
