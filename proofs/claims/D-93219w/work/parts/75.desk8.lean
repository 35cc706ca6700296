/-! the desk, 8: sticks, feed -/
set_option maxRecDepth 100000
theorem lean_9 {v : Int32} : -9 ≤ leanV v ∧ leanV v ≤ 9 := by
  unfold leanV
  by_cases h : sizeP v < 5
  · rw [if_pos h]; decide
  · rw [if_neg h]
    have h5 : ¬ sizeP v < 0 := fun q => h (Int32.lt_trans q (by decide))
    obtain ⟨z, hz, e⟩ := nI_of h5
    have e2 : sizeP v / 20 + 1 = nI (z / 20 + 1) := by rw [e, show nI z / 20 = nI (z / 20) from pk_div (d := 20) hz (by decide) (by decide), nI_1]
    rw [e2]
    have hk : ∃ t, t ≤ 9 ∧ (if (9 : Int32) < nI (z / 20 + 1) then 9 else nI (z / 20 + 1)) = nI t := by
      by_cases q : (9 : Int32) < nI (z / 20 + 1)
      · exact ⟨9, Nat.le_refl _, by rw [if_pos q]; rfl⟩
      · have q2 := (nI_leI (b := 9) (show z / 20 + 1 < 2 ^ 31 by omega) (by decide)).mp (Int32.not_lt.mp q)
        exact ⟨z / 20 + 1, q2, by rw [if_neg q]⟩
    obtain ⟨t, ht, et⟩ := hk
    rw [et]
    have key : ∀ t : Fin 10, (-9 : Int32) ≤ 0 - nI t.val ∧ 0 - nI t.val ≤ (9 : Int32) ∧ (-9 : Int32) ≤ nI t.val ∧ nI t.val ≤ (9 : Int32) := by decide
    have := key ⟨t, by omega⟩
    split
    · exact ⟨this.1, this.2.1⟩
    · exact ⟨this.2.2.1, this.2.2.2⟩
theorem seen_9 {s p : Nat → Int32} {i : Nat} : -9 ≤ seenV s p i ∧ seenV s p i ≤ 9 := by
  unfold seenV
  split
  · split
    · decide
    · exact lean_9
  · decide
theorem nar_9 {z x : Int32} (h : -9 ≤ x ∧ x ≤ 9) : narP z x.toInt64 = x.toInt64 := by
  have hx : ∃ t : Fin 19, x = nI t.val - 9 := by
    have h1 : ¬ x + 9 < 0 := by
      intro q
      have a := Int32.le_iff_toInt_le.mp h.1
      have b := Int32.le_iff_toInt_le.mp h.2
      have e1 : (-9 : Int32).toInt = -9 := by decide
      have e2 : (9 : Int32).toInt = 9 := by decide
      have e0 : (0 : Int32).toInt = 0 := by decide
      rw [e1] at a
      rw [e2] at b
      have c := Int32.lt_iff_toInt_lt.mp q
      rw [Int32.toInt_add, e2, e0, Int.bmod_eq_of_le (by omega) (by omega)] at c
      omega
    obtain ⟨t, ht, e⟩ := nI_of h1
    have ex : x = nI t - 9 := by rw [← e]; simp
    refine ⟨⟨t, ?_⟩, ex⟩
    have b := Int32.le_iff_toInt_le.mp h.2
    have e2 : (9 : Int32).toInt = 9 := by decide
    have a := Int32.le_iff_toInt_le.mp h.1
    have e1 : (-9 : Int32).toInt = -9 := by decide
    rw [e2] at b
    rw [e1] at a
    have c := congrArg Int32.toInt e
    rw [nI_toInt ht, Int32.toInt_add, e2, Int.bmod_eq_of_le (by omega) (by omega)] at c
    omega
  obtain ⟨t, e⟩ := hx
  have k8 : ∀ t : Fin 19, (nI t.val - 9).toInt64.toInt32.toInt8.toInt32.toInt64 = (nI t.val - 9).toInt64 := by decide
  have k16 : ∀ t : Fin 19, (nI t.val - 9).toInt64.toInt32.toInt16.toInt32.toInt64 = (nI t.val - 9).toInt64 := by decide
  rw [e]
  unfold narP
  split
  · exact k8 t
  · split
    · exact k16 t
    · rfl
theorem min_nat {N n : Nat} (hN : N ≤ 20) (hn : n ≤ 40) : (if nI N < nI n then nI N else nI n) = nI (if N ≤ n then N else n) := by
  by_cases h : N < n
  · rw [if_pos ((nI_ltI (by omega) (by omega)).mpr h), if_pos (by omega)]
  · rw [if_neg (fun q => h ((nI_ltI (by omega) (by omega)).mp q))]
    by_cases h2 : N ≤ n
    · rw [if_pos h2, show n = N by omega]
    · rw [if_neg h2]
theorem nd_X0_sticks : yX0_sticks.cls = "SmokeLeans" ∧ yX0_sticks.cls ≠ "java/lang/invoke/MethodHandle" ∧ yX0_sticks.cls ≠ "java/lang/invoke/VarHandle" ∧ (parseMethodDescriptor yX0_sticks.desc).map (fun d => d.parameters.length) = some 1 := by decide +kernel
set_option maxHeartbeats 4000000 in
theorem O_sticks (l : Launch) {G : GD} {A : Nat → Prop} {f : Nat → Nat → Int32} {g : Nat → Nat → Int64} {xo hk ht : Nat} {H0 : Heap} (hF : FG G) (hC : DC G A f g xo hk ht H0) (hAb : ∀ q, H0.size ≤ q → A q) (hI : IG G) (hZ : ZO f g) (x : Int32) : MetH l G yX0_sticks cX0_sticks 5 (some .int) [((0), (57), (58), (1))] 10 100 1000 A [.ref xo, .int x] H0 (some (.int (sticksM f g x).1)) (fun H => DC G A (sticksM f g x).2.1 (sticksM f g x).2.2 xo hk ht H) := by
  refine mw_of (hh := [((0), (57), (58), (1))]) (by decide) (Nat.le_of_ble_eq_true rfl) ?_
  intro p e s m below meth c hx hb hr hc hlk hnm htab hs0 ls hl
  subst hs0
  have hown := hc.2.2.2.1
  have hts := hc.2.2.2.2.1
  have hK := hc.2.2.2.2.2
  obtain ⟨b, ad, ah, ga, N, R, rfl, hO, hDW, ⟨u, hv, hcok, hW⟩, hdj⟩ := hC
  have hl : lv_has ls 5 [(0, .ref (ad 0)), (1, .int x)] := hl
  have hS : va_S A s.heap s.heap [] := va_S.rf
  have hN20 := hO.2.1
  have hHA : ∀ q, HR N ah ga q → A q := fun q h => HR.mem hW h
  refine lv_iload_n hx hb dX0_sticks_0 rfl (lv_at hl 1 rfl) ?_
  by_cases c_593 : 0 ≤ x ∧ x ≤ 3
  · refine cs_R0 (rest := []) hc (D_sheetAt_ok l c_593) (lw_S q836 q837 q67 q838) nd_X0_sheetAt ⟨Nat.le_of_ble_eq_true rfl, Nat.le_of_ble_eq_true rfl⟩ rfl hl.1 rfl (Nat.le_of_ble_eq_true rfl) dX0_sticks_1 ⟨Nat.le_of_ble_eq_true rfl, Nat.le_of_ble_eq_true rfl⟩ ?_
    obtain ⟨k, k3, rfl⟩ := ex_le 3 (hi := 3) rfl (by decide) c_593.1 c_593.2
    have k4 : k < 4 := by omega
    have hcl_k : (nI k).toNatClampNeg = k := nI_clamp (by omega)
    obtain ⟨nk, n40k, nkk⟩ := (hZ k k4).2.1
    have hnk : (f 20 k).toNatClampNeg = nk := by rw [nkk]; exact nI_clamp (by omega)
    refine lv_aload_n hx hb dX0_sticks_4 rfl (lv_at hl 0 rfl) ?_
    refine lv_iload_n hx hb dX0_sticks_5 rfl (lv_at hl 1 rfl) ?_
    by_cases c_594 : f 19 k = 0
    · refine cv_T (rest := []) hc (D_there_no l hDW k4 hF.1 c_594) q839 q841 qs19 q67 q842 nd_X0_there ⟨Nat.le_of_ble_eq_true rfl, Nat.le_of_ble_eq_true rfl⟩ (DW.recv hK hDW) rfl hl.1 rfl (Nat.le_of_ble_eq_true rfl) dX0_sticks_6 ⟨Nat.le_of_ble_eq_true rfl, Nat.le_of_ble_eq_true rfl⟩ hS (fun q h => hAb q (Nat.le_trans hS.1 h)) (fun ex H locs hq hS hz hk1 => ?_)
      obtain ⟨hexn, hex, hsz⟩ := hq
      have hne : ex ≠ ad 3 := by have := hDW.lt (r := 3) (fun z => by cases z); omega
      have hDW := hDW.aftM hk1
      have hW := hW.aftM hk1
      refine ct_find (pre := []) (post := []) (y := ⟨0, 57, 58, 1⟩) hc htab (by decide) (by decide) rfl hex ?_
      refine lv_astore_n (lv' := [(2, .ref ex), (0, .ref (ad 0)), (1, .int (nI k))]) hx hb dX0_sticks_58 rfl hl (by decide) rfl (fun ls hl => ?_)
      refine lv_aload_n hx hb dX0_sticks_59 rfl (lv_at hl 1 rfl) ?_
      refine lv_aload_n hx hb dX0_sticks_60 rfl (lv_at hl 0 rfl) ?_
      refine cv_W1 (rest := []) hc (D_X0finds l hDW hex hne (k := 5) rfl (by decide)) (lw_V q277 q279 qs1 q67 q280) nd_X0_finds ⟨Nat.le_of_ble_eq_true rfl, Nat.le_of_ble_eq_true rfl⟩ (DW.recv hK hDW) rfl hl.1 rfl (Nat.le_of_ble_eq_true rfl) dX0_sticks_61 ⟨Nat.le_of_ble_eq_true rfl, Nat.le_of_ble_eq_true rfl⟩ hS (fun _ h => h) (fun H locs hq hS hz hk1 => ?_)
      obtain ⟨hDW, hf3⟩ := hq
      have hW := hW.aftD (hdj 3 (Or.inl (by decide))) (hDW.1 _ (hDW.mem (r := 3) rfl)) hf3
      have hsp_595 : sticksM f g (nI k) = (-1000000006, cntP f 5, g) := by unfold sticksM; rw [if_pos c_593, hcl_k, if_pos c_594]
      refine w_more (cells' := 100) (slots' := 1000) (Nat.le_of_ble_eq_true rfl) (Nat.le_of_ble_eq_true rfl) ?_
      exact ri_W hx hb hr hlk hS (by rw [hsp_595]; show (-1000000001 - 5 : Int32) = -1000000006; decide) (by rw [hsp_595]; exact DC.mk' rfl hO hDW hcok hW hdj) dX0_sticks_64
    · refine cv_R1 (rest := []) hc (D_there_ok l hDW k4 c_594) (lw_V q839 q841 qs19 q67 q842) nd_X0_there ⟨Nat.le_of_ble_eq_true rfl, Nat.le_of_ble_eq_true rfl⟩ (DW.recv hK hDW) rfl hl.1 rfl (Nat.le_of_ble_eq_true rfl) dX0_sticks_6 ⟨Nat.le_of_ble_eq_true rfl, Nat.le_of_ble_eq_true rfl⟩ ?_
      have hzk : bitsOk (f 19 k) := (hZ k k4).1.resolve_left c_594
      refine lv_astore_n (lv' := [(2, .ref (ad (20 + k))), (0, .ref (ad 0)), (1, .int (nI k))]) hx hb dX0_sticks_9 rfl hl (by decide) rfl (fun ls hl => ?_)
      refine lv_aload_n hx hb dX0_sticks_10 rfl (lv_at hl 0 rfl) ?_
      refine cs_R1 (rest := []) hc (D_length l hI hzk (hDW.sh k4 hzk)) (lw_S q843 q844 q67 q845) nd_X0_length ⟨Nat.le_of_ble_eq_true rfl, Nat.le_of_ble_eq_true rfl⟩ rfl hl.1 rfl (Nat.le_of_ble_eq_true rfl) dX0_sticks_11 ⟨Nat.le_of_ble_eq_true rfl, Nat.le_of_ble_eq_true rfl⟩ (sm_topi (v := nI nk) (by rw [hnk]) ?_)
      refine lv_aload_n hx hb dX0_sticks_14 rfl (lv_at hl 1 rfl) ?_
      refine d_get hc hDW 0 (by decide) q161 rfl rfl dX0_sticks_15 ?_
      refine h_get hc hW 1 (by decide) rfl q124 rfl rfl dX0_sticks_18 ?_
      refine sm_topi (v := nI N) hO.2.2.2.1 ?_
      refine va_mmin (rest := []) hx hb (hc.2.2.1.trans hl.1.symm) hown (hts _ q849) (hts _ q774) (hts _ q87) (hts _ q775) (Nat.le_of_ble_eq_true rfl) (Nat.le_of_ble_eq_true rfl) (Nat.le_of_ble_eq_true rfl) (Nat.le_of_ble_eq_true rfl) dX0_sticks_21 (sm_topi (v := if (nI N) < (nI nk) then (nI N) else (nI nk)) (rfl) ?_)
      obtain ⟨M, hMe⟩ : ∃ M, M = if N ≤ nk then N else nk := ⟨_, rfl⟩
      have hMN : M ≤ N ∧ M ≤ nk := by rw [hMe]; split <;> omega
      refine sm_topi (v := nI M) (by rw [min_nat hN20 n40k, hMe]) ?_
      have hM1 : mnP (f 0 1) (f 20 k) = nI M := by rw [hO.2.2.2.1, nkk, mnP_nat (by omega) (by omega), hMe]
      have hM2 : (nI M).toNatClampNeg = M := nI_clamp (by omega)
      refine lv_istore_n (lv' := [(3, .int (nI M)), (2, .ref (ad (20 + k))), (0, .ref (ad 0)), (1, .int (nI k))]) hx hb dX0_sticks_24 rfl hl (by decide) rfl (fun ls hl => ?_)
      refine lv_iconst (v := 0) hx hb dX0_sticks_25 (by decide) ?_
      refine lv_istore (lv' := [(4, .int 0), (3, .int (nI M)), (2, .ref (ad (20 + k))), (0, .ref (ad 0)), (1, .int (nI k))]) hx hb dX0_sticks_26 hl (by decide) rfl (fun ls hl => ?_)
      have hW : HW G A N (upd (f 0) 8 (zN (f 0 8) 0)) u hv ah ga s.heap := by rw [show zN (f 0 8) 0 = f 0 8 from rfl, upd_self]; exact hW
      have hcok : HCok (upd (f 0) 8 (zN (f 0 8) 0)) u := by rw [show zN (f 0 8) 0 = f 0 8 from rfl, upd_self]; exact hcok
      have hDW : DW G A f (upR g 21 (40 * k) 0 (stkV (f 0))) b (ah 0) hk ht ad s.heap := by rw [upR_0]; exact hDW
      refine w_loopH (σ := Nat) (fun i H locs cells slots fr => cells = 0 ∧ slots = 0 ∧ (∃ ls, fr = F0 m 28 ls [] ∧ lv_has ls 5 [(4, .int (nI i)), (3, .int (nI M)), (2, .ref (ad (20 + k))), (1, .int (nI k)), (0, .ref (ad 0))]) ∧ va_S A s.heap H locs ∧ (i ≤ M ∧ ∃ u hv, HCok (upd (f 0) 8 (zN (f 0 8) i)) u ∧ HW G A N (upd (f 0) 8 (zN (f 0 8) i)) u hv ah ga H ∧ DW G A f (upR g 21 (40 * k) i (stkV (f 0))) b (ah 0) hk ht ad H)) (fun i => M - i) 0 ⟨rfl, rfl, ⟨ls, rfl, lv_sub hl [0, 1, 2, 4, 3] rfl⟩, hS, ⟨Nat.zero_le _, u, hv, hcok, hW, hDW⟩⟩ ?_
      intro i H locs cells slots fr hI ih
      obtain ⟨rfl, rfl, ⟨ls, rfl, hl⟩, hS, ⟨hiM, u, hv, hcok, hW, hDW⟩⟩ := hI
      have hOi := OkN_8 (s' := upd (f 0) 8 (zN (f 0 8) i)) eq8_upd hO
      by_cases hi : i < M
      · have hin : i < nk := by omega
        have hiN : i < N := by omega
        refine lv_iload hx hb dX0_sticks_28 (lv_at hl 0 rfl) ?_
        refine lv_iload_n hx hb dX0_sticks_30 rfl (lv_at hl 1 rfl) ?_
        refine lv_icmp_ge (tgt := 56) hx hb dX0_sticks_31 (by decide) (fun h => absurd h (nI_ge hi (by omega))) (fun _ => ?_)
        refine lv_aload_n hx hb dX0_sticks_34 rfl (lv_at hl 2 rfl) ?_
        refine lv_iload hx hb dX0_sticks_35 (lv_at hl 0 rfl) ?_
        refine lv_aload_n hx hb dX0_sticks_37 rfl (lv_at hl 4 rfl) ?_
        refine d_get hc hDW 0 (by decide) q161 rfl rfl dX0_sticks_38 ?_
        refine lv_iload hx hb dX0_sticks_41 (lv_at hl 0 rfl) ?_
        refine cv_W1 (rest := [.int (nI i), .ref (ad (20 + k))]) hc (D_seen l hF (HS.toR ⟨u, hv, hcok, hW⟩) hOi i hiN) (lw_V q821 q822 q823 q68 q824) nd_X1_seen ⟨Nat.le_of_ble_eq_true rfl, Nat.le_of_ble_eq_true rfl⟩ (HW.recv hK hW) rfl hl.1 rfl (Nat.le_of_ble_eq_true rfl) dX0_sticks_43 ⟨Nat.le_of_ble_eq_true rfl, Nat.le_of_ble_eq_true rfl⟩ hS hHA (fun H locs hq hS hz hk1 => ?_)
        have hDW := hDW.aftC hdj hHA hk1
        obtain ⟨u, hv, hcok, hW⟩ := HS.ofR hq hW.1 hHA
        have hO8 := OkN_8 (s' := upd (upd (f 0) 8 (zN (f 0 8) i)) 8 (drawP ((upd (f 0) 8 (zN (f 0 8) i)) 8))) eq8_upd hOi
        refine lv_i2l hx hb dX0_sticks_46 rfl ?_
        refine cs_W0 (rest := []) hc (D_put l hI hzk (hDW.sh k4 hzk) (x := (nI i)) (j := i) (ix_nI (by rw [hnk]; exact hin) (by rw [hnk]; omega)) ((seenV (upd (f 0) 8 (zN (f 0 8) i)) (prP (upd (f 0) 8 (zN (f 0 8) i))) i).toInt64)) (lw_S q850 q851 q67 q852) nd_X0_put ⟨Nat.le_of_ble_eq_true rfl, Nat.le_of_ble_eq_true rfl⟩ rfl hl.1 rfl (Nat.le_of_ble_eq_true rfl) dX0_sticks_47 ⟨Nat.le_of_ble_eq_true rfl, Nat.le_of_ble_eq_true rfl⟩ hS (fun q h => by rw [h]; exact hDW.msh k4 hzk) (fun H locs hq hS hz hk1 => ?_)
        have hW := hW.aftD (hdj (20 + k) (dS_sh k4 hzk)) (hDW.1 _ (hDW.msh k4 hzk)) hq.2.2
        have hDW := hDW.shput hZ.okz k4 hzk (by rw [hnk]; exact hin) hq.1 hq.2.2
        refine lv_iinc (v := nI (i + 1)) (lv' := [(4, .int (nI (i + 1))), (3, .int (nI M)), (2, .ref (ad (20 + k))), (1, .int (nI k)), (0, .ref (ad 0))]) hx hb dX0_sticks_50 hl (k := 0) rfl (nI_1 _) (by decide) rfl (fun ls hl => ?_)
        refine lv_goto (tgt := 28) hx hb dX0_sticks_53 (by decide) ?_
        have hzs : upd (upd (f 0) 8 (zN (f 0 8) i)) 8 (drawP ((upd (f 0) 8 (zN (f 0 8) i)) 8)) = upd (f 0) 8 (zN (f 0 8) (i + 1)) := by rw [upd_upd, upd_at]; rfl
        rw [hzs] at hW hcok
        rw [nar_9 seen_9, upR_s (show _ = stkV (f 0) i by unfold stkV; rw [prP_8 eq8_upd])] at hDW
        exact ih (i + 1) _ _ _ _ _ ⟨rfl, rfl, ⟨ls, rfl, lv_sub hl [0, 1, 2, 3, 4] rfl⟩, hS, hi, u, hv, hcok, hW, hDW⟩ (by omega)
      · have hiE : M = i := by omega
        subst hiE
        refine lv_iload hx hb dX0_sticks_28 (lv_at hl 0 rfl) ?_
        refine lv_iload_n hx hb dX0_sticks_30 rfl (lv_at hl 1 rfl) ?_
        refine lv_icmp_ge (tgt := 56) hx hb dX0_sticks_31 (by decide) (fun _ => ?_) (fun h => absurd (nI_le (by omega) (by omega)) h)
        refine lv_iload_n hx hb dX0_sticks_56 rfl (lv_at hl 1 rfl) ?_
        have hsp_596 : sticksM f g (nI k) = (nI M, up2 f 0 8 (zN (f 0 8) M), upR g 21 (40 * k) M (stkV (f 0))) := by unfold sticksM; rw [if_pos c_593, hcl_k, if_neg c_594, hM1, hM2]
        refine w_more (cells' := 100) (slots' := 1000) (Nat.le_of_ble_eq_true rfl) (Nat.le_of_ble_eq_true rfl) ?_
        exact ri_W hx hb hr hlk hS (by rw [hsp_596]) (by rw [hsp_596]; exact DC.mk' up2_row hOi (hDW.fr rfl rfl rfl rfl rfl rfl) hcok hW hdj) dX0_sticks_57
  · refine cs_T (rest := []) hc (D_sheetAt_no l hF.1 hDW.2.1 hDW.gle c_593) q836 q837 q67 q838 nd_X0_sheetAt ⟨Nat.le_of_ble_eq_true rfl, Nat.le_of_ble_eq_true rfl⟩ rfl hl.1 rfl (Nat.le_of_ble_eq_true rfl) dX0_sticks_1 ⟨Nat.le_of_ble_eq_true rfl, Nat.le_of_ble_eq_true rfl⟩ hS (fun q h => hAb q (Nat.le_trans hS.1 h)) (fun ex H locs hq hS hz hk1 => ?_)
    obtain ⟨hexn, hex, hsz⟩ := hq
    have hne : ex ≠ ad 3 := by have := hDW.lt (r := 3) (fun z => by cases z); omega
    have hDW := hDW.aftM hk1
    have hW := hW.aftM hk1
    refine ct_find (pre := []) (post := []) (y := ⟨0, 57, 58, 1⟩) hc htab (by decide) (by decide) rfl hex ?_
    refine lv_astore_n (lv' := [(2, .ref ex), (0, .ref (ad 0)), (1, .int x)]) hx hb dX0_sticks_58 rfl hl (by decide) rfl (fun ls hl => ?_)
    refine lv_aload_n hx hb dX0_sticks_59 rfl (lv_at hl 1 rfl) ?_
    refine lv_aload_n hx hb dX0_sticks_60 rfl (lv_at hl 0 rfl) ?_
    refine cv_W1 (rest := []) hc (D_X0finds l hDW hex hne (k := 0) rfl (by decide)) (lw_V q277 q279 qs1 q67 q280) nd_X0_finds ⟨Nat.le_of_ble_eq_true rfl, Nat.le_of_ble_eq_true rfl⟩ (DW.recv hK hDW) rfl hl.1 rfl (Nat.le_of_ble_eq_true rfl) dX0_sticks_61 ⟨Nat.le_of_ble_eq_true rfl, Nat.le_of_ble_eq_true rfl⟩ hS (fun _ h => h) (fun H locs hq hS hz hk1 => ?_)
    obtain ⟨hDW, hf3⟩ := hq
    have hW := hW.aftD (hdj 3 (Or.inl (by decide))) (hDW.1 _ (hDW.mem (r := 3) rfl)) hf3
    have hsp_597 : sticksM f g x = (-1000000001, cntP f 0, g) := by unfold sticksM; rw [if_neg c_593]
    refine w_more (cells' := 100) (slots' := 1000) (Nat.le_of_ble_eq_true rfl) (Nat.le_of_ble_eq_true rfl) ?_
    exact ri_W hx hb hr hlk hS (by rw [hsp_597]; show (-1000000001 - 0 : Int32) = -1000000001; decide) (by rw [hsp_597]; exact DC.mk' rfl hO hDW hcok hW hdj) dX0_sticks_64
