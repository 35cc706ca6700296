/-! the reference's methods, 13: sheets stuck, laid, read -/
set_option maxRecDepth 100000
def zN (z : Int32) : Nat → Int32
  | 0 => z
  | k + 1 => drawP (zN z k)
def mnP (a b : Int32) : Int32 := if a ≤ b then a else b
def stkV (s : Nat → Int32) (j : Nat) : Int64 := (seenV (upd s 8 (zN (s 8) j)) (prP s) j).toInt64
def sticksM (f : Nat → Nat → Int32) (g : Nat → Nat → Int64) (x : Int32) : ST3 :=
  if 0 ≤ x ∧ x ≤ 3 then
    if f 19 x.toNatClampNeg = 0 then MIS3 f g
    else (mnP (f 0 1) (f 20 x.toNatClampNeg), up2 f 0 8 (zN (f 0 8) (mnP (f 0 1) (f 20 x.toNatClampNeg)).toNatClampNeg), upR g 21 (40 * x.toNatClampNeg) (mnP (f 0 1) (f 20 x.toNatClampNeg)).toNatClampNeg (stkV (f 0)))
  else BEY3 f g
theorem mnP_nat {a b : Nat} (ha : a < 2 ^ 31) (hb : b < 2 ^ 31) : mnP (nI a) (nI b) = nI (if a ≤ b then a else b) := by
  unfold mnP
  by_cases h : a ≤ b
  · rw [if_pos h, if_pos ((nI_leI ha hb).mpr h)]
  · rw [if_neg h, if_neg (fun q => h ((nI_leI ha hb).mp q))]
theorem nd_X3_sticks : yX3_sticks.cls = "SmokeLeansModel" ∧ yX3_sticks.cls ≠ "java/lang/invoke/MethodHandle" ∧ yX3_sticks.cls ≠ "java/lang/invoke/VarHandle" ∧ (parseMethodDescriptor yX3_sticks.desc).map (fun d => d.parameters.length) = some 1 := by decide +kernel
set_option maxHeartbeats 8000000 in
theorem M_sticks (l : Launch) {G : GD} {A : Nat → Prop} {f : Nat → Nat → Int32} {g : Nat → Nat → Int64} {ad : Nat → Nat} {H0 : Heap} (hW : MW G A f g ad H0) (hz : OkZ f) {R N : Nat} (hO : OkN (f 0) R N) (x : Int32) : MetW l G yX3_sticks cX3_sticks 5 (some .int) 5 0 0 A [.ref (ad 23), .int x] H0 (some (.int ((sticksM f g x).1))) (fun H => MP3 G A (sticksM f g x) ad H) := by
  refine mx_of (by decide) (Nat.le_of_ble_eq_true rfl) ?_
  intro p e s m below meth c hx hb hr hc hlk hnm hs0 ls hl
  subst hs0
  have hown := hc.2.2.2.1
  have hts := hc.2.2.2.2.1
  have hK := hc.2.2.2.2.2
  have hl : lv_has ls 5 [(0, .ref (ad 23)), (1, .int x)] := hl
  have hS : va_S A s.heap s.heap [] := va_S.rf
  refine lv_aload_n hx hb dX3_sticks_0 rfl (lv_at hl 0 rfl) ?_
  refine lv_iload_n hx hb dX3_sticks_1 rfl (lv_at hl 1 rfl) ?_
  refine cv_R1 (rest := []) hc (M_wrong l hW x) (lw_V q1380 q1382 qs65 q70 q1383) nd_X3_wrong ⟨Nat.le_of_ble_eq_true rfl, Nat.le_of_ble_eq_true rfl⟩ (MW.recv hK hW) rfl hl.1 rfl (Nat.le_of_ble_eq_true rfl) dX3_sticks_2 ⟨Nat.le_of_ble_eq_true rfl, Nat.le_of_ble_eq_true rfl⟩ ?_
  by_cases hA : 0 ≤ x ∧ x ≤ 3
  · obtain ⟨k, hk3, rfl⟩ := ex_le 3 (hi := 3) rfl (by decide) hA.1 hA.2
    have hclk : (nI k).toNatClampNeg = k := nI_clamp (by omega)
    obtain ⟨n, hn40, hnk⟩ := hz k (by omega)
    by_cases hB : f 19 k = 0
    · refine sm_topi (v := -1000000006) (by simp only [wrongP, hclk, if_pos hA, if_pos hB]) ?_
      refine lv_istore_n (lv' := [(2, .int (-1000000006)), (0, .ref (ad 23)), (1, .int (nI k))]) hx hb dX3_sticks_5 rfl hl (by decide) rfl (fun ls hl => ?_)
      refine lv_iload_n hx hb dX3_sticks_6 rfl (lv_at hl 0 rfl) ?_
      refine lv_if_eq (tgt := 16) hx hb dX3_sticks_7 (by decide) (fun h => absurd h (by decide)) (fun _ => ?_)
      refine lv_aload_n hx hb dX3_sticks_10 rfl (lv_at hl 1 rfl) ?_
      refine lv_iload_n hx hb dX3_sticks_11 rfl (lv_at hl 0 rfl) ?_
      refine cv_W1 (rest := []) hc (M_finds l hW (-1000000006) 5 (ix_eq (k := 5) (by decide) (by decide) (by decide))) (lw_V q1075 q1077 qs28 q70 q1078) nd_X3_finds ⟨Nat.le_of_ble_eq_true rfl, Nat.le_of_ble_eq_true rfl⟩ (MW.recv hK hW) rfl hl.1 rfl (Nat.le_of_ble_eq_true rfl) dX3_sticks_12 ⟨Nat.le_of_ble_eq_true rfl, Nat.le_of_ble_eq_true rfl⟩ hS (fun _ h => h) (fun H locs hW hS hz hk => ?_)
      exact ri_W hx hb hr hlk hS (by simp only [sticksM, hclk, if_pos hA, if_pos hB]) (by simp only [MP3, sticksM, hclk, if_pos hA, if_pos hB]; exact MW.mp hW) dX3_sticks_15
    · refine sm_topi (v := 0) (by simp only [wrongP, hclk, if_pos hA, if_neg hB]) ?_
      refine lv_istore_n (lv' := [(2, .int 0), (0, .ref (ad 23)), (1, .int (nI k))]) hx hb dX3_sticks_5 rfl hl (by decide) rfl (fun ls hl => ?_)
      refine lv_iload_n hx hb dX3_sticks_6 rfl (lv_at hl 0 rfl) ?_
      refine lv_if_eq (tgt := 16) hx hb dX3_sticks_7 (by decide) (fun _ => ?_) (fun h => absurd (by decide) h)
      obtain ⟨q, hq⟩ : ∃ q, q = if N ≤ n then N else n := ⟨_, rfl⟩
      have hmn : mnP (f 0 1) (f 20 k) = nI q := by rw [hO.2.2.2.1, hnk, mnP_nat (by have := hO.2.1; omega) (by omega), hq]
      have hqN : q ≤ N := by rw [hq]; split <;> omega
      have hqn : q ≤ n := by rw [hq]; split <;> omega
      have hclq : (nI q).toNatClampNeg = q := nI_clamp (by omega)
      refine w_join (fun y => y = nI q) 46 [] (fun y hy => ?_) (fun jn => ?_)
      · subst hy
        refine lv_istore_n (lv' := [(3, .int (nI q)), (2, .int 0), (0, .ref (ad 23)), (1, .int (nI k))]) hx hb dX3_sticks_46 rfl hl (by decide) rfl (fun ls hl => ?_)
        refine lv_aload_n hx hb dX3_sticks_47 rfl (lv_at hl 2 rfl) ?_
        refine cv_W0 (rest := []) hc (M_rests l hW (R := R) (N := N) hO) (lw_V q1233 q1235 qs51 q70 q1236) nd_X3_rests ⟨Nat.le_of_ble_eq_true rfl, Nat.le_of_ble_eq_true rfl⟩ (MW.recv hK hW) rfl hl.1 rfl (Nat.le_of_ble_eq_true rfl) dX3_sticks_48 ⟨Nat.le_of_ble_eq_true rfl, Nat.le_of_ble_eq_true rfl⟩ hS (fun _ h => h) (fun H locs hq hS hz hk => ?_)
        obtain ⟨b_222, hW⟩ := hq
        have hW : AR G A f g ad b_222 H := hW
        refine lv_iconst (v := 0) hx hb dX3_sticks_51 (by decide) ?_
        refine lv_istore (lv' := [(4, .int 0), (3, .int (nI q)), (2, .int 0), (0, .ref (ad 23)), (1, .int (nI k))]) hx hb dX3_sticks_52 hl (by decide) rfl (fun ls hl => ?_)
        refine w_loopH (σ := Nat) (fun i H locs cells slots fr => cells = 0 ∧ slots = 0 ∧ (∃ ls, fr = F0 m 54 ls [] ∧ lv_has ls 5 [(4, .int (nI i)), (3, .int (nI q)), (0, .ref (ad 23)), (1, .int (nI k))]) ∧ va_S A s.heap H locs ∧ (i ≤ q ∧ MW G A (airF (upA f 0 (upd (f 0) 8 (zN (f 0 8) i))) (prP (f 0)) b_222 (nI (rdP (f 0))) (b2i (rdP (f 0) = 60))) (upR g 21 (40 * k) i (stkV (f 0))) ad H)) (fun i => q - i) 0 ⟨rfl, rfl, ⟨ls, rfl, lv_sub hl [0, 1, 3, 4] rfl⟩, hS, ⟨Nat.zero_le _, by rw [show zN (f 0 8) 0 = f 0 8 from rfl, upd_self, upA_self, upR_0]; exact hW⟩⟩ ?_
        intro i H locs cells slots fr hI ih
        obtain ⟨rfl, rfl, ⟨ls, rfl, hl⟩, hS, ⟨hle, hW⟩⟩ := hI
        by_cases hi : i < q
        · have hO8 : OkN (upd (f 0) 8 (zN (f 0 8) i)) R N := OkN_8 eq8_upd hO
          refine lv_iload hx hb dX3_sticks_54 (lv_at hl 0 rfl) ?_
          refine lv_iload_n hx hb dX3_sticks_56 rfl (lv_at hl 1 rfl) ?_
          refine lv_icmp_ge (tgt := 85) hx hb dX3_sticks_57 (by decide) (fun h => absurd h (nI_ge hi (by omega))) (fun _ => ?_)
          refine lv_aload_n hx hb dX3_sticks_60 rfl (lv_at hl 2 rfl) ?_
          refine m_get hc hW 21 (by decide) rfl q1021 rfl rfl dX3_sticks_61 ?_
          refine lv_bipush (v := 40) hx hb dX3_sticks_64 (by decide) ?_
          refine lv_iload_n hx hb dX3_sticks_66 rfl (lv_at hl 3 rfl) ?_
          refine lv_imul hx hb dX3_sticks_67 (sm_topi (v := nI (40 * k)) (pk_mul _ _) ?_)
          refine lv_iload hx hb dX3_sticks_68 (lv_at hl 0 rfl) ?_
          refine lv_iadd hx hb dX3_sticks_70 (sm_topi (v := nI (40 * k + i)) (nI_add _ _) ?_)
          refine lv_aload_n hx hb dX3_sticks_71 rfl (lv_at hl 2 rfl) ?_
          refine lv_iload hx hb dX3_sticks_72 (lv_at hl 0 rfl) ?_
          refine cv_W1 (rest := [.int (nI (40 * k + i)), .ref (ad 21)]) hc (M_seen l hW (R := R) (N := N) hO8 i (by omega)) (lw_V q1297 q1299 qs59 q70 q1300) nd_X3_seen ⟨Nat.le_of_ble_eq_true rfl, Nat.le_of_ble_eq_true rfl⟩ (MW.recv hK hW) rfl hl.1 rfl (Nat.le_of_ble_eq_true rfl) dX3_sticks_74 ⟨Nat.le_of_ble_eq_true rfl, Nat.le_of_ble_eq_true rfl⟩ hS (fun _ h => h) (fun H locs hW hS hz hk => ?_)
          refine sm_topi (v := seenV (upd (f 0) 8 (zN (f 0 8) i)) (prP (f 0)) i) rfl ?_
          rw [airF_up (by decide), up2_upA, upd_upd] at hW
          have hW : MW G A (airF (upA f 0 (upd (f 0) 8 (zN (f 0 8) (i + 1)))) (prP (f 0)) b_222 (nI (rdP (f 0))) (b2i (rdP (f 0) = 60))) (upR g 21 (40 * k) i (stkV (f 0))) ad H := by rw [show zN (f 0 8) (i + 1) = drawP (upd (f 0) 8 (zN (f 0 8) i) 8) from by rw [upd_at]; rfl]; exact hW
          refine lv_i2l hx hb dX3_sticks_77 rfl ?_
          refine m_lst hc hW hS 21 rfl (n := 160) rfl (ix_nI (by omega) (by decide)) dX3_sticks_78 (fun H locs hW hS hz => ?_)
          refine lv_iinc (v := nI (i + 1)) (lv' := [(4, .int (nI (i + 1))), (3, .int (nI q)), (0, .ref (ad 23)), (1, .int (nI k))]) hx hb dX3_sticks_79 hl (k := 0) rfl (nI_1 _) (by decide) rfl (fun ls hl => ?_)
          refine lv_goto (tgt := 54) hx hb dX3_sticks_82 (by decide) ?_
          rw [upR_s (c := stkV (f 0)) (n := i) (x := (seenV (upd (f 0) 8 (zN (f 0 8) i)) (prP (f 0)) i).toInt64) rfl] at hW
          exact ih (i + 1) _ _ _ _ _ ⟨rfl, rfl, ⟨ls, rfl, lv_sub hl [0, 1, 2, 3] rfl⟩, hS, hi, hW⟩ (by omega)
        · have hiq : i = q := by omega
          subst hiq
          refine lv_iload hx hb dX3_sticks_54 (lv_at hl 0 rfl) ?_
          refine lv_iload_n hx hb dX3_sticks_56 rfl (lv_at hl 1 rfl) ?_
          refine lv_icmp_ge (tgt := 85) hx hb dX3_sticks_57 (by decide) (fun _ => ?_) (fun h => absurd (nI_le (by omega) (by omega)) h)
          refine lv_iload_n hx hb dX3_sticks_85 rfl (lv_at hl 1 rfl) ?_
          exact ri_W hx hb hr hlk hS (by simp only [sticksM, hclk, if_pos hA, if_neg hB, hmn]) (by simp only [MP3, sticksM, hclk, if_pos hA, if_neg hB, hmn, hclq]; rw [up2_eqA]; exact AX.mp ⟨_, _, _, _, hW⟩) dX3_sticks_86
      · refine lv_aload_n hx hb dX3_sticks_16 rfl (lv_at hl 1 rfl) ?_
        refine m_get hc hW 20 (by decide) rfl q1020 rfl rfl dX3_sticks_17 ?_
        refine lv_iload_n hx hb dX3_sticks_20 rfl (lv_at hl 2 rfl) ?_
        refine m_ild hc hW 20 rfl (n := 4) rfl (ix_nI (by omega) (by decide)) dX3_sticks_21 ?_
        refine sm_topi (v := nI n) (hnk) ?_
        refine lv_aload_n hx hb dX3_sticks_22 rfl (lv_at hl 1 rfl) ?_
        refine m_get hc hW 0 (by decide) rfl q1000 rfl rfl dX3_sticks_23 ?_
        refine lv_iconst (v := 1) hx hb dX3_sticks_26 (by decide) ?_
        refine m_ild hc hW 0 rfl (n := 169) rfl (ix_eq (k := 1) rfl (by decide) (by decide)) dX3_sticks_27 ?_
        refine sm_topi (v := nI N) (hO.2.2.2.1) ?_
        refine lv_icmp_ge (tgt := 40) hx hb dX3_sticks_28 (by decide) (fun c_223 => ?_) (fun c_223 => ?_)
        · refine lv_aload_n hx hb dX3_sticks_40 rfl (lv_at hl 1 rfl) ?_
          refine m_get hc hW 0 (by decide) rfl q1000 rfl rfl dX3_sticks_41 ?_
          refine lv_iconst (v := 1) hx hb dX3_sticks_44 (by decide) ?_
          refine m_ild hc hW 0 rfl (n := 169) rfl (ix_eq (k := 1) rfl (by decide) (by decide)) dX3_sticks_45 ?_
          refine sm_topi (v := nI N) (hO.2.2.2.1) ?_
          exact jn _ (by rw [hq, if_pos ((nI_leI (by have := hO.2.1; omega) (by omega)).mp c_223)])
        · refine lv_aload_n hx hb dX3_sticks_31 rfl (lv_at hl 1 rfl) ?_
          refine m_get hc hW 20 (by decide) rfl q1020 rfl rfl dX3_sticks_32 ?_
          refine lv_iload_n hx hb dX3_sticks_35 rfl (lv_at hl 2 rfl) ?_
          refine m_ild hc hW 20 rfl (n := 4) rfl (ix_nI (by omega) (by decide)) dX3_sticks_36 ?_
          refine sm_topi (v := nI n) (hnk) ?_
          refine lv_goto (tgt := 46) hx hb dX3_sticks_37 (by decide) ?_
          exact jn _ (by rw [hq, if_neg (fun z => c_223 ((nI_leI (by have := hO.2.1; omega) (by omega)).mpr z))])
  · refine sm_topi (v := -1000000001) (by simp only [wrongP, if_neg hA]) ?_
    refine lv_istore_n (lv' := [(2, .int (-1000000001)), (0, .ref (ad 23)), (1, .int x)]) hx hb dX3_sticks_5 rfl hl (by decide) rfl (fun ls hl => ?_)
    refine lv_iload_n hx hb dX3_sticks_6 rfl (lv_at hl 0 rfl) ?_
    refine lv_if_eq (tgt := 16) hx hb dX3_sticks_7 (by decide) (fun h => absurd h (by decide)) (fun _ => ?_)
    refine lv_aload_n hx hb dX3_sticks_10 rfl (lv_at hl 1 rfl) ?_
    refine lv_iload_n hx hb dX3_sticks_11 rfl (lv_at hl 0 rfl) ?_
    refine cv_W1 (rest := []) hc (M_finds l hW (-1000000001) 0 (ix_eq (k := 0) (by decide) (by decide) (by decide))) (lw_V q1075 q1077 qs28 q70 q1078) nd_X3_finds ⟨Nat.le_of_ble_eq_true rfl, Nat.le_of_ble_eq_true rfl⟩ (MW.recv hK hW) rfl hl.1 rfl (Nat.le_of_ble_eq_true rfl) dX3_sticks_12 ⟨Nat.le_of_ble_eq_true rfl, Nat.le_of_ble_eq_true rfl⟩ hS (fun _ h => h) (fun H locs hW hS hz hk => ?_)
    exact ri_W hx hb hr hlk hS (by simp only [sticksM, if_neg hA]) (by simp only [MP3, sticksM, if_neg hA]; exact MW.mp hW) dX3_sticks_15
def lyN (s : Nat → Int32) (c : Nat → Int64) : Nat → (Nat → Int32) × Int32
  | 0 => (s, 0)
  | i + 1 => if (0 : Int32).toInt64 ≤ c i ∧ c i ≤ (99 : Int32).toInt64 then (upd (lyN s c i).1 (gp i 3) (c i).toInt32, (lyN s c i).2 + 1) else lyN s c i
def laysM (f : Nat → Nat → Int32) (g : Nat → Nat → Int64) (x : Int32) : ST3 :=
  if 0 ≤ x ∧ x ≤ 3 then
    if f 19 x.toNatClampNeg = 0 then MIS3 f g
    else ((lyN (f 0) (fun j => g 21 (40 * x.toNatClampNeg + j)) (mnP (f 0 1) (f 20 x.toNatClampNeg)).toNatClampNeg).2, upA f 0 (lyN (f 0) (fun j => g 21 (40 * x.toNatClampNeg + j)) (mnP (f 0 1) (f 20 x.toNatClampNeg)).toNatClampNeg).1, g)
  else BEY3 f g
theorem lyN_lo {s : Nat → Int32} {c : Nat → Int64} {j : Nat} (hj : j < 9) : ∀ n, (lyN s c n).1 j = s j
  | 0 => rfl
  | n + 1 => by
    unfold lyN
    split
    · exact (pk_un (show j ≠ 9 + 8 * n + 3 by omega)).trans (lyN_lo hj n)
    · exact lyN_lo hj n
theorem nd_X3_lays : yX3_lays.cls = "SmokeLeansModel" ∧ yX3_lays.cls ≠ "java/lang/invoke/MethodHandle" ∧ yX3_lays.cls ≠ "java/lang/invoke/VarHandle" ∧ (parseMethodDescriptor yX3_lays.desc).map (fun d => d.parameters.length) = some 1 := by decide +kernel
set_option maxHeartbeats 8000000 in
theorem M_lays (l : Launch) {G : GD} {A : Nat → Prop} {f : Nat → Nat → Int32} {g : Nat → Nat → Int64} {ad : Nat → Nat} {H0 : Heap} (hW : MW G A f g ad H0) (hz : OkZ f) {R N : Nat} (hO : OkN (f 0) R N) (x : Int32) : MetW l G yX3_lays cX3_lays 7 (some .int) 3 0 0 A [.ref (ad 23), .int x] H0 (some (.int ((laysM f g x).1))) (fun H => MP3 G A (laysM f g x) ad H) := by
  refine mx_of (by decide) (Nat.le_of_ble_eq_true rfl) ?_
  intro p e s m below meth c hx hb hr hc hlk hnm hs0 ls hl
  subst hs0
  have hown := hc.2.2.2.1
  have hts := hc.2.2.2.2.1
  have hK := hc.2.2.2.2.2
  have hl : lv_has ls 7 [(0, .ref (ad 23)), (1, .int x)] := hl
  have hS : va_S A s.heap s.heap [] := va_S.rf
  refine lv_aload_n hx hb dX3_lays_0 rfl (lv_at hl 0 rfl) ?_
  refine lv_iload_n hx hb dX3_lays_1 rfl (lv_at hl 1 rfl) ?_
  refine cv_R1 (rest := []) hc (M_wrong l hW x) (lw_V q1380 q1382 qs65 q70 q1383) nd_X3_wrong ⟨Nat.le_of_ble_eq_true rfl, Nat.le_of_ble_eq_true rfl⟩ (MW.recv hK hW) rfl hl.1 rfl (Nat.le_of_ble_eq_true rfl) dX3_lays_2 ⟨Nat.le_of_ble_eq_true rfl, Nat.le_of_ble_eq_true rfl⟩ ?_
  by_cases hA : 0 ≤ x ∧ x ≤ 3
  · obtain ⟨k, hk3, rfl⟩ := ex_le 3 (hi := 3) rfl (by decide) hA.1 hA.2
    have hclk : (nI k).toNatClampNeg = k := nI_clamp (by omega)
    obtain ⟨n, hn40, hnk⟩ := hz k (by omega)
    by_cases hB : f 19 k = 0
    · refine sm_topi (v := -1000000006) (by simp only [wrongP, hclk, if_pos hA, if_pos hB]) ?_
      refine lv_istore_n (lv' := [(2, .int (-1000000006)), (0, .ref (ad 23)), (1, .int (nI k))]) hx hb dX3_lays_5 rfl hl (by decide) rfl (fun ls hl => ?_)
      refine lv_iload_n hx hb dX3_lays_6 rfl (lv_at hl 0 rfl) ?_
      refine lv_if_eq (tgt := 16) hx hb dX3_lays_7 (by decide) (fun h => absurd h (by decide)) (fun _ => ?_)
      refine lv_aload_n hx hb dX3_lays_10 rfl (lv_at hl 1 rfl) ?_
      refine lv_iload_n hx hb dX3_lays_11 rfl (lv_at hl 0 rfl) ?_
      refine cv_W1 (rest := []) hc (M_finds l hW (-1000000006) 5 (ix_eq (k := 5) (by decide) (by decide) (by decide))) (lw_V q1075 q1077 qs28 q70 q1078) nd_X3_finds ⟨Nat.le_of_ble_eq_true rfl, Nat.le_of_ble_eq_true rfl⟩ (MW.recv hK hW) rfl hl.1 rfl (Nat.le_of_ble_eq_true rfl) dX3_lays_12 ⟨Nat.le_of_ble_eq_true rfl, Nat.le_of_ble_eq_true rfl⟩ hS (fun _ h => h) (fun H locs hW hS hz hk => ?_)
      exact ri_W hx hb hr hlk hS (by simp only [laysM, hclk, if_pos hA, if_pos hB]) (by simp only [MP3, laysM, hclk, if_pos hA, if_pos hB]; exact MW.mp hW) dX3_lays_15
    · refine sm_topi (v := 0) (by simp only [wrongP, hclk, if_pos hA, if_neg hB]) ?_
      refine lv_istore_n (lv' := [(2, .int 0), (0, .ref (ad 23)), (1, .int (nI k))]) hx hb dX3_lays_5 rfl hl (by decide) rfl (fun ls hl => ?_)
      refine lv_iload_n hx hb dX3_lays_6 rfl (lv_at hl 0 rfl) ?_
      refine lv_if_eq (tgt := 16) hx hb dX3_lays_7 (by decide) (fun _ => ?_) (fun h => absurd (by decide) h)
      obtain ⟨q, hq⟩ : ∃ q, q = if N ≤ n then N else n := ⟨_, rfl⟩
      have hmn : mnP (f 0 1) (f 20 k) = nI q := by rw [hO.2.2.2.1, hnk, mnP_nat (by have := hO.2.1; omega) (by omega), hq]
      have hqN : q ≤ N := by rw [hq]; split <;> omega
      have hqn : q ≤ n := by rw [hq]; split <;> omega
      have hqo : N ≤ q ∨ n ≤ q := by rw [hq]; split <;> omega
      have hclq : (nI q).toNatClampNeg = q := nI_clamp (by omega)
      refine lv_iconst (v := 0) hx hb dX3_lays_16 (by decide) ?_
      refine lv_istore_n (lv' := [(3, .int 0), (2, .int 0), (0, .ref (ad 23)), (1, .int (nI k))]) hx hb dX3_lays_17 rfl hl (by decide) rfl (fun ls hl => ?_)
      refine lv_iconst (v := 0) hx hb dX3_lays_18 (by decide) ?_
      refine lv_istore (lv' := [(4, .int 0), (3, .int 0), (2, .int 0), (0, .ref (ad 23)), (1, .int (nI k))]) hx hb dX3_lays_19 hl (by decide) rfl (fun ls hl => ?_)
      refine w_loopH (σ := Nat) (fun i H locs cells slots fr => cells = 0 ∧ slots = 0 ∧ (∃ ls, fr = F0 m 21 ls [] ∧ lv_has ls 7 [(4, .int (nI i)), (3, .int ((lyN (f 0) (fun j => g 21 (40 * k + j)) i).2)), (0, .ref (ad 23)), (1, .int (nI k))]) ∧ va_S A s.heap H locs ∧ (i ≤ q ∧ MW G A (upA f 0 (lyN (f 0) (fun j => g 21 (40 * k + j)) i).1) g ad H)) (fun i => q - i) 0 ⟨rfl, rfl, ⟨ls, rfl, lv_sub hl [0, 1, 3, 4] rfl⟩, hS, ⟨Nat.zero_le _, by rw [show lyN (f 0) (fun j => g 21 (40 * k + j)) 0 = (f 0, 0) from rfl, upA_self]; exact hW⟩⟩ ?_
      intro i H locs cells slots fr hI ih
      obtain ⟨rfl, rfl, ⟨ls, rfl, hl⟩, hS, ⟨hle, hW⟩⟩ := hI
      have h1 : (upA f 0 (lyN (f 0) (fun j => g 21 (40 * k + j)) i).1) 0 1 = nI N := (lyN_lo (by decide) i).trans hO.2.2.2.1
      by_cases hi : i < q
      · have hi20 : i < 20 := by have := hO.2.1; omega
        refine lv_iload hx hb dX3_lays_21 (lv_at hl 0 rfl) ?_
        refine lv_aload_n hx hb dX3_lays_23 rfl (lv_at hl 2 rfl) ?_
        refine m_get hc hW 20 (by decide) rfl q1020 rfl rfl dX3_lays_24 ?_
        refine lv_iload_n hx hb dX3_lays_27 rfl (lv_at hl 3 rfl) ?_
        refine m_ild hc hW 20 rfl (n := 4) rfl (ix_nI (by omega) (by decide)) dX3_lays_28 ?_
        refine sm_topi (v := nI n) (hnk) ?_
        refine lv_icmp_ge (tgt := 96) hx hb dX3_lays_29 (by decide) (fun h => absurd h (nI_ge (show i < n by omega) (by omega))) (fun _ => ?_)
        refine lv_iload hx hb dX3_lays_32 (lv_at hl 0 rfl) ?_
        refine lv_aload_n hx hb dX3_lays_34 rfl (lv_at hl 2 rfl) ?_
        refine m_get hc hW 0 (by decide) rfl q1000 rfl rfl dX3_lays_35 ?_
        refine lv_iconst (v := 1) hx hb dX3_lays_38 (by decide) ?_
        refine m_ild hc hW 0 rfl (n := 169) rfl (ix_eq (k := 1) rfl (by decide) (by decide)) dX3_lays_39 ?_
        refine sm_topi (v := nI N) (h1) ?_
        refine lv_icmp_ge (tgt := 96) hx hb dX3_lays_40 (by decide) (fun h => absurd h (nI_ge (show i < N by omega) (by have := hO.2.1; omega))) (fun _ => ?_)
        refine lv_aload_n hx hb dX3_lays_43 rfl (lv_at hl 2 rfl) ?_
        refine m_get hc hW 21 (by decide) rfl q1021 rfl rfl dX3_lays_44 ?_
        refine lv_bipush (v := 40) hx hb dX3_lays_47 (by decide) ?_
        refine lv_iload_n hx hb dX3_lays_49 rfl (lv_at hl 3 rfl) ?_
        refine lv_imul hx hb dX3_lays_50 (sm_topi (v := nI (40 * k)) (pk_mul _ _) ?_)
        refine lv_iload hx hb dX3_lays_51 (lv_at hl 0 rfl) ?_
        refine lv_iadd hx hb dX3_lays_53 (sm_topi (v := nI (40 * k + i)) (nI_add _ _) ?_)
        refine m_lld hc hW 21 rfl (n := 160) rfl (ix_nI (by omega) (by decide)) dX3_lays_54 ?_
        refine lv_lstore (lv' := [(5, .long (g 21 (40 * k + i))), (4, .int (nI i)), (3, .int ((lyN (f 0) (fun j => g 21 (40 * k + j)) i).2)), (0, .ref (ad 23)), (1, .int (nI k))]) hx hb dX3_lays_55 hl (by decide) rfl (fun ls hl => ?_)
        refine lv_lload hx hb dX3_lays_57 (lv_at hl 0 rfl) ?_
        refine lv_lconst (v := (0 : Int32).toInt64) hx hb dX3_lays_59 (by decide) ?_
        refine lv_ldc2 (v := 99) hx hb hown (hts _ q1126) dX3_lays_60 (sm_topl (v := (99 : Int32).toInt64) (by decide) ?_)
        refine cs_R1 (rest := []) hc (M_in l (g 21 (40 * k + i)) ((0 : Int32).toInt64) ((99 : Int32).toInt64)) (lw_S q1089 q1090 q70 q1091) nd_X3_in ⟨Nat.le_of_ble_eq_true rfl, Nat.le_of_ble_eq_true rfl⟩ rfl hl.1 rfl (Nat.le_of_ble_eq_true rfl) dX3_lays_63 ⟨Nat.le_of_ble_eq_true rfl, Nat.le_of_ble_eq_true rfl⟩ ?_
        refine bi_eq (tgt := 90) hx hb dX3_lays_66 (by decide) (fun c_224 => ?_) (fun c_224 => ?_)
        · refine lv_iinc (v := nI (i + 1)) (lv' := [(4, .int (nI (i + 1))), (5, .long (g 21 (40 * k + i))), (3, .int ((lyN (f 0) (fun j => g 21 (40 * k + j)) i).2)), (0, .ref (ad 23)), (1, .int (nI k))]) hx hb dX3_lays_90 hl (k := 1) rfl (nI_1 _) (by decide) rfl (fun ls hl => ?_)
          refine lv_goto (tgt := 21) hx hb dX3_lays_93 (by decide) ?_
          refine ih (i + 1) _ _ _ _ _ ⟨rfl, rfl, ⟨ls, rfl, ?_⟩, hS, hi, ?_⟩ (by omega)
          · rw [show lyN (f 0) (fun j => g 21 (40 * k + j)) (i + 1) = lyN (f 0) (fun j => g 21 (40 * k + j)) i from by simp only [lyN, if_neg c_224]]
            exact lv_sub hl [0, 2, 3, 4] rfl
          · rw [show lyN (f 0) (fun j => g 21 (40 * k + j)) (i + 1) = lyN (f 0) (fun j => g 21 (40 * k + j)) i from by simp only [lyN, if_neg c_224]]
            exact hW
        · refine lv_aload_n hx hb dX3_lays_69 rfl (lv_at hl 3 rfl) ?_
          refine m_get hc hW 0 (by decide) rfl q1000 rfl rfl dX3_lays_70 ?_
          refine lv_bipush (v := 9) hx hb dX3_lays_73 (by decide) ?_
          refine lv_bipush (v := 8) hx hb dX3_lays_75 (by decide) ?_
          refine lv_iload hx hb dX3_lays_77 (lv_at hl 1 rfl) ?_
          refine lv_imul hx hb dX3_lays_79 (sm_topi (v := nI (8 * i)) (pk_mul _ _) ?_)
          refine lv_iadd hx hb dX3_lays_80 (sm_topi (v := nI (9 + 8 * i)) (nI_add _ _) ?_)
          refine lv_iconst (v := 3) hx hb dX3_lays_81 (by decide) ?_
          refine lv_iadd hx hb dX3_lays_82 (sm_topi (v := nI (9 + 8 * i + 3)) (nI_add _ _) ?_)
          refine lv_lload hx hb dX3_lays_83 (lv_at hl 0 rfl) ?_
          refine lv_l2i hx hb dX3_lays_85 rfl ?_
          refine m_ist hc hW hS 0 rfl (n := 169) rfl (ix_nI (by omega) (by decide)) dX3_lays_86 (fun H locs hW hS hz => ?_)
          refine lv_iinc (v := ((lyN (f 0) (fun j => g 21 (40 * k + j)) i).2) + 1) (lv' := [(3, .int (((lyN (f 0) (fun j => g 21 (40 * k + j)) i).2) + 1)), (5, .long (g 21 (40 * k + i))), (4, .int (nI i)), (0, .ref (ad 23)), (1, .int (nI k))]) hx hb dX3_lays_87 hl (k := 2) rfl rfl (by decide) rfl (fun ls hl => ?_)
          refine lv_iinc (v := nI (i + 1)) (lv' := [(4, .int (nI (i + 1))), (3, .int (((lyN (f 0) (fun j => g 21 (40 * k + j)) i).2) + 1)), (5, .long (g 21 (40 * k + i))), (0, .ref (ad 23)), (1, .int (nI k))]) hx hb dX3_lays_90 hl (k := 2) rfl (nI_1 _) (by decide) rfl (fun ls hl => ?_)
          refine lv_goto (tgt := 21) hx hb dX3_lays_93 (by decide) ?_
          refine ih (i + 1) _ _ _ _ _ ⟨rfl, rfl, ⟨ls, rfl, ?_⟩, hS, hi, ?_⟩ (by omega)
          · rw [show lyN (f 0) (fun j => g 21 (40 * k + j)) (i + 1) = (upd (lyN (f 0) (fun j => g 21 (40 * k + j)) i).1 (gp i 3) (g 21 (40 * k + i)).toInt32, (lyN (f 0) (fun j => g 21 (40 * k + j)) i).2 + 1) from by simp only [lyN, if_pos c_224]]
            exact lv_sub hl [0, 1, 3, 4] rfl
          · rw [show lyN (f 0) (fun j => g 21 (40 * k + j)) (i + 1) = (upd (lyN (f 0) (fun j => g 21 (40 * k + j)) i).1 (gp i 3) (g 21 (40 * k + i)).toInt32, (lyN (f 0) (fun j => g 21 (40 * k + j)) i).2 + 1) from by simp only [lyN, if_pos c_224]]
            rw [up2_upA] at hW
            exact hW
      · have hiq : i = q := by omega
        subst hiq
        by_cases hni : n ≤ i
        · refine lv_iload hx hb dX3_lays_21 (lv_at hl 0 rfl) ?_
          refine lv_aload_n hx hb dX3_lays_23 rfl (lv_at hl 2 rfl) ?_
          refine m_get hc hW 20 (by decide) rfl q1020 rfl rfl dX3_lays_24 ?_
          refine lv_iload_n hx hb dX3_lays_27 rfl (lv_at hl 3 rfl) ?_
          refine m_ild hc hW 20 rfl (n := 4) rfl (ix_nI (by omega) (by decide)) dX3_lays_28 ?_
          refine sm_topi (v := nI n) (hnk) ?_
          refine lv_icmp_ge (tgt := 96) hx hb dX3_lays_29 (by decide) (fun _ => ?_) (fun h => absurd (nI_le hni (by omega)) h)
          refine lv_iload_n hx hb dX3_lays_96 rfl (lv_at hl 1 rfl) ?_
          exact ri_W hx hb hr hlk hS (by simp only [laysM, hclk, if_pos hA, if_neg hB, hmn, hclq]) (by simp only [MP3, laysM, hclk, if_pos hA, if_neg hB, hmn, hclq]; exact MW.mp hW) dX3_lays_97
        · refine lv_iload hx hb dX3_lays_21 (lv_at hl 0 rfl) ?_
          refine lv_aload_n hx hb dX3_lays_23 rfl (lv_at hl 2 rfl) ?_
          refine m_get hc hW 20 (by decide) rfl q1020 rfl rfl dX3_lays_24 ?_
          refine lv_iload_n hx hb dX3_lays_27 rfl (lv_at hl 3 rfl) ?_
          refine m_ild hc hW 20 rfl (n := 4) rfl (ix_nI (by omega) (by decide)) dX3_lays_28 ?_
          refine sm_topi (v := nI n) (hnk) ?_
          refine lv_icmp_ge (tgt := 96) hx hb dX3_lays_29 (by decide) (fun h => absurd h (nI_ge (show i < n by omega) (by omega))) (fun _ => ?_)
          refine lv_iload hx hb dX3_lays_32 (lv_at hl 0 rfl) ?_
          refine lv_aload_n hx hb dX3_lays_34 rfl (lv_at hl 2 rfl) ?_
          refine m_get hc hW 0 (by decide) rfl q1000 rfl rfl dX3_lays_35 ?_
          refine lv_iconst (v := 1) hx hb dX3_lays_38 (by decide) ?_
          refine m_ild hc hW 0 rfl (n := 169) rfl (ix_eq (k := 1) rfl (by decide) (by decide)) dX3_lays_39 ?_
          refine sm_topi (v := nI N) (h1) ?_
          refine lv_icmp_ge (tgt := 96) hx hb dX3_lays_40 (by decide) (fun _ => ?_) (fun h => absurd (nI_le (show N ≤ i by omega) (by omega)) h)
          refine lv_iload_n hx hb dX3_lays_96 rfl (lv_at hl 1 rfl) ?_
          exact ri_W hx hb hr hlk hS (by simp only [laysM, hclk, if_pos hA, if_neg hB, hmn, hclq]) (by simp only [MP3, laysM, hclk, if_pos hA, if_neg hB, hmn, hclq]; exact MW.mp hW) dX3_lays_97
  · refine sm_topi (v := -1000000001) (by simp only [wrongP, if_neg hA]) ?_
    refine lv_istore_n (lv' := [(2, .int (-1000000001)), (0, .ref (ad 23)), (1, .int x)]) hx hb dX3_lays_5 rfl hl (by decide) rfl (fun ls hl => ?_)
    refine lv_iload_n hx hb dX3_lays_6 rfl (lv_at hl 0 rfl) ?_
    refine lv_if_eq (tgt := 16) hx hb dX3_lays_7 (by decide) (fun h => absurd h (by decide)) (fun _ => ?_)
    refine lv_aload_n hx hb dX3_lays_10 rfl (lv_at hl 1 rfl) ?_
    refine lv_iload_n hx hb dX3_lays_11 rfl (lv_at hl 0 rfl) ?_
    refine cv_W1 (rest := []) hc (M_finds l hW (-1000000001) 0 (ix_eq (k := 0) (by decide) (by decide) (by decide))) (lw_V q1075 q1077 qs28 q70 q1078) nd_X3_finds ⟨Nat.le_of_ble_eq_true rfl, Nat.le_of_ble_eq_true rfl⟩ (MW.recv hK hW) rfl hl.1 rfl (Nat.le_of_ble_eq_true rfl) dX3_lays_12 ⟨Nat.le_of_ble_eq_true rfl, Nat.le_of_ble_eq_true rfl⟩ hS (fun _ h => h) (fun H locs hW hS hz hk => ?_)
    exact ri_W hx hb hr hlk hS (by simp only [laysM, if_neg hA]) (by simp only [MP3, laysM, if_neg hA]; exact MW.mp hW) dX3_lays_15
/-- the first place, from k on, of m, that isn't what leans there -/
def rkN (s : Nat → Int32) (c : Nat → Int64) (N : Nat) : Nat → Nat → Int32
  | 0, _ => 0
  | q + 1, k => if k < N then (if c k = (leanP s k).toInt64 then rkN s c N q (k + 1) else nI (k + 1)) else nI (k + 1)
def readM (f : Nat → Nat → Int32) (g : Nat → Nat → Int64) (x : Int32) : ST3 :=
  if 0 ≤ x ∧ x ≤ 3 then
    if f 19 x.toNatClampNeg = 0 then MIS3 f g
    else (rkN (f 0) (fun j => g 21 (40 * x.toNatClampNeg + j)) (f 0 1).toNatClampNeg (f 20 x.toNatClampNeg).toNatClampNeg 0, f, g)
  else BEY3 f g
theorem gap_iff {i N : Nat} (hN : N ≤ 20) (hi : i < 100) : (0 ≤ nI i ∧ nI i ≤ nI N - 1) ↔ i < N := by
  constructor
  · intro h
    obtain ⟨j, hj, e⟩ := ex_pred (n := N) rfl (by omega) h
    have := (nI_eq (by omega) (by omega)).mp e
    omega
  · intro h
    refine ⟨nI_pos' (by omega), ?_⟩
    rw [show nI N - 1 = nI (N - 1) from pk_sub (b := 1) (by omega)]
    exact nI_le (by omega) (by omega)
theorem nd_X3_read : yX3_read.cls = "SmokeLeansModel" ∧ yX3_read.cls ≠ "java/lang/invoke/MethodHandle" ∧ yX3_read.cls ≠ "java/lang/invoke/VarHandle" ∧ (parseMethodDescriptor yX3_read.desc).map (fun d => d.parameters.length) = some 1 := by decide +kernel
set_option maxHeartbeats 8000000 in
theorem M_read (l : Launch) {G : GD} {A : Nat → Prop} {f : Nat → Nat → Int32} {g : Nat → Nat → Int64} {ad : Nat → Nat} {H0 : Heap} (hW : MW G A f g ad H0) (hz : OkZ f) {R N : Nat} (hO : OkN (f 0) R N) (x : Int32) : MetW l G yX3_read cX3_read 4 (some .int) 5 0 0 A [.ref (ad 23), .int x] H0 (some (.int ((readM f g x).1))) (fun H => MP3 G A (readM f g x) ad H) := by
  refine mx_of (by decide) (Nat.le_of_ble_eq_true rfl) ?_
  intro p e s m below meth c hx hb hr hc hlk hnm hs0 ls hl
  subst hs0
  have hown := hc.2.2.2.1
  have hts := hc.2.2.2.2.1
  have hK := hc.2.2.2.2.2
  have hl : lv_has ls 4 [(0, .ref (ad 23)), (1, .int x)] := hl
  have hS : va_S A s.heap s.heap [] := va_S.rf
  refine lv_aload_n hx hb dX3_read_0 rfl (lv_at hl 0 rfl) ?_
  refine lv_iload_n hx hb dX3_read_1 rfl (lv_at hl 1 rfl) ?_
  refine cv_R1 (rest := []) hc (M_wrong l hW x) (lw_V q1380 q1382 qs65 q70 q1383) nd_X3_wrong ⟨Nat.le_of_ble_eq_true rfl, Nat.le_of_ble_eq_true rfl⟩ (MW.recv hK hW) rfl hl.1 rfl (Nat.le_of_ble_eq_true rfl) dX3_read_2 ⟨Nat.le_of_ble_eq_true rfl, Nat.le_of_ble_eq_true rfl⟩ ?_
  by_cases hA : 0 ≤ x ∧ x ≤ 3
  · obtain ⟨k, hk3, rfl⟩ := ex_le 3 (hi := 3) rfl (by decide) hA.1 hA.2
    have hclk : (nI k).toNatClampNeg = k := nI_clamp (by omega)
    obtain ⟨n, hn40, hnk⟩ := hz k (by omega)
    by_cases hB : f 19 k = 0
    · refine sm_topi (v := -1000000006) (by simp only [wrongP, hclk, if_pos hA, if_pos hB]) ?_
      refine lv_istore_n (lv' := [(2, .int (-1000000006)), (0, .ref (ad 23)), (1, .int (nI k))]) hx hb dX3_read_5 rfl hl (by decide) rfl (fun ls hl => ?_)
      refine lv_iload_n hx hb dX3_read_6 rfl (lv_at hl 0 rfl) ?_
      refine lv_if_eq (tgt := 16) hx hb dX3_read_7 (by decide) (fun h => absurd h (by decide)) (fun _ => ?_)
      refine lv_aload_n hx hb dX3_read_10 rfl (lv_at hl 1 rfl) ?_
      refine lv_iload_n hx hb dX3_read_11 rfl (lv_at hl 0 rfl) ?_
      refine cv_W1 (rest := []) hc (M_finds l hW (-1000000006) 5 (ix_eq (k := 5) (by decide) (by decide) (by decide))) (lw_V q1075 q1077 qs28 q70 q1078) nd_X3_finds ⟨Nat.le_of_ble_eq_true rfl, Nat.le_of_ble_eq_true rfl⟩ (MW.recv hK hW) rfl hl.1 rfl (Nat.le_of_ble_eq_true rfl) dX3_read_12 ⟨Nat.le_of_ble_eq_true rfl, Nat.le_of_ble_eq_true rfl⟩ hS (fun _ h => h) (fun H locs hW hS hz hk => ?_)
      exact ri_W hx hb hr hlk hS (by simp only [readM, hclk, if_pos hA, if_pos hB]) (by simp only [MP3, readM, hclk, if_pos hA, if_pos hB]; exact MW.mp hW) dX3_read_15
    · refine sm_topi (v := 0) (by simp only [wrongP, hclk, if_pos hA, if_neg hB]) ?_
      refine lv_istore_n (lv' := [(2, .int 0), (0, .ref (ad 23)), (1, .int (nI k))]) hx hb dX3_read_5 rfl hl (by decide) rfl (fun ls hl => ?_)
      refine lv_iload_n hx hb dX3_read_6 rfl (lv_at hl 0 rfl) ?_
      refine lv_if_eq (tgt := 16) hx hb dX3_read_7 (by decide) (fun _ => ?_) (fun h => absurd (by decide) h)
      refine lv_aload_n hx hb dX3_read_16 rfl (lv_at hl 1 rfl) ?_
      refine cv_W0 (rest := []) hc (M_rests l hW (R := R) (N := N) hO) (lw_V q1233 q1235 qs51 q70 q1236) nd_X3_rests ⟨Nat.le_of_ble_eq_true rfl, Nat.le_of_ble_eq_true rfl⟩ (MW.recv hK hW) rfl hl.1 rfl (Nat.le_of_ble_eq_true rfl) dX3_read_17 ⟨Nat.le_of_ble_eq_true rfl, Nat.le_of_ble_eq_true rfl⟩ hS (fun _ h => h) (fun H locs hq hS hz hk => ?_)
      obtain ⟨b_225, hW⟩ := hq
      have hW : AR G A f g ad b_225 H := hW
      refine lv_iconst (v := 0) hx hb dX3_read_20 (by decide) ?_
      refine lv_istore_n (lv' := [(3, .int 0), (2, .int 0), (0, .ref (ad 23)), (1, .int (nI k))]) hx hb dX3_read_21 rfl hl (by decide) rfl (fun ls hl => ?_)
      refine w_loop (σ := Nat) (fun i fr => ∃ ls, fr = F0 m 22 ls [] ∧ lv_has ls 4 [(3, .int (nI i)), (0, .ref (ad 23)), (1, .int (nI k))] ∧ (i ≤ n ∧ rkN (f 0) (fun j => g 21 (40 * k + j)) N (n - i) i = rkN (f 0) (fun j => g 21 (40 * k + j)) N n 0)) (fun i => n - i) 0 ⟨ls, rfl, lv_sub hl [0, 2, 3] rfl, ⟨Nat.zero_le _, rfl⟩⟩ ?_
      intro i fr hI ih
      obtain ⟨ls, rfl, hl, hinv⟩ := hI
      obtain ⟨hle, hrk⟩ := hinv
      have hcln : (f 20 k).toNatClampNeg = n := by rw [hnk]; exact nI_clamp (by omega)
      by_cases hi : i < n
      · rw [show n - i = (n - (i + 1)) + 1 by omega, rkN] at hrk
        refine lv_iload_n hx hb dX3_read_22 rfl (lv_at hl 0 rfl) ?_
        refine lv_aload_n hx hb dX3_read_23 rfl (lv_at hl 1 rfl) ?_
        refine m_get hc hW 20 (by decide) rfl q1020 rfl rfl dX3_read_24 ?_
        refine lv_iload_n hx hb dX3_read_27 rfl (lv_at hl 2 rfl) ?_
        refine m_ild hc hW 20 rfl (n := 4) rfl (ix_nI (by omega) (by decide)) dX3_read_28 ?_
        refine sm_topi (v := f 20 k) rfl ?_
        refine sm_topi (v := nI n) (hnk) ?_
        refine lv_icmp_ge (tgt := 71) hx hb dX3_read_29 (by decide) (fun h => absurd h (nI_ge hi (by omega))) (fun _ => ?_)
        refine lv_aload_n hx hb dX3_read_32 rfl (lv_at hl 1 rfl) ?_
        refine lv_iload_n hx hb dX3_read_33 rfl (lv_at hl 0 rfl) ?_
        refine cv_R1 (rest := []) hc (M_isGap l hW (nI i)) (lw_V q1105 q1107 qs32 q70 q1108) nd_X3_isGap ⟨Nat.le_of_ble_eq_true rfl, Nat.le_of_ble_eq_true rfl⟩ (MW.recv hK hW) rfl hl.1 rfl (Nat.le_of_ble_eq_true rfl) dX3_read_34 ⟨Nat.le_of_ble_eq_true rfl, Nat.le_of_ble_eq_true rfl⟩ ?_
        refine sm_topi (v := b2i (0 ≤ (nI i) ∧ (nI i) ≤ f 0 1 - 1)) rfl ?_
        refine bi_eq (tgt := 61) hx hb dX3_read_37 (by decide) (fun c_226 => ?_) (fun c_226 => ?_)
        · rw [if_neg (fun q => c_226 (by rw [hO.2.2.2.1]; exact (gap_iff hO.2.1 (by omega)).mpr q))] at hrk
          refine lv_iload_n hx hb dX3_read_61 rfl (lv_at hl 0 rfl) ?_
          refine lv_iconst (v := 1) hx hb dX3_read_62 (by decide) ?_
          refine lv_iadd hx hb dX3_read_63 (sm_topi (v := nI (i + 1)) (nI_add _ _) ?_)
          exact ri_W hx hb hr hlk hS (by simp only [readM, hclk, if_pos hA, if_neg hB, hO.cl1, hcln]; exact hrk) (by simp only [MP3, readM, hclk, if_pos hA, if_neg hB]; exact AX.mp (AR.ax hW)) dX3_read_64
        · have hiN : i < N := (gap_iff hO.2.1 (by omega)).mp (by have q := c_226; rw [hO.2.2.2.1] at q; exact q)
          rw [if_pos hiN] at hrk
          refine lv_aload_n hx hb dX3_read_40 rfl (lv_at hl 1 rfl) ?_
          refine m_get hc hW 21 (by decide) rfl q1021 rfl rfl dX3_read_41 ?_
          refine lv_bipush (v := 40) hx hb dX3_read_44 (by decide) ?_
          refine lv_iload_n hx hb dX3_read_46 rfl (lv_at hl 2 rfl) ?_
          refine lv_imul hx hb dX3_read_47 (sm_topi (v := nI (40 * k)) (pk_mul _ _) ?_)
          refine lv_iload_n hx hb dX3_read_48 rfl (lv_at hl 0 rfl) ?_
          refine lv_iadd hx hb dX3_read_49 (sm_topi (v := nI (40 * k + i)) (nI_add _ _) ?_)
          refine m_lld hc hW 21 rfl (n := 160) rfl (ix_nI (by omega) (by decide)) dX3_read_50 ?_
          refine lv_aload_n hx hb dX3_read_51 rfl (lv_at hl 1 rfl) ?_
          refine lv_iload_n hx hb dX3_read_52 rfl (lv_at hl 0 rfl) ?_
          refine cv_R1 (rest := [.long (g 21 (40 * k + i))]) hc (M_leanOf l hW (R := R) (N := N) hO i (by omega)) (lw_V q1257 q1259 qs55 q70 q1260) nd_X3_leanOf ⟨Nat.le_of_ble_eq_true rfl, Nat.le_of_ble_eq_true rfl⟩ (MW.recv hK hW) rfl hl.1 rfl (Nat.le_of_ble_eq_true rfl) dX3_read_53 ⟨Nat.le_of_ble_eq_true rfl, Nat.le_of_ble_eq_true rfl⟩ ?_
          refine sm_topi (v := leanV (flowQ (f 0) (prP (f 0)) i)) rfl ?_
          refine sm_topi (v := leanP (f 0) i) rfl ?_
          refine lv_i2l hx hb dX3_read_56 rfl ?_
          refine W.lcmp hx hb dX3_read_57 ?_
          refine lv_if_eq (tgt := 65) hx hb dX3_read_58 (by decide) (fun c_227 => ?_) (fun c_227 => ?_)
          · refine lv_iinc (v := nI (i + 1)) (lv' := [(3, .int (nI (i + 1))), (0, .ref (ad 23)), (1, .int (nI k))]) hx hb dX3_read_65 hl (k := 0) rfl (nI_1 _) (by decide) rfl (fun ls hl => ?_)
            refine lv_goto (tgt := 22) hx hb dX3_read_68 (by decide) ?_
            rw [if_pos (lc_eq.mp c_227)] at hrk
            exact ih (i + 1) _ ⟨ls, rfl, lv_sub hl [0, 1, 2] rfl, hi, hrk⟩ (by omega)
          · rw [if_neg (fun q => c_227 (lc_eq.mpr q))] at hrk
            refine lv_iload_n hx hb dX3_read_61 rfl (lv_at hl 0 rfl) ?_
            refine lv_iconst (v := 1) hx hb dX3_read_62 (by decide) ?_
            refine lv_iadd hx hb dX3_read_63 (sm_topi (v := nI (i + 1)) (nI_add _ _) ?_)
            exact ri_W hx hb hr hlk hS (by simp only [readM, hclk, if_pos hA, if_neg hB, hO.cl1, hcln]; exact hrk) (by simp only [MP3, readM, hclk, if_pos hA, if_neg hB]; exact AX.mp (AR.ax hW)) dX3_read_64
      · rw [show n - i = 0 by omega, rkN] at hrk
        refine lv_iload_n hx hb dX3_read_22 rfl (lv_at hl 0 rfl) ?_
        refine lv_aload_n hx hb dX3_read_23 rfl (lv_at hl 1 rfl) ?_
        refine m_get hc hW 20 (by decide) rfl q1020 rfl rfl dX3_read_24 ?_
        refine lv_iload_n hx hb dX3_read_27 rfl (lv_at hl 2 rfl) ?_
        refine m_ild hc hW 20 rfl (n := 4) rfl (ix_nI (by omega) (by decide)) dX3_read_28 ?_
        refine sm_topi (v := f 20 k) rfl ?_
        refine sm_topi (v := nI n) (hnk) ?_
        refine lv_icmp_ge (tgt := 71) hx hb dX3_read_29 (by decide) (fun _ => ?_) (fun h => absurd (nI_le (by omega) (by omega)) h)
        refine lv_iconst (v := 0) hx hb dX3_read_71 (by decide) ?_
        exact ri_W hx hb hr hlk hS (by simp only [readM, hclk, if_pos hA, if_neg hB, hO.cl1, hcln]; exact hrk) (by simp only [MP3, readM, hclk, if_pos hA, if_neg hB]; exact AX.mp (AR.ax hW)) dX3_read_72
  · refine sm_topi (v := -1000000001) (by simp only [wrongP, if_neg hA]) ?_
    refine lv_istore_n (lv' := [(2, .int (-1000000001)), (0, .ref (ad 23)), (1, .int x)]) hx hb dX3_read_5 rfl hl (by decide) rfl (fun ls hl => ?_)
    refine lv_iload_n hx hb dX3_read_6 rfl (lv_at hl 0 rfl) ?_
    refine lv_if_eq (tgt := 16) hx hb dX3_read_7 (by decide) (fun h => absurd h (by decide)) (fun _ => ?_)
    refine lv_aload_n hx hb dX3_read_10 rfl (lv_at hl 1 rfl) ?_
    refine lv_iload_n hx hb dX3_read_11 rfl (lv_at hl 0 rfl) ?_
    refine cv_W1 (rest := []) hc (M_finds l hW (-1000000001) 0 (ix_eq (k := 0) (by decide) (by decide) (by decide))) (lw_V q1075 q1077 qs28 q70 q1078) nd_X3_finds ⟨Nat.le_of_ble_eq_true rfl, Nat.le_of_ble_eq_true rfl⟩ (MW.recv hK hW) rfl hl.1 rfl (Nat.le_of_ble_eq_true rfl) dX3_read_12 ⟨Nat.le_of_ble_eq_true rfl, Nat.le_of_ble_eq_true rfl⟩ hS (fun _ h => h) (fun H locs hW hS hz hk => ?_)
    exact ri_W hx hb hr hlk hS (by simp only [readM, if_neg hA]) (by simp only [MP3, readM, if_neg hA]; exact MW.mp hW) dX3_read_15
