/-! the reference's methods, 5: widths, sets of gaps, the line, one alone, turns, the worst side -/
set_option maxRecDepth 100000

theorem nd_X3_shuts : yX3_shuts.cls = "SmokeLeansModel" ∧ yX3_shuts.cls ≠ "java/lang/invoke/MethodHandle" ∧ yX3_shuts.cls ≠ "java/lang/invoke/VarHandle" ∧ (parseMethodDescriptor yX3_shuts.desc).map (fun d => d.parameters.length) = some 2 := by decide +kernel
set_option maxHeartbeats 4000000 in
theorem M_shuts (l : Launch) {G : GD} {A : Nat → Prop} {f : Nat → Nat → Int32} {g : Nat → Nat → Int64} {ad : Nat → Nat} {H0 : Heap} (hW : MW G A f g ad H0) {R N : Nat} (hO : OkN (f 0) R N) (t v : Int32) : MetW l G yX3_shuts cX3_shuts 4 none 0 0 0 A [.ref (ad 23), .int t, .int v] H0 none (fun H => MW G A (upA f 0 (shN (f 0) t v N)) g ad H) := by
  refine mx_of (by decide) (Nat.le_of_ble_eq_true rfl) ?_
  intro p e s m below meth c hx hb hr hc hlk hnm hs0 ls hl
  subst hs0
  have hown := hc.2.2.2.1
  have hts := hc.2.2.2.2.1
  have hK := hc.2.2.2.2.2
  have hl : lv_has ls 4 [(0, .ref (ad 23)), (1, .int t), (2, .int v)] := hl
  have hS : va_S A s.heap s.heap [] := va_S.rf
  refine lv_iconst (v := 0) hx hb dX3_shuts_0 (by decide) ?_
  refine lv_istore_n (lv' := [(3, .int 0), (0, .ref (ad 23)), (1, .int t), (2, .int v)]) hx hb dX3_shuts_1 rfl hl (by decide) rfl (fun ls hl => ?_)
  refine w_loopH (σ := Nat) (fun i H locs cells slots fr => cells = 0 ∧ slots = 0 ∧ (∃ ls, fr = F0 m 2 ls [] ∧ lv_has ls 4 [(3, .int (nI i)), (0, .ref (ad 23)), (1, .int t), (2, .int v)]) ∧ va_S A s.heap H locs ∧ (i ≤ N ∧ MW G A (upA f 0 (shN (f 0) t v i)) g ad H)) (fun i => N - i) 0 ⟨rfl, rfl, ⟨ls, rfl, lv_sub hl [0, 1, 2, 3] rfl⟩, hS, ⟨Nat.zero_le _, by rw [show shN (f 0) t v 0 = f 0 from rfl, upA_self]; exact hW⟩⟩ ?_
  intro i H locs cells slots fr hI ih
  obtain ⟨rfl, rfl, ⟨ls, rfl, hl⟩, hS, ⟨hle, hW⟩⟩ := hI
  have h1 : upA f 0 (shN (f 0) t v i) 0 1 = nI N := (shN_lo (by decide)).trans hO.2.2.2.1
  by_cases hi : i < N
  · have hi20 : i < 20 := by have := hO.2.1; omega
    refine lv_iload_n hx hb dX3_shuts_2 rfl (lv_at hl 0 rfl) ?_
    refine lv_aload_n hx hb dX3_shuts_3 rfl (lv_at hl 1 rfl) ?_
    refine m_get hc hW 0 (by decide) rfl q1000 rfl rfl dX3_shuts_4 ?_
    refine lv_iconst (v := 1) hx hb dX3_shuts_7 (by decide) ?_
    refine m_ild hc hW 0 rfl (n := 169) rfl (ix_eq (k := 1) rfl (by decide) (by decide)) dX3_shuts_8 ?_
    refine sm_topi (v := nI N) (h1) ?_
    refine lv_icmp_ge (tgt := 43) hx hb dX3_shuts_9 (by decide) (fun h => absurd h (nI_ge hi (by have := hO.2.1; omega))) (fun _ => ?_)
    refine lv_iload_n hx hb dX3_shuts_12 rfl (lv_at hl 2 rfl) ?_
    refine lv_iload_n hx hb dX3_shuts_13 rfl (lv_at hl 0 rfl) ?_
    refine lv_ishr hx hb dX3_shuts_14 ?_
    refine lv_iconst (v := 1) hx hb dX3_shuts_15 (by decide) ?_
    refine lv_iand hx hb dX3_shuts_16 ?_
    refine lv_iconst (v := 1) hx hb dX3_shuts_17 (by decide) ?_
    refine lv_icmp_ne (tgt := 37) hx hb dX3_shuts_18 (by decide) (fun c_100 => ?_) (fun c_100 => ?_)
    · refine lv_iinc (v := nI (i + 1)) (lv' := [(3, .int (nI (i + 1))), (0, .ref (ad 23)), (1, .int t), (2, .int v)]) hx hb dX3_shuts_37 hl (k := 0) rfl (nI_1 _) (by decide) rfl (fun ls hl => ?_)
      refine lv_goto (tgt := 2) hx hb dX3_shuts_40 (by decide) ?_
      refine ih (i + 1) _ _ _ _ _ ⟨rfl, rfl, ⟨ls, rfl, lv_sub hl [0, 1, 2, 3] rfl⟩, hS, hi, ?_⟩ (by omega)
      rw [shN, if_neg c_100]
      exact hW
    · refine lv_aload_n hx hb dX3_shuts_21 rfl (lv_at hl 1 rfl) ?_
      refine m_get hc hW 0 (by decide) rfl q1000 rfl rfl dX3_shuts_22 ?_
      refine lv_bipush (v := 9) hx hb dX3_shuts_25 (by decide) ?_
      refine lv_bipush (v := 8) hx hb dX3_shuts_27 (by decide) ?_
      refine lv_iload_n hx hb dX3_shuts_29 rfl (lv_at hl 0 rfl) ?_
      refine lv_imul hx hb dX3_shuts_30 (sm_topi (v := nI (8 * i)) (pk_mul _ _) ?_)
      refine lv_iadd hx hb dX3_shuts_31 (sm_topi (v := nI (9 + 8 * i)) (nI_add _ _) ?_)
      refine lv_bipush (v := 7) hx hb dX3_shuts_32 (by decide) ?_
      refine lv_iadd hx hb dX3_shuts_34 (sm_topi (v := nI (9 + 8 * i + 7)) (nI_add _ _) ?_)
      refine lv_iload_n hx hb dX3_shuts_35 rfl (lv_at hl 3 rfl) ?_
      refine m_ist hc hW hS 0 rfl (n := 169) rfl (ix_nI (by omega) (by decide)) dX3_shuts_36 (fun H locs hW hS hz => ?_)
      refine lv_iinc (v := nI (i + 1)) (lv' := [(3, .int (nI (i + 1))), (0, .ref (ad 23)), (1, .int t), (2, .int v)]) hx hb dX3_shuts_37 hl (k := 0) rfl (nI_1 _) (by decide) rfl (fun ls hl => ?_)
      refine lv_goto (tgt := 2) hx hb dX3_shuts_40 (by decide) ?_
      refine ih (i + 1) _ _ _ _ _ ⟨rfl, rfl, ⟨ls, rfl, lv_sub hl [0, 1, 2, 3] rfl⟩, hS, hi, ?_⟩ (by omega)
      rw [up2_upA] at hW
      rw [shN, if_pos c_100]
      exact hW
  · have hiN : i = N := by omega
    subst hiN
    refine lv_iload_n hx hb dX3_shuts_2 rfl (lv_at hl 0 rfl) ?_
    refine lv_aload_n hx hb dX3_shuts_3 rfl (lv_at hl 1 rfl) ?_
    refine m_get hc hW 0 (by decide) rfl q1000 rfl rfl dX3_shuts_4 ?_
    refine lv_iconst (v := 1) hx hb dX3_shuts_7 (by decide) ?_
    refine m_ild hc hW 0 rfl (n := 169) rfl (ix_eq (k := 1) rfl (by decide) (by decide)) dX3_shuts_8 ?_
    refine sm_topi (v := nI i) (h1) ?_
    refine lv_icmp_ge (tgt := 43) hx hb dX3_shuts_9 (by decide) (fun _ => ?_) (fun h => absurd (nI_le (by omega) (by have := hO.2.1; omega)) h)
    exact rv_W hx hb hr hlk hS (hW) dX3_shuts_43
theorem M_shutsX (l : Launch) {G : GD} {A : Nat → Prop} {f : Nat → Nat → Int32} {g : Nat → Nat → Int64} {ad : Nat → Nat} {H0 : Heap} {S a b : Nat → Int32} {n z : Int32} (hW : MW G A (airF (upA f 0 S) a b n z) g ad H0) {R N : Nat} (hO : OkN S R N) (t v : Int32) : MetW l G yX3_shuts cX3_shuts 4 none 0 0 0 A [.ref (ad 23), .int t, .int v] H0 none (fun H => MW G A (airF (upA f 0 (shN S t v N)) a b n z) g ad H) := by
  have h := M_shuts l hW (R := R) (N := N) hO t v
  rw [airF_upA (by decide), upA_upA] at h
  exact h
theorem nd_X3_ones : yX3_ones.cls ≠ "java/lang/invoke/MethodHandle" ∧ yX3_ones.cls ≠ "java/lang/invoke/VarHandle" ∧ (parseMethodDescriptor yX3_ones.desc).map (fun d => d.parameters.length) = some 1 := by decide +kernel
set_option maxHeartbeats 4000000 in
theorem M_ones (l : Launch) {G : GD} {H0 : Heap} (t : Int32) : MetR l G yX3_ones cX3_ones 3 (some .int) 0 [.int t] H0 (some (.int (onesP t))) := by
  refine mx_of (by decide) (Nat.le_of_ble_eq_true rfl) ?_
  intro p e s m below meth c hx hb hr hc hlk hnm hs0 ls hl
  subst hs0
  have hown := hc.2.2.2.1
  have hts := hc.2.2.2.2.1
  have hK := hc.2.2.2.2.2
  have hl : lv_has ls 3 [(0, .int t)] := hl
  refine lv_iconst (v := 0) hx hb dX3_ones_0 (by decide) ?_
  refine lv_istore_n (lv' := [(1, .int 0), (0, .int t)]) hx hb dX3_ones_1 rfl hl (by decide) rfl (fun ls hl => ?_)
  refine lv_iload_n hx hb dX3_ones_2 rfl (lv_at hl 1 rfl) ?_
  refine lv_istore_n (lv' := [(2, .int t), (1, .int 0), (0, .int t)]) hx hb dX3_ones_3 rfl hl (by decide) rfl (fun ls hl => ?_)
  refine w_loop (σ := Int32 × Int32) (fun x fr => ∃ ls, fr = F0 m 4 ls [] ∧ lv_has ls 3 [(2, .int x.1), (1, .int x.2), (0, .int t)] ∧ x.2 + onesP x.1 = onesP t) (fun x => x.1.toBitVec.toNat) (t, 0) ⟨ls, rfl, lv_sub hl [0, 1, 2] rfl, Int32.zero_add _⟩ ?_
  rintro ⟨r, n⟩ fr ⟨ls, rfl, hl, hinv⟩ ih
  have hl : lv_has ls 3 [(2, .int r), (1, .int n), (0, .int t)] := hl
  refine lv_iload_n hx hb dX3_ones_4 rfl (lv_at hl 0 rfl) ?_
  refine lv_if_eq (tgt := 20) hx hb dX3_ones_5 (by decide) (fun c_101 => ?_) (fun c_101 => ?_)
  · refine lv_iload_n hx hb dX3_ones_20 rfl (lv_at hl 1 rfl) ?_
    exact ri_R hx hb hr hlk (by rw [← hinv]; show n = n + onesP r; rw [c_101, onesP_0, Int32.add_zero]) dX3_ones_21
  · refine lv_iinc (v := n + 1) (lv' := [(1, .int (n + 1)), (2, .int r), (0, .int t)]) hx hb dX3_ones_8 hl (k := 1) rfl rfl (by decide) rfl (fun ls hl => ?_)
    refine lv_iload_n hx hb dX3_ones_11 rfl (lv_at hl 1 rfl) ?_
    refine lv_iload_n hx hb dX3_ones_12 rfl (lv_at hl 1 rfl) ?_
    refine lv_iconst (v := 1) hx hb dX3_ones_13 (by decide) ?_
    refine lv_isub hx hb dX3_ones_14 ?_
    refine lv_iand hx hb dX3_ones_15 ?_
    refine lv_istore_n (lv' := [(2, .int (r &&& (r - 1))), (1, .int (n + 1)), (0, .int t)]) hx hb dX3_ones_16 rfl hl (by decide) rfl (fun ls hl => ?_)
    refine lv_goto (tgt := 4) hx hb dX3_ones_17 (by decide) ?_
    refine ih (r &&& (r - 1), n + 1) _ ⟨ls, rfl, lv_sub hl [0, 1, 2] rfl, ?_⟩ (on_lt c_101)
    rw [← hinv, onesP_s c_101]
    show n + 1 + onesP (r &&& (r - 1)) = n + (onesP (r &&& (r - 1)) + 1)
    rw [Int32.add_assoc, Int32.add_comm 1]
theorem nd_X3_costs : yX3_costs.cls = "SmokeLeansModel" ∧ yX3_costs.cls ≠ "java/lang/invoke/MethodHandle" ∧ yX3_costs.cls ≠ "java/lang/invoke/VarHandle" ∧ (parseMethodDescriptor yX3_costs.desc).map (fun d => d.parameters.length) = some 1 := by decide +kernel
set_option maxHeartbeats 4000000 in
theorem M_costs (l : Launch) {G : GD} {A : Nat → Prop} {f : Nat → Nat → Int32} {g : Nat → Nat → Int64} {ad : Nat → Nat} {H0 : Heap} (hW : MW G A f g ad H0) {R N : Nat} (hO : OkN (f 0) R N) (t : Int32) : MetR l G yX3_costs cX3_costs 4 (some .int) 1 [.ref (ad 23), .int t] H0 (some (.int (costN (f 0) t N))) := by
  refine mx_of (by decide) (Nat.le_of_ble_eq_true rfl) ?_
  intro p e s m below meth c hx hb hr hc hlk hnm hs0 ls hl
  subst hs0
  have hown := hc.2.2.2.1
  have hts := hc.2.2.2.2.1
  have hK := hc.2.2.2.2.2
  have hl : lv_has ls 4 [(0, .ref (ad 23)), (1, .int t)] := hl
  refine lv_iconst (v := 0) hx hb dX3_costs_0 (by decide) ?_
  refine lv_istore_n (lv' := [(2, .int 0), (0, .ref (ad 23)), (1, .int t)]) hx hb dX3_costs_1 rfl hl (by decide) rfl (fun ls hl => ?_)
  refine lv_iconst (v := 0) hx hb dX3_costs_2 (by decide) ?_
  refine lv_istore_n (lv' := [(3, .int 0), (2, .int 0), (0, .ref (ad 23)), (1, .int t)]) hx hb dX3_costs_3 rfl hl (by decide) rfl (fun ls hl => ?_)
  refine w_loop (σ := Nat) (fun i fr => ∃ ls, fr = F0 m 4 ls [] ∧ lv_has ls 4 [(3, .int (nI i)), (2, .int (costN (f 0) t i)), (0, .ref (ad 23)), (1, .int t)] ∧ (i ≤ N)) (fun i => N - i) 0 ⟨ls, rfl, lv_sub hl [0, 1, 2, 3] rfl, Nat.zero_le _⟩ ?_
  intro i fr hI ih
  obtain ⟨ls, rfl, hl, hinv⟩ := hI
  by_cases hi : i < N
  · have hi20 : i < 20 := by have := hO.2.1; omega
    refine lv_iload_n hx hb dX3_costs_4 rfl (lv_at hl 0 rfl) ?_
    refine lv_aload_n hx hb dX3_costs_5 rfl (lv_at hl 2 rfl) ?_
    refine m_get hc hW 0 (by decide) rfl q1000 rfl rfl dX3_costs_6 ?_
    refine lv_iconst (v := 1) hx hb dX3_costs_9 (by decide) ?_
    refine m_ild hc hW 0 rfl (n := 169) rfl (ix_eq (k := 1) rfl (by decide) (by decide)) dX3_costs_10 ?_
    refine sm_topi (v := nI N) (hO.2.2.2.1) ?_
    refine lv_icmp_ge (tgt := 36) hx hb dX3_costs_11 (by decide) (fun h => absurd h (nI_ge hi (by have := hO.2.1; omega))) (fun _ => ?_)
    refine lv_iload_n hx hb dX3_costs_14 rfl (lv_at hl 1 rfl) ?_
    refine lv_iload_n hx hb dX3_costs_15 rfl (lv_at hl 3 rfl) ?_
    refine lv_iload_n hx hb dX3_costs_16 rfl (lv_at hl 0 rfl) ?_
    refine lv_ishr hx hb dX3_costs_17 ?_
    refine lv_iconst (v := 1) hx hb dX3_costs_18 (by decide) ?_
    refine lv_iand hx hb dX3_costs_19 ?_
    refine lv_aload_n hx hb dX3_costs_20 rfl (lv_at hl 2 rfl) ?_
    refine lv_iload_n hx hb dX3_costs_21 rfl (lv_at hl 0 rfl) ?_
    refine lv_bipush (v := 6) hx hb dX3_costs_22 (by decide) ?_
    refine cv_R1 (rest := [.int ((t >>> ((nI i) &&& 31)) &&& 1), .int (costN (f 0) t i)]) hc (M_has l hW i 6 (by omega)) (lw_V q1110 q1112 qs33 q70 q1113) nd_X3_has ⟨Nat.le_of_ble_eq_true rfl, Nat.le_of_ble_eq_true rfl⟩ (MW.recv hK hW) rfl hl.1 rfl (Nat.le_of_ble_eq_true rfl) dX3_costs_24 ⟨Nat.le_of_ble_eq_true rfl, Nat.le_of_ble_eq_true rfl⟩ ?_
    refine lv_imul hx hb dX3_costs_27 ?_
    refine lv_iadd hx hb dX3_costs_28 ?_
    refine lv_istore_n (lv' := [(2, .int ((costN (f 0) t i) + (((t >>> ((nI i) &&& 31)) &&& 1) * (f 0 (gp i 6))))), (3, .int (nI i)), (0, .ref (ad 23)), (1, .int t)]) hx hb dX3_costs_29 rfl hl (by decide) rfl (fun ls hl => ?_)
    refine lv_iinc (v := nI (i + 1)) (lv' := [(3, .int (nI (i + 1))), (2, .int ((costN (f 0) t i) + (((t >>> ((nI i) &&& 31)) &&& 1) * (f 0 (gp i 6))))), (0, .ref (ad 23)), (1, .int t)]) hx hb dX3_costs_30 hl (k := 1) rfl (nI_1 _) (by decide) rfl (fun ls hl => ?_)
    refine lv_goto (tgt := 4) hx hb dX3_costs_33 (by decide) ?_
    exact ih (i + 1) _ ⟨ls, rfl, lv_sub hl [0, 1, 2, 3] rfl, hi⟩ (by omega)
  · have hiN : i = N := by omega
    subst hiN
    refine lv_iload_n hx hb dX3_costs_4 rfl (lv_at hl 0 rfl) ?_
    refine lv_aload_n hx hb dX3_costs_5 rfl (lv_at hl 2 rfl) ?_
    refine m_get hc hW 0 (by decide) rfl q1000 rfl rfl dX3_costs_6 ?_
    refine lv_iconst (v := 1) hx hb dX3_costs_9 (by decide) ?_
    refine m_ild hc hW 0 rfl (n := 169) rfl (ix_eq (k := 1) rfl (by decide) (by decide)) dX3_costs_10 ?_
    refine sm_topi (v := nI i) (hO.2.2.2.1) ?_
    refine lv_icmp_ge (tgt := 36) hx hb dX3_costs_11 (by decide) (fun _ => ?_) (fun h => absurd (nI_le (by omega) (by have := hO.2.1; omega)) h)
    refine lv_iload_n hx hb dX3_costs_36 rfl (lv_at hl 1 rfl) ?_
    exact ri_R hx hb hr hlk (rfl) dX3_costs_37
/-- whether a set of gaps may be shut: of the first n gaps -/
def stgN (s : Nat → Int32) (t : Int32) : Nat → Bool
  | 0 => decide ((0 ≤ t ∧ t ≤ (1 <<< (s 1 &&& 31)) - 1) ∧ onesP t ≤ 10)
  | n + 1 => stgN s t n && decide (sBit t n = 0 ∨ s (gp n 7) = 0)
theorem stgN_no {s : Nat → Int32} {t : Int32} {n : Nat} (h : stgN s t n = false) : ∀ k, stgN s t (n + k) = false
  | 0 => h
  | k + 1 => by
    show (stgN s t (n + k) && _) = false
    rw [stgN_no h k, Bool.false_and]
theorem nd_X3_isStopping : yX3_isStopping.cls = "SmokeLeansModel" ∧ yX3_isStopping.cls ≠ "java/lang/invoke/MethodHandle" ∧ yX3_isStopping.cls ≠ "java/lang/invoke/VarHandle" ∧ (parseMethodDescriptor yX3_isStopping.desc).map (fun d => d.parameters.length) = some 1 := by decide +kernel
set_option maxHeartbeats 4000000 in
theorem M_isStopping (l : Launch) {G : GD} {A : Nat → Prop} {f : Nat → Nat → Int32} {g : Nat → Nat → Int64} {ad : Nat → Nat} {H0 : Heap} (hW : MW G A f g ad H0) {R N : Nat} (hO : OkN (f 0) R N) (t : Int32) : MetR l G yX3_isStopping cX3_isStopping 4 (some .boolean) 1 [.ref (ad 23), .int t] H0 (some (.int (b2i (stgN (f 0) t N = true)))) := by
  refine mx_of (by decide) (Nat.le_of_ble_eq_true rfl) ?_
  intro p e s m below meth c hx hb hr hc hlk hnm hs0 ls hl
  subst hs0
  have hown := hc.2.2.2.1
  have hts := hc.2.2.2.2.1
  have hK := hc.2.2.2.2.2
  have hl : lv_has ls 4 [(0, .ref (ad 23)), (1, .int t)] := hl
  refine w_join (fun y => y = b2i (stgN (f 0) t 0 = true)) 34 [] (fun y hy => ?_) (fun jn => ?_)
  · subst hy
    refine lv_istore_n (lv' := [(2, .int (b2i (stgN (f 0) t 0 = true))), (0, .ref (ad 23)), (1, .int t)]) hx hb dX3_isStopping_34 rfl hl (by decide) rfl (fun ls hl => ?_)
    refine lv_iconst (v := 0) hx hb dX3_isStopping_35 (by decide) ?_
    refine lv_istore_n (lv' := [(3, .int 0), (2, .int (b2i (stgN (f 0) t 0 = true))), (0, .ref (ad 23)), (1, .int t)]) hx hb dX3_isStopping_36 rfl hl (by decide) rfl (fun ls hl => ?_)
    refine w_loop (σ := Nat) (fun i fr => ∃ ls, fr = F0 m 37 ls [] ∧ lv_has ls 4 [(3, .int (nI i)), (2, .int (b2i (stgN (f 0) t i = true))), (0, .ref (ad 23)), (1, .int t)] ∧ (i ≤ N)) (fun i => N - i) 0 ⟨ls, rfl, lv_sub hl [0, 1, 2, 3] rfl, Nat.zero_le _⟩ ?_
    intro i fr hI ih
    obtain ⟨ls, rfl, hl, hinv⟩ := hI
    by_cases hi : i < N
    · have hi20 : i < 20 := by have := hO.2.1; omega
      refine lv_iload_n hx hb dX3_isStopping_37 rfl (lv_at hl 0 rfl) ?_
      refine lv_aload_n hx hb dX3_isStopping_38 rfl (lv_at hl 2 rfl) ?_
      refine m_get hc hW 0 (by decide) rfl q1000 rfl rfl dX3_isStopping_39 ?_
      refine lv_iconst (v := 1) hx hb dX3_isStopping_42 (by decide) ?_
      refine m_ild hc hW 0 rfl (n := 169) rfl (ix_eq (k := 1) rfl (by decide) (by decide)) dX3_isStopping_43 ?_
      refine sm_topi (v := nI N) (hO.2.2.2.1) ?_
      refine lv_icmp_ge (tgt := 81) hx hb dX3_isStopping_44 (by decide) (fun h => absurd h (nI_ge hi (by have := hO.2.1; omega))) (fun _ => ?_)
      refine lv_iload_n hx hb dX3_isStopping_47 rfl (lv_at hl 1 rfl) ?_
      refine bi_eq (tgt := 81) hx hb dX3_isStopping_48 (by decide) (fun c_102 => ?_) (fun c_102 => ?_)
      · refine lv_iload_n hx hb dX3_isStopping_81 rfl (lv_at hl 1 rfl) ?_
        exact rz_R hx hb hr hlk (b2i_congr ⟨fun h => absurd h c_102, fun h => absurd h (by rw [show N = i + (N - i) by omega, stgN_no (by simpa using c_102) (N - i)]; decide)⟩) dX3_isStopping_82
      · refine lv_iload_n hx hb dX3_isStopping_51 rfl (lv_at hl 3 rfl) ?_
        refine lv_iload_n hx hb dX3_isStopping_52 rfl (lv_at hl 0 rfl) ?_
        refine lv_ishr hx hb dX3_isStopping_53 ?_
        refine lv_iconst (v := 1) hx hb dX3_isStopping_54 (by decide) ?_
        refine lv_iand hx hb dX3_isStopping_55 ?_
        refine lv_if_eq (tgt := 69) hx hb dX3_isStopping_56 (by decide) (fun c_103 => ?_) (fun c_103 => ?_)
        · refine lv_iconst (v := 1) hx hb dX3_isStopping_69 (by decide) ?_
          refine lv_goto (tgt := 74) hx hb dX3_isStopping_70 (by decide) ?_
          refine lv_istore_n (lv' := [(2, .int 1), (3, .int (nI i)), (0, .ref (ad 23)), (1, .int t)]) hx hb dX3_isStopping_74 rfl hl (by decide) rfl (fun ls hl => ?_)
          refine lv_iinc (v := nI (i + 1)) (lv' := [(3, .int (nI (i + 1))), (2, .int 1), (0, .ref (ad 23)), (1, .int t)]) hx hb dX3_isStopping_75 hl (k := 1) rfl (nI_1 _) (by decide) rfl (fun ls hl => ?_)
          refine lv_goto (tgt := 37) hx hb dX3_isStopping_78 (by decide) ?_
          refine ih (i + 1) _ ⟨ls, rfl, ?_, hi⟩ (by omega)
          rw [show b2i (stgN (f 0) t (i + 1) = true) = 1 from b2i_t (by rw [stgN, c_102, decide_eq_true (show sBit t i = 0 ∨ f 0 (gp i 7) = 0 from Or.inl c_103)]; rfl)]
          exact lv_sub hl [0, 1, 2, 3] rfl
        · refine lv_aload_n hx hb dX3_isStopping_59 rfl (lv_at hl 2 rfl) ?_
          refine lv_iload_n hx hb dX3_isStopping_60 rfl (lv_at hl 0 rfl) ?_
          refine lv_bipush (v := 7) hx hb dX3_isStopping_61 (by decide) ?_
          refine cv_R1 (rest := []) hc (M_has l hW i 7 (by omega)) (lw_V q1110 q1112 qs33 q70 q1113) nd_X3_has ⟨Nat.le_of_ble_eq_true rfl, Nat.le_of_ble_eq_true rfl⟩ (MW.recv hK hW) rfl hl.1 rfl (Nat.le_of_ble_eq_true rfl) dX3_isStopping_63 ⟨Nat.le_of_ble_eq_true rfl, Nat.le_of_ble_eq_true rfl⟩ ?_
          refine lv_if_ne (tgt := 73) hx hb dX3_isStopping_66 (by decide) (fun c_104 => ?_) (fun c_104 => ?_)
          · refine lv_iconst (v := 0) hx hb dX3_isStopping_73 (by decide) ?_
            refine lv_istore_n (lv' := [(2, .int 0), (3, .int (nI i)), (0, .ref (ad 23)), (1, .int t)]) hx hb dX3_isStopping_74 rfl hl (by decide) rfl (fun ls hl => ?_)
            refine lv_iinc (v := nI (i + 1)) (lv' := [(3, .int (nI (i + 1))), (2, .int 0), (0, .ref (ad 23)), (1, .int t)]) hx hb dX3_isStopping_75 hl (k := 1) rfl (nI_1 _) (by decide) rfl (fun ls hl => ?_)
            refine lv_goto (tgt := 37) hx hb dX3_isStopping_78 (by decide) ?_
            refine ih (i + 1) _ ⟨ls, rfl, ?_, hi⟩ (by omega)
            rw [show b2i (stgN (f 0) t (i + 1) = true) = 0 from b2i_f (by rw [stgN, decide_eq_false (show ¬ (sBit t i = 0 ∨ f 0 (gp i 7) = 0) from not_or.mpr ⟨c_103, c_104⟩), Bool.and_false]; decide)]
            exact lv_sub hl [0, 1, 2, 3] rfl
          · refine lv_iconst (v := 1) hx hb dX3_isStopping_69 (by decide) ?_
            refine lv_goto (tgt := 74) hx hb dX3_isStopping_70 (by decide) ?_
            refine lv_istore_n (lv' := [(2, .int 1), (3, .int (nI i)), (0, .ref (ad 23)), (1, .int t)]) hx hb dX3_isStopping_74 rfl hl (by decide) rfl (fun ls hl => ?_)
            refine lv_iinc (v := nI (i + 1)) (lv' := [(3, .int (nI (i + 1))), (2, .int 1), (0, .ref (ad 23)), (1, .int t)]) hx hb dX3_isStopping_75 hl (k := 1) rfl (nI_1 _) (by decide) rfl (fun ls hl => ?_)
            refine lv_goto (tgt := 37) hx hb dX3_isStopping_78 (by decide) ?_
            refine ih (i + 1) _ ⟨ls, rfl, ?_, hi⟩ (by omega)
            rw [show b2i (stgN (f 0) t (i + 1) = true) = 1 from b2i_t (by rw [stgN, c_102, decide_eq_true (show sBit t i = 0 ∨ f 0 (gp i 7) = 0 from Or.inr c_104)]; rfl)]
            exact lv_sub hl [0, 1, 2, 3] rfl
    · have hiN : i = N := by omega
      subst hiN
      refine lv_iload_n hx hb dX3_isStopping_37 rfl (lv_at hl 0 rfl) ?_
      refine lv_aload_n hx hb dX3_isStopping_38 rfl (lv_at hl 2 rfl) ?_
      refine m_get hc hW 0 (by decide) rfl q1000 rfl rfl dX3_isStopping_39 ?_
      refine lv_iconst (v := 1) hx hb dX3_isStopping_42 (by decide) ?_
      refine m_ild hc hW 0 rfl (n := 169) rfl (ix_eq (k := 1) rfl (by decide) (by decide)) dX3_isStopping_43 ?_
      refine sm_topi (v := nI i) (hO.2.2.2.1) ?_
      refine lv_icmp_ge (tgt := 81) hx hb dX3_isStopping_44 (by decide) (fun _ => ?_) (fun h => absurd (nI_le (by omega) (by have := hO.2.1; omega)) h)
      refine lv_iload_n hx hb dX3_isStopping_81 rfl (lv_at hl 1 rfl) ?_
      exact rz_R hx hb hr hlk (rfl) dX3_isStopping_82
  · refine lv_iload_n hx hb dX3_isStopping_0 rfl (lv_at hl 1 rfl) ?_
    refine lv_i2l hx hb dX3_isStopping_1 rfl ?_
    refine lv_lconst (v := (0 : Int32).toInt64) hx hb dX3_isStopping_2 (by decide) ?_
    refine lv_iconst (v := 1) hx hb dX3_isStopping_3 (by decide) ?_
    refine lv_aload_n hx hb dX3_isStopping_4 rfl (lv_at hl 0 rfl) ?_
    refine m_get hc hW 0 (by decide) rfl q1000 rfl rfl dX3_isStopping_5 ?_
    refine lv_iconst (v := 1) hx hb dX3_isStopping_8 (by decide) ?_
    refine m_ild hc hW 0 rfl (n := 169) rfl (ix_eq (k := 1) rfl (by decide) (by decide)) dX3_isStopping_9 ?_
    refine lv_ishl hx hb dX3_isStopping_10 ?_
    refine lv_iconst (v := 1) hx hb dX3_isStopping_11 (by decide) ?_
    refine lv_isub hx hb dX3_isStopping_12 ?_
    refine lv_i2l hx hb dX3_isStopping_13 rfl ?_
    refine cs_R1 (rest := []) hc (M_in32 l t 0 ((1 <<< ((f 0 1) &&& 31)) - 1)) (lw_S q1089 q1090 q70 q1091) nd_X3_in ⟨Nat.le_of_ble_eq_true rfl, Nat.le_of_ble_eq_true rfl⟩ rfl hl.1 rfl (Nat.le_of_ble_eq_true rfl) dX3_isStopping_14 ⟨Nat.le_of_ble_eq_true rfl, Nat.le_of_ble_eq_true rfl⟩ ?_
    refine bi_eq (tgt := 33) hx hb dX3_isStopping_17 (by decide) (fun c_105 => ?_) (fun c_105 => ?_)
    · refine lv_iconst (v := 0) hx hb dX3_isStopping_33 (by decide) ?_
      exact jn _ ((b2i_f (by rw [stgN, decide_eq_false (fun h => c_105 h.1)]; decide)).symm)
    · refine lv_iload_n hx hb dX3_isStopping_20 rfl (lv_at hl 1 rfl) ?_
      refine cs_R1 (rest := []) hc (M_ones l t) (lw_S q1321 q1322 q70 q1323) nd_X3_ones ⟨Nat.le_of_ble_eq_true rfl, Nat.le_of_ble_eq_true rfl⟩ rfl hl.1 rfl (Nat.le_of_ble_eq_true rfl) dX3_isStopping_21 ⟨Nat.le_of_ble_eq_true rfl, Nat.le_of_ble_eq_true rfl⟩ ?_
      refine lv_bipush (v := 10) hx hb dX3_isStopping_24 (by decide) ?_
      refine lv_icmp_gt (tgt := 33) hx hb dX3_isStopping_26 (by decide) (fun c_106 => ?_) (fun c_106 => ?_)
      · refine lv_iconst (v := 0) hx hb dX3_isStopping_33 (by decide) ?_
        exact jn _ ((b2i_f (by rw [stgN, decide_eq_false (fun h => absurd h.2 (Int32.not_le.mpr c_106))]; decide)).symm)
      · refine lv_iconst (v := 1) hx hb dX3_isStopping_29 (by decide) ?_
        refine lv_goto (tgt := 34) hx hb dX3_isStopping_30 (by decide) ?_
        exact jn _ ((b2i_t (decide_eq_true ⟨c_105, Int32.not_lt.mp c_106⟩)).symm)
/-- of the widths under n: how many give that lean, the first and the last of them -/
def wdN (s : Nat → Int32) (i : Nat) (x : Int32) : Nat → Int32 × Int32 × Int32
  | 0 => (0, -1, -1)
  | n + 1 =>
    if leanP (upd s (gp i 3) (nI n)) i = x then ((wdN s i x n).1 + 1, if 0 ≤ (wdN s i x n).2.1 then (wdN s i x n).2.1 else nI n, nI n)
    else wdN s i x n
def widthsM (f : Nat → Nat → Int32) (x l w : Int32) : Int32 × (Nat → Nat → Int32) :=
  if 0 ≤ x ∧ x ≤ f 0 1 - 1 then
    if -9 ≤ l ∧ l ≤ 9 then
      if 0 ≤ w ∧ w ≤ 2 then
        if w = 0 then ((wdN (f 0) x.toNatClampNeg l 100).1, f)
        else if (wdN (f 0) x.toNatClampNeg l 100).1 = 0 then NON f
        else if w = 1 then ((wdN (f 0) x.toNatClampNeg l 100).2.1, f)
        else ((wdN (f 0) x.toNatClampNeg l 100).2.2, f)
      else BEY f
    else BEY f
  else BEY f
theorem nd_X3_widths : yX3_widths.cls = "SmokeLeansModel" ∧ yX3_widths.cls ≠ "java/lang/invoke/MethodHandle" ∧ yX3_widths.cls ≠ "java/lang/invoke/VarHandle" ∧ (parseMethodDescriptor yX3_widths.desc).map (fun d => d.parameters.length) = some 3 := by decide +kernel
set_option maxHeartbeats 4000000 in
theorem M_widths (l : Launch) {G : GD} {A : Nat → Prop} {f : Nat → Nat → Int32} {g : Nat → Nat → Int64} {ad : Nat → Nat} {H0 : Heap} (hW : MW G A f g ad H0) {R N : Nat} (hO : OkN (f 0) R N) (x l' w : Int32) : MetW l G yX3_widths cX3_widths 9 (some .int) 5 0 0 A [.ref (ad 23), .int x, .int l', .int w] H0 (some (.int ((widthsM f x l' w).1))) (fun H => MP G A (widthsM f x l' w).2 g ad H) := by
  refine mx_of (by decide) (Nat.le_of_ble_eq_true rfl) ?_
  intro p e s m below meth c hx hb hr hc hlk hnm hs0 ls hl
  subst hs0
  have hown := hc.2.2.2.1
  have hts := hc.2.2.2.2.1
  have hK := hc.2.2.2.2.2
  have hl : lv_has ls 9 [(0, .ref (ad 23)), (1, .int x), (2, .int l'), (3, .int w)] := hl
  have hS : va_S A s.heap s.heap [] := va_S.rf
  refine lv_aload_n hx hb dX3_widths_0 rfl (lv_at hl 0 rfl) ?_
  refine lv_iload_n hx hb dX3_widths_1 rfl (lv_at hl 1 rfl) ?_
  refine cv_R1 (rest := []) hc (M_isGap l hW x) (lw_V q1105 q1107 qs32 q70 q1108) nd_X3_isGap ⟨Nat.le_of_ble_eq_true rfl, Nat.le_of_ble_eq_true rfl⟩ (MW.recv hK hW) rfl hl.1 rfl (Nat.le_of_ble_eq_true rfl) dX3_widths_2 ⟨Nat.le_of_ble_eq_true rfl, Nat.le_of_ble_eq_true rfl⟩ ?_
  refine bi_eq (tgt := 34) hx hb dX3_widths_5 (by decide) (fun c_107 => ?_) (fun c_107 => ?_)
  · refine lv_aload_n hx hb dX3_widths_34 rfl (lv_at hl 0 rfl) ?_
    refine lv_ldc (v := (-1000000001)) hx hb hown (hts _ q1079) dX3_widths_35 ?_
    refine cv_W1 (rest := []) hc (M_finds l hW (-1000000001) 0 (ix_eq (k := 0) (by decide) (by decide) (by decide))) (lw_V q1075 q1077 qs28 q70 q1078) nd_X3_finds ⟨Nat.le_of_ble_eq_true rfl, Nat.le_of_ble_eq_true rfl⟩ (MW.recv hK hW) rfl hl.1 rfl (Nat.le_of_ble_eq_true rfl) dX3_widths_37 ⟨Nat.le_of_ble_eq_true rfl, Nat.le_of_ble_eq_true rfl⟩ hS (fun _ h => h) (fun H locs hW hS hz hk => ?_)
    exact ri_W hx hb hr hlk hS (by simp only [widthsM, if_neg c_107]) (by simp only [widthsM, if_neg c_107]; exact MW.mp hW) dX3_widths_40
  · obtain ⟨i, hi, rfl⟩ := hO.exGap c_107
    have hlti : i < 20 := by have := hO.2.1; omega
    have hcli : (nI i).toNatClampNeg = i := nI_clamp (by omega)
    refine lv_iload_n hx hb dX3_widths_8 rfl (lv_at hl 2 rfl) ?_
    refine lv_i2l hx hb dX3_widths_9 rfl ?_
    refine lv_ldc2 (v := (-9)) hx hb hown (hts _ q1306) dX3_widths_10 (sm_topl (v := (-9 : Int32).toInt64) (by decide) ?_)
    refine lv_ldc2 (v := 9) hx hb hown (hts _ q1109) dX3_widths_13 (sm_topl (v := (9 : Int32).toInt64) (by decide) ?_)
    refine cs_R1 (rest := []) hc (M_in32 l l' (-9) 9) (lw_S q1089 q1090 q70 q1091) nd_X3_in ⟨Nat.le_of_ble_eq_true rfl, Nat.le_of_ble_eq_true rfl⟩ rfl hl.1 rfl (Nat.le_of_ble_eq_true rfl) dX3_widths_16 ⟨Nat.le_of_ble_eq_true rfl, Nat.le_of_ble_eq_true rfl⟩ ?_
    refine bi_eq (tgt := 34) hx hb dX3_widths_19 (by decide) (fun c_108 => ?_) (fun c_108 => ?_)
    · refine lv_aload_n hx hb dX3_widths_34 rfl (lv_at hl 0 rfl) ?_
      refine lv_ldc (v := (-1000000001)) hx hb hown (hts _ q1079) dX3_widths_35 ?_
      refine cv_W1 (rest := []) hc (M_finds l hW (-1000000001) 0 (ix_eq (k := 0) (by decide) (by decide) (by decide))) (lw_V q1075 q1077 qs28 q70 q1078) nd_X3_finds ⟨Nat.le_of_ble_eq_true rfl, Nat.le_of_ble_eq_true rfl⟩ (MW.recv hK hW) rfl hl.1 rfl (Nat.le_of_ble_eq_true rfl) dX3_widths_37 ⟨Nat.le_of_ble_eq_true rfl, Nat.le_of_ble_eq_true rfl⟩ hS (fun _ h => h) (fun H locs hW hS hz hk => ?_)
      exact ri_W hx hb hr hlk hS (by simp only [widthsM, if_pos c_107, if_neg c_108]) (by simp only [widthsM, if_pos c_107, if_neg c_108]; exact MW.mp hW) dX3_widths_40
    · refine lv_iload_n hx hb dX3_widths_22 rfl (lv_at hl 3 rfl) ?_
      refine lv_i2l hx hb dX3_widths_23 rfl ?_
      refine lv_lconst (v := (0 : Int32).toInt64) hx hb dX3_widths_24 (by decide) ?_
      refine lv_ldc2 (v := 2) hx hb hown (hts _ q1307) dX3_widths_25 (sm_topl (v := (2 : Int32).toInt64) (by decide) ?_)
      refine cs_R1 (rest := []) hc (M_in32 l w 0 2) (lw_S q1089 q1090 q70 q1091) nd_X3_in ⟨Nat.le_of_ble_eq_true rfl, Nat.le_of_ble_eq_true rfl⟩ rfl hl.1 rfl (Nat.le_of_ble_eq_true rfl) dX3_widths_28 ⟨Nat.le_of_ble_eq_true rfl, Nat.le_of_ble_eq_true rfl⟩ ?_
      refine bi_ne (tgt := 41) hx hb dX3_widths_31 (by decide) (fun c_109 => ?_) (fun c_109 => ?_)
      · have hii : i < N := hi
        obtain ⟨a0, b0, n0, z0, hW⟩ := AX.of hW
        rw [← upA_self (f := f) (k := 0)] at hW
        refine lv_aload_n hx hb dX3_widths_41 rfl (lv_at hl 0 rfl) ?_
        refine lv_iload_n hx hb dX3_widths_42 rfl (lv_at hl 1 rfl) ?_
        refine lv_iconst (v := 3) hx hb dX3_widths_43 (by decide) ?_
        refine cv_R1 (rest := []) hc (M_has l hW i 3 (by omega)) (lw_V q1110 q1112 qs33 q70 q1113) nd_X3_has ⟨Nat.le_of_ble_eq_true rfl, Nat.le_of_ble_eq_true rfl⟩ (MW.recv hK hW) rfl hl.1 rfl (Nat.le_of_ble_eq_true rfl) dX3_widths_44 ⟨Nat.le_of_ble_eq_true rfl, Nat.le_of_ble_eq_true rfl⟩ ?_
        refine sm_topi (v := f 0 (gp i 3)) rfl ?_
        refine lv_istore (lv' := [(4, .int (f 0 (gp i 3))), (0, .ref (ad 23)), (1, .int (nI i)), (2, .int l'), (3, .int w)]) hx hb dX3_widths_47 hl (by decide) rfl (fun ls hl => ?_)
        refine lv_iconst (v := 0) hx hb dX3_widths_49 (by decide) ?_
        refine lv_istore (lv' := [(5, .int 0), (4, .int (f 0 (gp i 3))), (0, .ref (ad 23)), (1, .int (nI i)), (2, .int l'), (3, .int w)]) hx hb dX3_widths_50 hl (by decide) rfl (fun ls hl => ?_)
        refine lv_iconst (v := (-1)) hx hb dX3_widths_52 (by decide) ?_
        refine lv_istore (lv' := [(6, .int (-1)), (5, .int 0), (4, .int (f 0 (gp i 3))), (0, .ref (ad 23)), (1, .int (nI i)), (2, .int l'), (3, .int w)]) hx hb dX3_widths_53 hl (by decide) rfl (fun ls hl => ?_)
        refine lv_iconst (v := (-1)) hx hb dX3_widths_55 (by decide) ?_
        refine lv_istore (lv' := [(7, .int (-1)), (6, .int (-1)), (5, .int 0), (4, .int (f 0 (gp i 3))), (0, .ref (ad 23)), (1, .int (nI i)), (2, .int l'), (3, .int w)]) hx hb dX3_widths_56 hl (by decide) rfl (fun ls hl => ?_)
        refine lv_iconst (v := 0) hx hb dX3_widths_58 (by decide) ?_
        refine lv_istore (lv' := [(8, .int 0), (7, .int (-1)), (6, .int (-1)), (5, .int 0), (4, .int (f 0 (gp i 3))), (0, .ref (ad 23)), (1, .int (nI i)), (2, .int l'), (3, .int w)]) hx hb dX3_widths_59 hl (by decide) rfl (fun ls hl => ?_)
        refine w_loopH (σ := Nat) (fun n H locs cells slots fr => cells = 0 ∧ slots = 0 ∧ (∃ ls, fr = F0 m 61 ls [] ∧ lv_has ls 9 [(8, .int (nI n)), (7, .int ((wdN (f 0) i l' n).2.2)), (6, .int ((wdN (f 0) i l' n).2.1)), (5, .int ((wdN (f 0) i l' n).1)), (4, .int (f 0 (gp i 3))), (0, .ref (ad 23)), (1, .int (nI i)), (2, .int l'), (3, .int w)]) ∧ va_S A s.heap H locs ∧ (n ≤ 100 ∧ ∃ y a b k z, MW G A (airF (upA f 0 (upd (f 0) (gp i 3) y)) a b k z) g ad H)) (fun n => 100 - n) 0 ⟨rfl, rfl, ⟨ls, rfl, lv_sub hl [0, 1, 2, 3, 4, 5, 6, 7, 8] rfl⟩, hS, ⟨Nat.zero_le _, f 0 (gp i 3), a0, b0, n0, z0, by rw [upd_self]; exact hW⟩⟩ ?_
        intro n H locs cells slots fr hI ih
        obtain ⟨rfl, rfl, ⟨ls, rfl, hl⟩, hS, ⟨hle, y, a0, b0, n0, z0, hW⟩⟩ := hI
        by_cases hi : n < 100
        · have hO1 : OkN (upd (f 0) (gp i 3) (nI n)) R N := OkN_width hO hi
          refine lv_iload hx hb dX3_widths_61 (lv_at hl 0 rfl) ?_
          refine lv_bipush (v := 100) hx hb dX3_widths_63 (by decide) ?_
          refine lv_icmp_ge (tgt := 124) hx hb dX3_widths_65 (by decide) (fun h => absurd h (nI_ge (b := 100) hi (by decide))) (fun _ => ?_)
          refine lv_aload_n hx hb dX3_widths_68 rfl (lv_at hl 5 rfl) ?_
          refine m_get hc hW 0 (by decide) rfl q1000 rfl rfl dX3_widths_69 ?_
          refine lv_bipush (v := 9) hx hb dX3_widths_72 (by decide) ?_
          refine lv_bipush (v := 8) hx hb dX3_widths_74 (by decide) ?_
          refine lv_iload_n hx hb dX3_widths_76 rfl (lv_at hl 6 rfl) ?_
          refine lv_imul hx hb dX3_widths_77 (sm_topi (v := nI (8 * i)) (pk_mul _ _) ?_)
          refine lv_iadd hx hb dX3_widths_78 (sm_topi (v := nI (9 + 8 * i)) (nI_add _ _) ?_)
          refine lv_iconst (v := 3) hx hb dX3_widths_79 (by decide) ?_
          refine lv_iadd hx hb dX3_widths_80 (sm_topi (v := nI (9 + 8 * i + 3)) (nI_add _ _) ?_)
          refine lv_iload hx hb dX3_widths_81 (lv_at hl 0 rfl) ?_
          refine m_ist hc hW hS 0 rfl (n := 169) rfl (ix_nI (by omega) (by decide)) dX3_widths_83 (fun H locs hW hS hz => ?_)
          rw [airF_up (by decide), up2_upA] at hW
          rw [upd_upd] at hW
          refine lv_aload_n hx hb dX3_widths_84 rfl (lv_at hl 5 rfl) ?_
          refine cv_W0 (rest := []) hc (M_restsX l hW (R := R) (N := N) hO1) (lw_V q1233 q1235 qs51 q70 q1236) nd_X3_rests ⟨Nat.le_of_ble_eq_true rfl, Nat.le_of_ble_eq_true rfl⟩ (MW.recv hK hW) rfl hl.1 rfl (Nat.le_of_ble_eq_true rfl) dX3_widths_85 ⟨Nat.le_of_ble_eq_true rfl, Nat.le_of_ble_eq_true rfl⟩ hS (fun _ h => h) (fun H locs hq hS hz hk => ?_)
          obtain ⟨b_110, hW⟩ := hq
          have hW : AR G A (upA f 0 (upd (f 0) (gp i 3) (nI n))) g ad b_110 H := hW
          refine lv_aload_n hx hb dX3_widths_88 rfl (lv_at hl 5 rfl) ?_
          refine lv_iload_n hx hb dX3_widths_89 rfl (lv_at hl 6 rfl) ?_
          refine cv_R1 (rest := []) hc (M_leanOf l hW (R := R) (N := N) hO1 i hii) (lw_V q1257 q1259 qs55 q70 q1260) nd_X3_leanOf ⟨Nat.le_of_ble_eq_true rfl, Nat.le_of_ble_eq_true rfl⟩ (MW.recv hK hW) rfl hl.1 rfl (Nat.le_of_ble_eq_true rfl) dX3_widths_90 ⟨Nat.le_of_ble_eq_true rfl, Nat.le_of_ble_eq_true rfl⟩ ?_
          refine sm_topi (v := leanP (upd (f 0) (gp i 3) (nI n)) i) rfl ?_
          refine lv_iload_n hx hb dX3_widths_93 rfl (lv_at hl 7 rfl) ?_
          refine lv_icmp_ne (tgt := 118) hx hb dX3_widths_94 (by decide) (fun c_111 => ?_) (fun c_111 => ?_)
          · refine lv_iinc (v := nI (n + 1)) (lv' := [(8, .int (nI (n + 1))), (7, .int ((wdN (f 0) i l' n).2.2)), (6, .int ((wdN (f 0) i l' n).2.1)), (5, .int ((wdN (f 0) i l' n).1)), (4, .int (f 0 (gp i 3))), (0, .ref (ad 23)), (1, .int (nI i)), (2, .int l'), (3, .int w)]) hx hb dX3_widths_118 hl (k := 0) rfl (nI_1 _) (by decide) rfl (fun ls hl => ?_)
            refine lv_goto (tgt := 61) hx hb dX3_widths_121 (by decide) ?_
            refine ih (n + 1) _ _ _ _ _ ⟨rfl, rfl, ⟨ls, rfl, ?_⟩, hS, hi, nI n, _, _, _, _, hW⟩ (by omega)
            rw [show wdN (f 0) i l' (n + 1) = ((wdN (f 0) i l' n).1, (wdN (f 0) i l' n).2.1, (wdN (f 0) i l' n).2.2) from by simp only [wdN, if_neg c_111]]
            exact lv_sub hl [0, 1, 2, 3, 4, 5, 6, 7, 8] rfl
          · refine lv_iinc (v := ((wdN (f 0) i l' n).1) + 1) (lv' := [(5, .int (((wdN (f 0) i l' n).1) + 1)), (8, .int (nI n)), (7, .int ((wdN (f 0) i l' n).2.2)), (6, .int ((wdN (f 0) i l' n).2.1)), (4, .int (f 0 (gp i 3))), (0, .ref (ad 23)), (1, .int (nI i)), (2, .int l'), (3, .int w)]) hx hb dX3_widths_97 hl (k := 3) rfl rfl (by decide) rfl (fun ls hl => ?_)
            refine lv_iload hx hb dX3_widths_100 (lv_at hl 3 rfl) ?_
            refine lv_if_ge (tgt := 110) hx hb dX3_widths_102 (by decide) (fun c_112 => ?_) (fun c_112 => ?_)
            · refine lv_iload hx hb dX3_widths_110 (lv_at hl 3 rfl) ?_
              refine lv_istore (lv' := [(6, .int ((wdN (f 0) i l' n).2.1)), (5, .int (((wdN (f 0) i l' n).1) + 1)), (8, .int (nI n)), (7, .int ((wdN (f 0) i l' n).2.2)), (4, .int (f 0 (gp i 3))), (0, .ref (ad 23)), (1, .int (nI i)), (2, .int l'), (3, .int w)]) hx hb dX3_widths_112 hl (by decide) rfl (fun ls hl => ?_)
              refine lv_iload hx hb dX3_widths_114 (lv_at hl 2 rfl) ?_
              refine lv_istore (lv' := [(7, .int (nI n)), (6, .int ((wdN (f 0) i l' n).2.1)), (5, .int (((wdN (f 0) i l' n).1) + 1)), (8, .int (nI n)), (4, .int (f 0 (gp i 3))), (0, .ref (ad 23)), (1, .int (nI i)), (2, .int l'), (3, .int w)]) hx hb dX3_widths_116 hl (by decide) rfl (fun ls hl => ?_)
              refine lv_iinc (v := nI (n + 1)) (lv' := [(8, .int (nI (n + 1))), (7, .int (nI n)), (6, .int ((wdN (f 0) i l' n).2.1)), (5, .int (((wdN (f 0) i l' n).1) + 1)), (4, .int (f 0 (gp i 3))), (0, .ref (ad 23)), (1, .int (nI i)), (2, .int l'), (3, .int w)]) hx hb dX3_widths_118 hl (k := 3) rfl (nI_1 _) (by decide) rfl (fun ls hl => ?_)
              refine lv_goto (tgt := 61) hx hb dX3_widths_121 (by decide) ?_
              refine ih (n + 1) _ _ _ _ _ ⟨rfl, rfl, ⟨ls, rfl, ?_⟩, hS, hi, nI n, _, _, _, _, hW⟩ (by omega)
              rw [show wdN (f 0) i l' (n + 1) = (((wdN (f 0) i l' n).1) + 1, (wdN (f 0) i l' n).2.1, nI n) from by simp only [wdN, if_pos c_111, if_pos c_112]]
              exact lv_sub hl [0, 1, 2, 3, 4, 5, 6, 7, 8] rfl
            · refine lv_iload hx hb dX3_widths_105 (lv_at hl 1 rfl) ?_
              refine lv_goto (tgt := 112) hx hb dX3_widths_107 (by decide) ?_
              refine lv_istore (lv' := [(6, .int (nI n)), (5, .int (((wdN (f 0) i l' n).1) + 1)), (8, .int (nI n)), (7, .int ((wdN (f 0) i l' n).2.2)), (4, .int (f 0 (gp i 3))), (0, .ref (ad 23)), (1, .int (nI i)), (2, .int l'), (3, .int w)]) hx hb dX3_widths_112 hl (by decide) rfl (fun ls hl => ?_)
              refine lv_iload hx hb dX3_widths_114 (lv_at hl 2 rfl) ?_
              refine lv_istore (lv' := [(7, .int (nI n)), (6, .int (nI n)), (5, .int (((wdN (f 0) i l' n).1) + 1)), (8, .int (nI n)), (4, .int (f 0 (gp i 3))), (0, .ref (ad 23)), (1, .int (nI i)), (2, .int l'), (3, .int w)]) hx hb dX3_widths_116 hl (by decide) rfl (fun ls hl => ?_)
              refine lv_iinc (v := nI (n + 1)) (lv' := [(8, .int (nI (n + 1))), (7, .int (nI n)), (6, .int (nI n)), (5, .int (((wdN (f 0) i l' n).1) + 1)), (4, .int (f 0 (gp i 3))), (0, .ref (ad 23)), (1, .int (nI i)), (2, .int l'), (3, .int w)]) hx hb dX3_widths_118 hl (k := 3) rfl (nI_1 _) (by decide) rfl (fun ls hl => ?_)
              refine lv_goto (tgt := 61) hx hb dX3_widths_121 (by decide) ?_
              refine ih (n + 1) _ _ _ _ _ ⟨rfl, rfl, ⟨ls, rfl, ?_⟩, hS, hi, nI n, _, _, _, _, hW⟩ (by omega)
              rw [show wdN (f 0) i l' (n + 1) = (((wdN (f 0) i l' n).1) + 1, nI n, nI n) from by simp only [wdN, if_pos c_111, if_neg c_112]]
              exact lv_sub hl [0, 1, 2, 3, 4, 5, 6, 7, 8] rfl
        · have hn : n = 100 := by omega
          subst hn
          refine lv_iload hx hb dX3_widths_61 (lv_at hl 0 rfl) ?_
          refine lv_bipush (v := 100) hx hb dX3_widths_63 (by decide) ?_
          refine lv_icmp_ge (tgt := 124) hx hb dX3_widths_65 (by decide) (fun _ => ?_) (fun h => absurd (nI_le (a := 100) (by omega) (by omega)) h)
          refine lv_aload_n hx hb dX3_widths_124 rfl (lv_at hl 5 rfl) ?_
          refine m_get hc hW 0 (by decide) rfl q1000 rfl rfl dX3_widths_125 ?_
          refine lv_bipush (v := 9) hx hb dX3_widths_128 (by decide) ?_
          refine lv_bipush (v := 8) hx hb dX3_widths_130 (by decide) ?_
          refine lv_iload_n hx hb dX3_widths_132 rfl (lv_at hl 6 rfl) ?_
          refine lv_imul hx hb dX3_widths_133 (sm_topi (v := nI (8 * i)) (pk_mul _ _) ?_)
          refine lv_iadd hx hb dX3_widths_134 (sm_topi (v := nI (9 + 8 * i)) (nI_add _ _) ?_)
          refine lv_iconst (v := 3) hx hb dX3_widths_135 (by decide) ?_
          refine lv_iadd hx hb dX3_widths_136 (sm_topi (v := nI (9 + 8 * i + 3)) (nI_add _ _) ?_)
          refine lv_iload hx hb dX3_widths_137 (lv_at hl 4 rfl) ?_
          refine m_ist hc hW hS 0 rfl (n := 169) rfl (ix_nI (by omega) (by decide)) dX3_widths_139 (fun H locs hW hS hz => ?_)
          rw [airF_up (by decide), up2_upA] at hW
          rw [upd_upd, upd_self, upA_self] at hW
          refine lv_iload_n hx hb dX3_widths_140 rfl (lv_at hl 8 rfl) ?_
          refine lv_if_ne (tgt := 149) hx hb dX3_widths_141 (by decide) (fun c_113 => ?_) (fun c_113 => ?_)
          · refine lv_iload hx hb dX3_widths_149 (lv_at hl 3 rfl) ?_
            refine lv_if_ne (tgt := 163) hx hb dX3_widths_151 (by decide) (fun c_114 => ?_) (fun c_114 => ?_)
            · refine lv_iload_n hx hb dX3_widths_163 rfl (lv_at hl 8 rfl) ?_
              refine lv_iconst (v := 1) hx hb dX3_widths_164 (by decide) ?_
              refine lv_icmp_ne (tgt := 173) hx hb dX3_widths_165 (by decide) (fun c_115 => ?_) (fun c_115 => ?_)
              · refine lv_iload hx hb dX3_widths_173 (lv_at hl 1 rfl) ?_
                exact ri_W hx hb hr hlk hS (by simp only [widthsM, if_pos c_107, if_pos c_108, if_pos c_109, if_neg c_113, if_neg c_114, if_neg c_115, hcli]) (by simp only [widthsM, if_pos c_107, if_pos c_108, if_pos c_109, if_neg c_113, if_neg c_114, if_neg c_115, hcli]; exact AX.mp ⟨_, _, _, _, hW⟩) dX3_widths_175
              · refine lv_iload hx hb dX3_widths_168 (lv_at hl 2 rfl) ?_
                refine lv_goto (tgt := 175) hx hb dX3_widths_170 (by decide) ?_
                exact ri_W hx hb hr hlk hS (by simp only [widthsM, if_pos c_107, if_pos c_108, if_pos c_109, if_neg c_113, if_neg c_114, if_pos c_115, hcli]) (by simp only [widthsM, if_pos c_107, if_pos c_108, if_pos c_109, if_neg c_113, if_neg c_114, if_pos c_115, hcli]; exact AX.mp ⟨_, _, _, _, hW⟩) dX3_widths_175
            · refine lv_aload_n hx hb dX3_widths_154 rfl (lv_at hl 5 rfl) ?_
              refine lv_ldc (v := (-1000000004)) hx hb hown (hts _ q1308) dX3_widths_155 ?_
              refine cv_W1 (rest := []) hc (M_finds l hW (-1000000004) 3 (ix_eq (k := 3) (by decide) (by decide) (by decide))) (lw_V q1075 q1077 qs28 q70 q1078) nd_X3_finds ⟨Nat.le_of_ble_eq_true rfl, Nat.le_of_ble_eq_true rfl⟩ (MW.recv hK hW) rfl hl.1 rfl (Nat.le_of_ble_eq_true rfl) dX3_widths_157 ⟨Nat.le_of_ble_eq_true rfl, Nat.le_of_ble_eq_true rfl⟩ hS (fun _ h => h) (fun H locs hW hS hz hk => ?_)
              rw [cntP, airF_up (by decide)] at hW
              refine lv_goto (tgt := 175) hx hb dX3_widths_160 (by decide) ?_
              exact ri_W hx hb hr hlk hS (by simp only [widthsM, if_pos c_107, if_pos c_108, if_pos c_109, if_neg c_113, if_pos c_114, hcli]) (by simp only [widthsM, if_pos c_107, if_pos c_108, if_pos c_109, if_neg c_113, if_pos c_114, hcli]; exact AX.mp ⟨_, _, _, _, hW⟩) dX3_widths_175
          · refine lv_iload hx hb dX3_widths_144 (lv_at hl 3 rfl) ?_
            refine lv_goto (tgt := 175) hx hb dX3_widths_146 (by decide) ?_
            exact ri_W hx hb hr hlk hS (by simp only [widthsM, if_pos c_107, if_pos c_108, if_pos c_109, if_pos c_113, hcli]) (by simp only [widthsM, if_pos c_107, if_pos c_108, if_pos c_109, if_pos c_113, hcli]; exact AX.mp ⟨_, _, _, _, hW⟩) dX3_widths_175
      · refine lv_aload_n hx hb dX3_widths_34 rfl (lv_at hl 0 rfl) ?_
        refine lv_ldc (v := (-1000000001)) hx hb hown (hts _ q1079) dX3_widths_35 ?_
        refine cv_W1 (rest := []) hc (M_finds l hW (-1000000001) 0 (ix_eq (k := 0) (by decide) (by decide) (by decide))) (lw_V q1075 q1077 qs28 q70 q1078) nd_X3_finds ⟨Nat.le_of_ble_eq_true rfl, Nat.le_of_ble_eq_true rfl⟩ (MW.recv hK hW) rfl hl.1 rfl (Nat.le_of_ble_eq_true rfl) dX3_widths_37 ⟨Nat.le_of_ble_eq_true rfl, Nat.le_of_ble_eq_true rfl⟩ hS (fun _ h => h) (fun H locs hW hS hz hk => ?_)
        exact ri_W hx hb hr hlk hS (by simp only [widthsM, if_pos c_107, if_pos c_108, if_neg c_109]) (by simp only [widthsM, if_pos c_107, if_pos c_108, if_neg c_109]; exact MW.mp hW) dX3_widths_40
