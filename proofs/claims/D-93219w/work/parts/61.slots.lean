/-! slots and houses are made -/
set_option maxRecDepth 100000
theorem ni_X2_init : yX2_init.cls ≠ "java/lang/invoke/MethodHandle" ∧ yX2_init.cls ≠ "java/lang/invoke/VarHandle" ∧ (parseMethodDescriptor yX2_init.desc).map (fun d => d.parameters.length) = some 0 := by decide +kernel
theorem ni_X1_init : yX1_init.cls ≠ "java/lang/invoke/MethodHandle" ∧ yX1_init.cls ≠ "java/lang/invoke/VarHandle" ∧ (parseMethodDescriptor yX1_init.desc).map (fun d => d.parameters.length) = some 0 := by decide +kernel
theorem nd_X2_init : yX2_init.cls = "SmokeLeans$Slot" ∧ yX2_init.cls ≠ "java/lang/invoke/MethodHandle" ∧ yX2_init.cls ≠ "java/lang/invoke/VarHandle" ∧ (parseMethodDescriptor yX2_init.desc).map (fun d => d.parameters.length) = some 0 := by decide +kernel
set_option maxHeartbeats 4000000 in
theorem D_X2_init (l : Launch) {G : GD} {H0 : Heap} (b : Nat) : MetR l G yX2_init cX2_init 1 none 1 [.ref b] H0 none := by
  refine mx_of (by decide) (Nat.le_of_ble_eq_true rfl) ?_
  intro p e s m below meth c hx hb hr hc hlk hnm hs0 ls hl
  subst hs0
  have hown := hc.2.2.2.1
  have hts := hc.2.2.2.2.1
  have hK := hc.2.2.2.2.2
  have hl : lv_has ls 1 [(0, .ref b)] := hl
  refine lv_aload_n hx hb dX2_init_0 rfl (lv_at hl 0 rfl) ?_
  refine a_oinit hc q112 hl.1 dX2_init_1 (Nat.le_of_ble_eq_true rfl) (Nat.le_of_ble_eq_true rfl) ?_
  exact rv_R hx hb hr hlk dX2_init_4
theorem nd_X0_slots : yX0_slots.cls ≠ "java/lang/invoke/MethodHandle" ∧ yX0_slots.cls ≠ "java/lang/invoke/VarHandle" ∧ (parseMethodDescriptor yX0_slots.desc).map (fun d => d.parameters.length) = some 1 := by decide +kernel
theorem va_up_s {b i : Nat} : va_up (fun j => if j < i then some (b + 1 + j) else none) i (some (b + 1 + i)) = fun j => if j < i + 1 then some (b + 1 + j) else none := by
  funext j
  unfold va_up
  by_cases h : j = i
  · subst h
    simp
  · by_cases h2 : j < i
    · simp [h, h2, show j < i + 1 by omega]
    · simp [h, h2, show ¬ j < i + 1 by omega]
theorem df_slot : ∀ j, j < 1 → defaultValue (tyX2 j) = vp_V [.null] j := by
  intro j hj
  rcases j with _ | j <;> first | rfl | omega
set_option maxHeartbeats 4000000 in
theorem D_slots (l : Launch) {G : GD} {H0 : Heap} (hN : NG G) (n : Nat) (hn20 : n ≤ 20) : MetW l G yX0_slots cX0_slots 3 (some (.array (.object "SmokeLeans$Slot"))) 2 21 40 (Abv H0.size) [.int (nI n)] H0 (some (.ref H0.size)) (fun H => SLP G n H0.size n H) := by
  refine mx_of (by decide) (Nat.le_of_ble_eq_true rfl) ?_
  intro p e s m below meth c hx hb hr hc hlk hnm hs0 ls hl
  subst hs0
  have hown := hc.2.2.2.1
  have hts := hc.2.2.2.2.1
  have hK := hc.2.2.2.2.2
  have hl : lv_has ls 3 [(0, .int (nI n))] := hl
  have hS : va_S (Abv s.heap.size) s.heap s.heap [] := va_S.rf
  have hcl : (nI n).toNatClampNeg = n := nI_clamp (by omega)
  have hn0 : ¬ nI n < 0 := fun h => absurd (Int32.lt_of_lt_of_le h (nI_le (Nat.zero_le n) (by omega))) Int32.lt_irrefl
  refine lv_iload_n hx hb dX0_slots_0 rfl (lv_at hl 0 rfl) ?_
  refine a_newq hc hS (hN.2.2.2.2.2.2.moved hK.2.alike) q106 hcl hn0 (by omega) (Nat.le_of_ble_eq_true rfl) (by show 0 + n ≤ 40; omega) dX0_slots_1 (fun H hat hS z o1 => ?_)
  refine lv_astore_n (lv' := [(1, .ref s.heap.size), (0, .int (nI n))]) hx hb dX0_slots_4 rfl hl (by decide) rfl (fun ls hl => ?_)
  refine lv_iconst (v := 0) hx hb dX0_slots_5 (by decide) ?_
  refine lv_istore_n (lv' := [(2, .int 0), (1, .ref s.heap.size), (0, .int (nI n))]) hx hb dX0_slots_6 rfl hl (by decide) rfl (fun ls hl => ?_)
  refine w_loopH (σ := Nat) (fun i H locs cells slots fr => cells = 1 + i ∧ slots = n + i ∧ (∃ ls, fr = F0 m 7 ls [] ∧ lv_has ls 3 [(2, .int (nI i)), (1, .ref s.heap.size), (0, .int (nI n))]) ∧ va_S (Abv s.heap.size) s.heap H locs ∧ (i ≤ n ∧ SLP G n s.heap.size i H)) (fun i => n - i) 0 ⟨by rfl, by omega, ⟨ls, rfl, lv_sub hl [0, 1, 2] rfl⟩, hS, Nat.zero_le _, ?_, fun j hj => absurd hj (Nat.not_lt_zero j), z⟩ ?_
  · have e0 : (fun j => if j < 0 then some (s.heap.size + 1 + j) else none) = fun _ : Nat => (none : Option Nat) := by funext j; rw [if_neg (Nat.not_lt_zero j)]
    rw [e0]
    exact hat
  intro i H locs cells slots fr hI ih
  obtain ⟨rfl, rfl, ⟨ls, rfl, hl⟩, hS, hin, hP⟩ := hI
  by_cases hi : i < n
  · refine lv_iload_n hx hb dX0_slots_7 rfl (lv_at hl 0 rfl) ?_
    refine lv_iload_n hx hb dX0_slots_8 rfl (lv_at hl 2 rfl) ?_
    refine lv_icmp_ge (tgt := 28) hx hb dX0_slots_9 (by decide) (fun h => absurd h (nI_ge hi (by omega))) (fun _ => ?_)
    refine lv_aload_n hx hb dX0_slots_12 rfl (lv_at hl 1 rfl) ?_
    refine lv_iload_n hx hb dX0_slots_13 rfl (lv_at hl 0 rfl) ?_
    refine a_new (ci := 2) hc hS in_X2 tyX2 tyX2_ok q106 q108 q69 rfl df_slot (by show 1 + i + 1 ≤ 21; omega) (by show n + i + 1 ≤ 40; omega) dX0_slots_14 (fun H2 hat hS z o1 => ?_)
    rw [hP.2.2] at hat z
    rw [hP.2.2]
    have hP : va_at G.1 vwCl (s.heap.size, .inl (G.2.1 4, n, .inr (.inr (.inr (.inr (fun j => if j < i then some (s.heap.size + 1 + j) else none)))))) H2 ∧ (∀ j, j < i → va_at G.1 vwCl (s.heap.size + 1 + j, .inr (2, [.null])) H2) := ⟨hP.1.kept (o1 _ (by have := hP.2.2; omega)), fun j hj => (hP.2.1 j hj).kept (o1 _ (by have := hP.2.2; omega))⟩
    refine lv_dup hx hb dX0_slots_17 rfl ?_
    refine cni_R (rest := [.ref (s.heap.size + 1 + i), .int (nI i), .ref s.heap.size]) hc (D_X2_init l (s.heap.size + 1 + i)) hN.2.1 q110 q69 q111 rfl ni_X2_init ⟨Nat.le_of_ble_eq_true rfl, Nat.le_of_ble_eq_true rfl⟩ rfl hl.1 rfl (Nat.le_of_ble_eq_true rfl) dX0_slots_18 ⟨by show 1 + i + 1 ≤ 21; omega, by show n + i + 1 ≤ 40; omega⟩ ?_
    refine s_aastq hx hb hK.1 4 2 hP.1 rfl hat rfl (ix_nI hi (by omega)) dX0_slots_21 (fun H hq z3 oq => ?_)
    refine lv_iinc (v := nI (i + 1)) (lv' := [(2, .int (nI (i + 1))), (1, .ref s.heap.size), (0, .int (nI n))]) hx hb dX0_slots_22 hl (k := 0) rfl (nI_1 _) (by decide) rfl (fun ls hl => ?_)
    refine lv_goto (tgt := 7) hx hb dX0_slots_25 (by decide) ?_
    have hS := hS.put (k := i) z3 oq (Nat.le_refl s.heap.size)
    refine ih (i + 1) _ _ _ _ _ ⟨by omega, by omega, ⟨ls, rfl, lv_sub hl [0, 1, 2] rfl⟩, hS, hi, ?_, fun j hj => ?_, z3.trans (by omega)⟩ (by omega)
    · rw [va_up_s] at hq; exact hq
    · by_cases hj2 : j < i
      · exact (hP.2 j hj2).kept (oq _ (by omega))
      · rw [show j = i by omega]; exact hat.kept (oq _ (by omega))
  · have hiE : i = n := by omega
    subst hiE
    refine lv_iload_n hx hb dX0_slots_7 rfl (lv_at hl 0 rfl) ?_
    refine lv_iload_n hx hb dX0_slots_8 rfl (lv_at hl 2 rfl) ?_
    refine lv_icmp_ge (tgt := 28) hx hb dX0_slots_9 (by decide) (fun _ => ?_) (fun h => absurd (nI_le (by omega) (by omega)) h)
    refine lv_aload_n hx hb dX0_slots_28 rfl (lv_at hl 1 rfl) ?_
    refine w_more (cells' := 21) (slots' := 40) (by omega) (by omega) ?_
    exact ra_W hx hb hr (Or.inr ⟨_, rfl⟩) hlk (Or.inr ⟨_, rfl⟩) hS rfl hP dX0_slots_29
