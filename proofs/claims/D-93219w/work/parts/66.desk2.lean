/-! the desk, 2: acts -/
set_option maxRecDepth 100000
theorem nI_6 {R : Nat} (h : R ≤ 6) : nI R = 6 ↔ R = 6 := by
  have key : ∀ k : Fin 7, (nI k.val = 6 ↔ k.val = 6) := by decide
  exact key ⟨R, by omega⟩
theorem as_t {f : Nat → Nat → Int32} {x k : Int32} {i : Nat} (c1 : 0 ≤ x ∧ x ≤ f 0 1 - 1) (c2 : 0 ≤ k ∧ k ≤ 5) (hcl : x.toNatClampNeg = i) (c : k = 0 ∨ f 0 (gp i 0) = k ∨ (k = 2 ∧ needP (f 0) i)) : asM f x k = (breadthP (f 0) i, f) := by
  unfold asM
  rw [if_pos c1, if_pos c2, hcl]
  by_cases h0 : k = 0
  · rw [if_pos h0]
  rw [if_neg h0]
  by_cases h1 : f 0 (gp i 0) = k
  · rw [if_pos h1]
  rw [if_neg h1]
  have h2 := (c.resolve_left h0).resolve_left h1
  rw [if_pos h2.1, if_pos h2.2]
theorem as_f {f : Nat → Nat → Int32} {x k : Int32} {i : Nat} (c1 : 0 ≤ x ∧ x ≤ f 0 1 - 1) (c2 : 0 ≤ k ∧ k ≤ 5) (hcl : x.toNatClampNeg = i) (c : ¬ (k = 0 ∨ f 0 (gp i 0) = k ∨ (k = 2 ∧ needP (f 0) i))) : asM f x k = (-1000000003, cntP f 2) := by
  unfold asM
  rw [if_pos c1, if_pos c2, hcl, if_neg (fun h => c (Or.inl h)), if_neg (fun h => c (Or.inr (Or.inl h)))]
  by_cases h2 : k = 2
  · rw [if_pos h2, if_neg (fun h => c (Or.inr (Or.inr ⟨h2, h⟩)))]
  · rw [if_neg h2]
theorem night_ok {s : Nat → Int32} {R N j : Nat} {v : Int32} (hO : OkN s R N) (hj : j < 6) (h : leastP (nI j) ≤ v ∧ v ≤ mostP (nI j)) : OkN (upd s (2 + j) v) R N := by
  refine hO.night ?_
  rcases (show j = 0 ∨ j = 1 ∨ j = 2 ∨ j = 3 ∨ j = 4 ∨ j = 5 by omega) with rfl | rfl | rfl | rfl | rfl | rfl
  · exact Or.inl ⟨rfl, h⟩
  · exact Or.inr (Or.inl ⟨rfl, h⟩)
  · exact Or.inr (Or.inr (Or.inl ⟨rfl, h⟩))
  · exact Or.inr (Or.inr (Or.inr (Or.inl ⟨rfl, h⟩)))
  · exact Or.inr (Or.inr (Or.inr (Or.inr (Or.inl ⟨rfl, h⟩))))
  · exact Or.inr (Or.inr (Or.inr (Or.inr (Or.inr ⟨rfl, h⟩))))
theorem rsd_1 {s p : Nat → Int32} {x : Int32} {n : Nat} (h : s (gp n 1) = x) : restN s p x (n + 1) = restN s p x n + flowQ s p n := by simp only [restN, if_pos h]
theorem rsd_2 {s p : Nat → Int32} {x : Int32} {n : Nat} (h1 : ¬ s (gp n 1) = x) (h : s (gp n 2) = x) : restN s p x (n + 1) = restN s p x n - flowQ s p n := by
  simp only [restN, if_neg h1, if_pos h]
  rw [Int32.zero_sub, Int32.sub_eq_add_neg]
theorem rsd_3 {s p : Nat → Int32} {x : Int32} {n : Nat} (h1 : ¬ s (gp n 1) = x) (h : ¬ s (gp n 2) = x) : restN s p x (n + 1) = restN s p x n := by
  simp only [restN, if_neg h1, if_neg h]
  simp
theorem sts_1 {f : Nat → Nat → Int32} {x : Int32} (h : x < 0) {n : Nat} : stsN f x (n + 1) = stsN f x n + f 3 n := by simp only [stsN, if_pos h]
theorem sts_j {f : Nat → Nat → Int32} {j : Nat} (hj : j < 7) : stsN f (nI j) 7 = f 3 j := by
  have hn : ¬ nI j < 0 := fun h => absurd (Int32.lt_of_lt_of_le h (nI_le (Nat.zero_le j) (by omega))) Int32.lt_irrefl
  rcases (show j = 0 ∨ j = 1 ∨ j = 2 ∨ j = 3 ∨ j = 4 ∨ j = 5 ∨ j = 6 by omega) with rfl | rfl | rfl | rfl | rfl | rfl | rfl <;> (simp only [stsN, if_neg hn]; simp [nI])
theorem nd_X0_isNight : yX0_isNight.cls ≠ "java/lang/invoke/MethodHandle" ∧ yX0_isNight.cls ≠ "java/lang/invoke/VarHandle" ∧ (parseMethodDescriptor yX0_isNight.desc).map (fun d => d.parameters.length) = some 2 := by decide +kernel
set_option maxHeartbeats 4000000 in
theorem D_isNight (l : Launch) {G : GD} {H0 : Heap} (z v : Int32) : MetR l G yX0_isNight cX0_isNight 2 (some .boolean) 1 [.int z, .int v] H0 (some (.int (b2i ((0 ≤ z ∧ z ≤ 5) ∧ (leastP z ≤ v ∧ v ≤ mostP z))))) := by
  refine mx_of (by decide) (Nat.le_of_ble_eq_true rfl) ?_
  intro p e s m below meth c hx hb hr hc hlk hnm hs0 ls hl
  subst hs0
  have hown := hc.2.2.2.1
  have hts := hc.2.2.2.2.1
  have hK := hc.2.2.2.2.2
  have hl : lv_has ls 2 [(0, .int z), (1, .int v)] := hl
  by_cases k_0 : z = 0
  · subst k_0
    refine lv_iload_n hx hb dX0_isNight_0 rfl (lv_at hl 0 rfl) ?_
    refine lv_tableIn (off := 39) (tgt := 40) hx hb dX0_isNight_1 (by decide) (by decide) (by rfl) (by decide) ?_
    refine lv_iload_n hx hb dX0_isNight_40 rfl (lv_at hl 1 rfl) ?_
    refine lv_i2l hx hb dX0_isNight_41 rfl ?_
    refine lv_lconst (v := (0 : Int32).toInt64) hx hb dX0_isNight_42 (by decide) ?_
    refine lv_ldc2 (v := 40) hx hb hown (hts _ q548) dX0_isNight_43 (sm_topl (v := (40 : Int32).toInt64) (by decide) ?_)
    refine cs_R1 (rest := []) hc (D_in32 l v 0 40) (lw_S q294 q295 q67 q296) nd_X0_in ⟨Nat.le_of_ble_eq_true rfl, Nat.le_of_ble_eq_true rfl⟩ rfl hl.1 rfl (Nat.le_of_ble_eq_true rfl) dX0_isNight_46 ⟨Nat.le_of_ble_eq_true rfl, Nat.le_of_ble_eq_true rfl⟩ ?_
    exact rz_R hx hb hr hlk (b2i_congr ⟨fun h => ⟨by decide, h⟩, fun h => h.2⟩) dX0_isNight_49
  · by_cases k_1 : z = 1
    · subst k_1
      refine lv_iload_n hx hb dX0_isNight_0 rfl (lv_at hl 0 rfl) ?_
      refine lv_tableIn (off := 81) (tgt := 82) hx hb dX0_isNight_1 (by decide) (by decide) (by rfl) (by decide) ?_
      refine lv_iload_n hx hb dX0_isNight_82 rfl (lv_at hl 0 rfl) ?_
      refine lv_iconst (v := 1) hx hb dX0_isNight_83 (by decide) ?_
      refine lv_icmp_eq (tgt := 92) hx hb dX0_isNight_84 (by decide) (fun _ => ?_) (fun h => absurd (by decide) h)
      refine lv_iload_n hx hb dX0_isNight_92 rfl (lv_at hl 1 rfl) ?_
      refine lv_i2l hx hb dX0_isNight_93 rfl ?_
      refine lv_lconst (v := (0 : Int32).toInt64) hx hb dX0_isNight_94 (by decide) ?_
      refine lv_ldc2 (v := 99) hx hb hown (hts _ q293) dX0_isNight_95 (sm_topl (v := (99 : Int32).toInt64) (by decide) ?_)
      refine cs_R1 (rest := []) hc (D_in32 l v 0 99) (lw_S q294 q295 q67 q296) nd_X0_in ⟨Nat.le_of_ble_eq_true rfl, Nat.le_of_ble_eq_true rfl⟩ rfl hl.1 rfl (Nat.le_of_ble_eq_true rfl) dX0_isNight_98 ⟨Nat.le_of_ble_eq_true rfl, Nat.le_of_ble_eq_true rfl⟩ ?_
      refine bi_eq (tgt := 108) hx hb dX0_isNight_101 (by decide) (fun c_432 => ?_) (fun c_432 => ?_)
      · refine lv_iconst (v := 0) hx hb dX0_isNight_108 (by decide) ?_
        exact rz_R hx hb hr hlk ((b2i_f (fun h => c_432 h.2)).symm) dX0_isNight_109
      · refine lv_iconst (v := 1) hx hb dX0_isNight_104 (by decide) ?_
        refine lv_goto (tgt := 109) hx hb dX0_isNight_105 (by decide) ?_
        exact rz_R hx hb hr hlk ((b2i_t ⟨by decide, c_432⟩).symm) dX0_isNight_109
    · by_cases k_2 : z = 2
      · subst k_2
        refine lv_iload_n hx hb dX0_isNight_0 rfl (lv_at hl 0 rfl) ?_
        refine lv_tableIn (off := 49) (tgt := 50) hx hb dX0_isNight_1 (by decide) (by decide) (by rfl) (by decide) ?_
        refine lv_iload_n hx hb dX0_isNight_50 rfl (lv_at hl 1 rfl) ?_
        refine lv_i2l hx hb dX0_isNight_51 rfl ?_
        refine lv_lconst (v := (0 : Int32).toInt64) hx hb dX0_isNight_52 (by decide) ?_
        refine lv_ldc2 (v := 3) hx hb hown (hts _ q549) dX0_isNight_53 (sm_topl (v := (3 : Int32).toInt64) (by decide) ?_)
        refine cs_R1 (rest := []) hc (D_in32 l v 0 3) (lw_S q294 q295 q67 q296) nd_X0_in ⟨Nat.le_of_ble_eq_true rfl, Nat.le_of_ble_eq_true rfl⟩ rfl hl.1 rfl (Nat.le_of_ble_eq_true rfl) dX0_isNight_56 ⟨Nat.le_of_ble_eq_true rfl, Nat.le_of_ble_eq_true rfl⟩ ?_
        exact rz_R hx hb hr hlk (b2i_congr ⟨fun h => ⟨by decide, h⟩, fun h => h.2⟩) dX0_isNight_59
      · by_cases k_3 : z = 3
        · subst k_3
          refine lv_iload_n hx hb dX0_isNight_0 rfl (lv_at hl 0 rfl) ?_
          refine lv_tableIn (off := 59) (tgt := 60) hx hb dX0_isNight_1 (by decide) (by decide) (by rfl) (by decide) ?_
          refine lv_iload_n hx hb dX0_isNight_60 rfl (lv_at hl 1 rfl) ?_
          refine lv_i2l hx hb dX0_isNight_61 rfl ?_
          refine lv_ldc2 (v := (-99)) hx hb hown (hts _ q550) dX0_isNight_62 (sm_topl (v := (-99 : Int32).toInt64) (by decide) ?_)
          refine lv_ldc2 (v := 99) hx hb hown (hts _ q293) dX0_isNight_65 (sm_topl (v := (99 : Int32).toInt64) (by decide) ?_)
          refine cs_R1 (rest := []) hc (D_in32 l v (-99) 99) (lw_S q294 q295 q67 q296) nd_X0_in ⟨Nat.le_of_ble_eq_true rfl, Nat.le_of_ble_eq_true rfl⟩ rfl hl.1 rfl (Nat.le_of_ble_eq_true rfl) dX0_isNight_68 ⟨Nat.le_of_ble_eq_true rfl, Nat.le_of_ble_eq_true rfl⟩ ?_
          exact rz_R hx hb hr hlk (b2i_congr ⟨fun h => ⟨by decide, h⟩, fun h => h.2⟩) dX0_isNight_71
        · by_cases k_4 : z = 4
          · subst k_4
            refine lv_iload_n hx hb dX0_isNight_0 rfl (lv_at hl 0 rfl) ?_
            refine lv_tableIn (off := 81) (tgt := 82) hx hb dX0_isNight_1 (by decide) (by decide) (by rfl) (by decide) ?_
            refine lv_iload_n hx hb dX0_isNight_82 rfl (lv_at hl 0 rfl) ?_
            refine lv_iconst (v := 1) hx hb dX0_isNight_83 (by decide) ?_
            refine lv_icmp_eq (tgt := 92) hx hb dX0_isNight_84 (by decide) (fun h => absurd h (by decide)) (fun _ => ?_)
            refine lv_iload_n hx hb dX0_isNight_87 rfl (lv_at hl 0 rfl) ?_
            refine lv_iconst (v := 4) hx hb dX0_isNight_88 (by decide) ?_
            refine lv_icmp_ne (tgt := 108) hx hb dX0_isNight_89 (by decide) (fun h => absurd (by decide) h) (fun _ => ?_)
            refine lv_iload_n hx hb dX0_isNight_92 rfl (lv_at hl 1 rfl) ?_
            refine lv_i2l hx hb dX0_isNight_93 rfl ?_
            refine lv_lconst (v := (0 : Int32).toInt64) hx hb dX0_isNight_94 (by decide) ?_
            refine lv_ldc2 (v := 99) hx hb hown (hts _ q293) dX0_isNight_95 (sm_topl (v := (99 : Int32).toInt64) (by decide) ?_)
            refine cs_R1 (rest := []) hc (D_in32 l v 0 99) (lw_S q294 q295 q67 q296) nd_X0_in ⟨Nat.le_of_ble_eq_true rfl, Nat.le_of_ble_eq_true rfl⟩ rfl hl.1 rfl (Nat.le_of_ble_eq_true rfl) dX0_isNight_98 ⟨Nat.le_of_ble_eq_true rfl, Nat.le_of_ble_eq_true rfl⟩ ?_
            refine bi_eq (tgt := 108) hx hb dX0_isNight_101 (by decide) (fun c_433 => ?_) (fun c_433 => ?_)
            · refine lv_iconst (v := 0) hx hb dX0_isNight_108 (by decide) ?_
              exact rz_R hx hb hr hlk ((b2i_f (fun h => c_433 h.2)).symm) dX0_isNight_109
            · refine lv_iconst (v := 1) hx hb dX0_isNight_104 (by decide) ?_
              refine lv_goto (tgt := 109) hx hb dX0_isNight_105 (by decide) ?_
              exact rz_R hx hb hr hlk ((b2i_t ⟨by decide, c_433⟩).symm) dX0_isNight_109
          · by_cases k_5 : z = 5
            · subst k_5
              refine lv_iload_n hx hb dX0_isNight_0 rfl (lv_at hl 0 rfl) ?_
              refine lv_tableIn (off := 71) (tgt := 72) hx hb dX0_isNight_1 (by decide) (by decide) (by rfl) (by decide) ?_
              refine lv_iload_n hx hb dX0_isNight_72 rfl (lv_at hl 1 rfl) ?_
              refine lv_i2l hx hb dX0_isNight_73 rfl ?_
              refine lv_lconst (v := (0 : Int32).toInt64) hx hb dX0_isNight_74 (by decide) ?_
              refine lv_ldc2 (v := 100) hx hb hown (hts _ q551) dX0_isNight_75 (sm_topl (v := (100 : Int32).toInt64) (by decide) ?_)
              refine cs_R1 (rest := []) hc (D_in32 l v 0 100) (lw_S q294 q295 q67 q296) nd_X0_in ⟨Nat.le_of_ble_eq_true rfl, Nat.le_of_ble_eq_true rfl⟩ rfl hl.1 rfl (Nat.le_of_ble_eq_true rfl) dX0_isNight_78 ⟨Nat.le_of_ble_eq_true rfl, Nat.le_of_ble_eq_true rfl⟩ ?_
              exact rz_R hx hb hr hlk (b2i_congr ⟨fun h => ⟨by decide, h⟩, fun h => h.2⟩) dX0_isNight_81
            · refine lv_iload_n hx hb dX0_isNight_0 rfl (lv_at hl 0 rfl) ?_
              refine lv_tableOut (tgt := 82) hx hb dX0_isNight_1 (by have t_0 : z.toInt ≠ 0 := ne_toInt (k := 0) k_0; have t_1 : z.toInt ≠ 1 := ne_toInt (k := 1) k_1; have t_2 : z.toInt ≠ 2 := ne_toInt (k := 2) k_2; have t_3 : z.toInt ≠ 3 := ne_toInt (k := 3) k_3; have t_4 : z.toInt ≠ 4 := ne_toInt (k := 4) k_4; have t_5 : z.toInt ≠ 5 := ne_toInt (k := 5) k_5; omega) (by decide) ?_
              refine lv_iload_n hx hb dX0_isNight_82 rfl (lv_at hl 0 rfl) ?_
              refine lv_iconst (v := 1) hx hb dX0_isNight_83 (by decide) ?_
              refine lv_icmp_eq (tgt := 92) hx hb dX0_isNight_84 (by decide) (fun h => absurd h k_1) (fun _ => ?_)
              refine lv_iload_n hx hb dX0_isNight_87 rfl (lv_at hl 0 rfl) ?_
              refine lv_iconst (v := 4) hx hb dX0_isNight_88 (by decide) ?_
              refine lv_icmp_ne (tgt := 108) hx hb dX0_isNight_89 (by decide) (fun _ => ?_) (fun h => absurd h k_4)
              refine lv_iconst (v := 0) hx hb dX0_isNight_108 (by decide) ?_
              exact rz_R hx hb hr hlk (b2i_f (fun h => by obtain ⟨j, hj, rfl⟩ := ex_le 5 (hi := 5) rfl (by decide) h.1.1 h.1.2; rcases (show j = 0 ∨ j = 1 ∨ j = 2 ∨ j = 3 ∨ j = 4 ∨ j = 5 by omega) with rfl | rfl | rfl | rfl | rfl | rfl; exact k_0 rfl; exact k_1 rfl; exact k_2 rfl; exact k_3 rfl; exact k_4 rfl; exact k_5 rfl)).symm dX0_isNight_109
theorem nd_X0_room : yX0_room.cls = "SmokeLeans" ∧ yX0_room.cls ≠ "java/lang/invoke/MethodHandle" ∧ yX0_room.cls ≠ "java/lang/invoke/VarHandle" ∧ (parseMethodDescriptor yX0_room.desc).map (fun d => d.parameters.length) = some 0 := by decide +kernel
set_option maxHeartbeats 4000000 in
theorem O_room (l : Launch) {G : GD} {A : Nat → Prop} {f : Nat → Nat → Int32} {g : Nat → Nat → Int64} {xo hk ht : Nat} {H0 : Heap} (hF : FG G) (hC : DC G A f g xo hk ht H0) (hAb : ∀ q, H0.size ≤ q → A q)  : MetH l G yX0_room cX0_room 2 (some .int) [((0), (50), (51), (1))] 5 100 1000 A [.ref xo] H0 (some (.int (roomM f).1)) (fun H => DC G A (roomM f).2 g xo hk ht H) := by
  refine mw_of (hh := [((0), (50), (51), (1))]) (by decide) (Nat.le_of_ble_eq_true rfl) ?_
  intro p e s m below meth c hx hb hr hc hlk hnm htab hs0 ls hl
  subst hs0
  have hown := hc.2.2.2.1
  have hts := hc.2.2.2.2.1
  have hK := hc.2.2.2.2.2
  obtain ⟨b, ad, ah, ga, N, R, rfl, hO, hDW, ⟨u, hv, hcok, hW⟩, hdj⟩ := hC
  have hl : lv_has ls 2 [(0, .ref (ad 0))] := hl
  have hS : va_S A s.heap s.heap [] := va_S.rf
  have hN20 := hO.2.1
  have hHA : ∀ q, HR N ah ga q → A q := fun q h => HR.mem hW h
  by_cases h6 : f 0 0 = 6
  · have hR : R = 6 := (nI_6 hO.1).mp (hO.2.2.1.symm.trans h6)
    subst hR
    refine lv_aload_n hx hb dX0_room_0 rfl (lv_at hl 0 rfl) ?_
    refine d_get hc hDW 0 (by decide) q161 rfl rfl dX0_room_1 ?_
    refine h_get hc hW 0 (by decide) rfl q121 rfl rfl dX0_room_4 ?_
    refine sm_topi (v := nI 6) hO.2.2.1 ?_
    refine lv_bipush (v := 6) hx hb dX0_room_7 (by decide) ?_
    refine lv_icmp_ge (tgt := 16) hx hb dX0_room_9 (by decide) (fun _ => ?_) (fun h => absurd (by decide) h)
    refine lv_iconst (v := 0) hx hb dX0_room_16 (by decide) ?_
    refine lv_iconst (v := 1) hx hb dX0_room_17 (by decide) ?_
    refine cs_T (rest := []) hc (D_need_no l hF.1 hDW.2.1 hDW.gle (x := 0) rfl 1) q207 q208 q67 q209 nd_X0_need ⟨Nat.le_of_ble_eq_true rfl, Nat.le_of_ble_eq_true rfl⟩ rfl hl.1 rfl (Nat.le_of_ble_eq_true rfl) dX0_room_18 ⟨Nat.le_of_ble_eq_true rfl, Nat.le_of_ble_eq_true rfl⟩ hS (fun q h => hAb q (Nat.le_trans hS.1 h)) (fun ex H locs hq hS hz hk1 => ?_)
    obtain ⟨hexn, hex, hsz⟩ := hq
    have hne : ex ≠ ad 3 := by have := hDW.lt (r := 3) (fun z => by cases z); omega
    have hDW := hDW.aftM hk1
    have hW := hW.aftM hk1
    refine ct_find (pre := []) (post := []) (y := ⟨0, 50, 51, 1⟩) hc htab (by decide) (by decide) rfl hex ?_
    refine lv_astore_n (lv' := [(1, .ref ex), (0, .ref (ad 0))]) hx hb dX0_room_51 rfl hl (by decide) rfl (fun ls hl => ?_)
    refine lv_aload_n hx hb dX0_room_52 rfl (lv_at hl 1 rfl) ?_
    refine lv_aload_n hx hb dX0_room_53 rfl (lv_at hl 0 rfl) ?_
    refine cv_W1 (rest := []) hc (D_X0finds l hDW hex hne (k := 1) rfl (by decide)) (lw_V q277 q279 qs1 q67 q280) nd_X0_finds ⟨Nat.le_of_ble_eq_true rfl, Nat.le_of_ble_eq_true rfl⟩ (DW.recv hK hDW) rfl hl.1 rfl (Nat.le_of_ble_eq_true rfl) dX0_room_54 ⟨Nat.le_of_ble_eq_true rfl, Nat.le_of_ble_eq_true rfl⟩ hS (fun _ h => h) (fun H locs hq hS hz hk1 => ?_)
    obtain ⟨hDW, hf3⟩ := hq
    have hW := hW.aftD (hdj 3 (Or.inl (by decide))) (hDW.1 _ (hDW.mem (r := 3) rfl)) hf3
    have hsp_434 : roomM f = (-1000000002, cntP f 1) := by simp only [roomM, if_pos h6]
    refine w_more (cells' := 100) (slots' := 1000) (Nat.le_of_ble_eq_true rfl) (Nat.le_of_ble_eq_true rfl) ?_
    exact ri_W hx hb hr hlk hS (by rw [hsp_434]; show (-1000000001 - 1 : Int32) = -1000000002; decide) (by rw [hsp_434]; exact DC.mk' rfl hO hDW hcok hW hdj) dX0_room_57
  · have hR : R < 6 := by have h1 := hO.1; have h2 : R ≠ 6 := fun e => h6 (by rw [hO.2.2.1, e]; rfl); omega
    refine lv_aload_n hx hb dX0_room_0 rfl (lv_at hl 0 rfl) ?_
    refine d_get hc hDW 0 (by decide) q161 rfl rfl dX0_room_1 ?_
    refine h_get hc hW 0 (by decide) rfl q121 rfl rfl dX0_room_4 ?_
    refine sm_topi (v := nI R) hO.2.2.1 ?_
    refine lv_bipush (v := 6) hx hb dX0_room_7 (by decide) ?_
    refine lv_icmp_ge (tgt := 16) hx hb dX0_room_9 (by decide) (fun h => absurd h (nI_ge (b := 6) hR (by decide))) (fun _ => ?_)
    refine lv_iconst (v := 1) hx hb dX0_room_12 (by decide) ?_
    refine lv_goto (tgt := 17) hx hb dX0_room_13 (by decide) ?_
    refine lv_iconst (v := 1) hx hb dX0_room_17 (by decide) ?_
    refine cs_R0 (rest := []) hc (D_need_ok l (by decide) 1) (lw_S q207 q208 q67 q209) nd_X0_need ⟨Nat.le_of_ble_eq_true rfl, Nat.le_of_ble_eq_true rfl⟩ rfl hl.1 rfl (Nat.le_of_ble_eq_true rfl) dX0_room_18 ⟨Nat.le_of_ble_eq_true rfl, Nat.le_of_ble_eq_true rfl⟩ ?_
    refine lv_aload_n hx hb dX0_room_21 rfl (lv_at hl 0 rfl) ?_
    refine d_get hc hDW 0 (by decide) q161 rfl rfl dX0_room_22 ?_
    refine lv_dup hx hb dX0_room_25 rfl ?_
    refine h_get hc hW 0 (by decide) rfl q121 rfl rfl dX0_room_26 ?_
    refine sm_topi (v := nI R) hO.2.2.1 ?_
    refine lv_iconst (v := 1) hx hb dX0_room_29 (by decide) ?_
    refine lv_iadd hx hb dX0_room_30 (sm_topi (v := nI (R + 1)) (nI_add _ _) ?_)
    refine h_put (r' := upd (f 0) 0 (nI (R + 1))) (u' := u) hc hW hS 0 (by decide) rfl q121 rfl rfl rfl rfl rfl rfl (fun j hj => if_neg (by omega)) rfl rfl dX0_room_31 (fun H locs hW hS hz oq => ?_)
    have hO1 : OkN (upd (f 0) 0 (nI (R + 1))) (R + 1) N := by have := hO.rm hR; rw [hO.2.2.1, nI_1] at this; exact this
    have hDW := hDW.aftH hdj hHA HR.o oq
    refine lv_aload_n hx hb dX0_room_34 rfl (lv_at hl 0 rfl) ?_
    refine d_get hc hDW 0 (by decide) q161 rfl rfl dX0_room_35 ?_
    refine cv_W0 (rest := []) hc (D_changes l hF hW.toR hO1) (lw_V q273 q274 q275 q68 q276) nd_X1_changes ⟨Nat.le_of_ble_eq_true rfl, Nat.le_of_ble_eq_true rfl⟩ (HW.recv hK hW) rfl hl.1 rfl (Nat.le_of_ble_eq_true rfl) dX0_room_38 ⟨Nat.le_of_ble_eq_true rfl, Nat.le_of_ble_eq_true rfl⟩ hS hHA (fun H locs hq hS hz hk1 => ?_)
    have hDW := hDW.aftC hdj hHA hk1
    obtain ⟨u, hv, hcok, hW⟩ := HS.ofR (HS.ch hq) hW.1 hHA
    refine lv_aload_n hx hb dX0_room_41 rfl (lv_at hl 0 rfl) ?_
    refine d_get hc hDW 0 (by decide) q161 rfl rfl dX0_room_42 ?_
    refine h_get hc hW 0 (by decide) rfl q121 rfl rfl dX0_room_45 ?_
    refine sm_topi (v := nI (R + 1)) hO1.2.2.1 ?_
    refine lv_iconst (v := 1) hx hb dX0_room_48 (by decide) ?_
    refine lv_isub hx hb dX0_room_49 ?_
    have hsp : roomM f = (f 0 0, up2 f 0 0 (f 0 0 + 1)) := by simp only [roomM, if_neg h6]
    refine w_more (cells' := 100) (slots' := 1000) (Nat.le_of_ble_eq_true rfl) (Nat.le_of_ble_eq_true rfl) ?_
    exact ri_W hx hb hr hlk hS (by rw [hsp]; show nI (R + 1) - 1 = f 0 0; rw [hO.2.2.1, ← nI_1]; simp) (by rw [hsp]; exact DC.mk' (by show up2 f 0 0 (f 0 0 + 1) 0 = _; rw [up2_row, hO.2.2.1, nI_1]) hO1 (hDW.fr rfl rfl rfl rfl rfl rfl) hcok hW hdj) dX0_room_50
theorem nd_X0_shut : yX0_shut.cls = "SmokeLeans" ∧ yX0_shut.cls ≠ "java/lang/invoke/MethodHandle" ∧ yX0_shut.cls ≠ "java/lang/invoke/VarHandle" ∧ (parseMethodDescriptor yX0_shut.desc).map (fun d => d.parameters.length) = some 2 := by decide +kernel
set_option maxHeartbeats 4000000 in
theorem O_shut (l : Launch) {G : GD} {A : Nat → Prop} {f : Nat → Nat → Int32} {g : Nat → Nat → Int64} {xo hk ht : Nat} {H0 : Heap} (hF : FG G) (hC : DC G A f g xo hk ht H0) (hAb : ∀ q, H0.size ≤ q → A q) (x z : Int32) (hz01 : z = 0 ∨ z = 1) : MetH l G yX0_shut cX0_shut 4 (some .int) [((0), (27), (28), (1))] 5 100 1000 A [.ref xo, .int x, .int z] H0 (some (.int (shutM f x z).1)) (fun H => DC G A (shutM f x z).2 g xo hk ht H) := by
  refine mw_of (hh := [((0), (27), (28), (1))]) (by decide) (Nat.le_of_ble_eq_true rfl) ?_
  intro p e s m below meth c hx hb hr hc hlk hnm htab hs0 ls hl
  subst hs0
  have hown := hc.2.2.2.1
  have hts := hc.2.2.2.2.1
  have hK := hc.2.2.2.2.2
  obtain ⟨b, ad, ah, ga, N, R, rfl, hO, hDW, ⟨u, hv, hcok, hW⟩, hdj⟩ := hC
  have hl : lv_has ls 4 [(0, .ref (ad 0)), (1, .int x), (2, .int z)] := hl
  have hS : va_S A s.heap s.heap [] := va_S.rf
  have hN20 := hO.2.1
  have hHA : ∀ q, HR N ah ga q → A q := fun q h => HR.mem hW h
  refine lv_aload_n hx hb dX0_shut_0 rfl (lv_at hl 0 rfl) ?_
  refine lv_iload_n hx hb dX0_shut_1 rfl (lv_at hl 1 rfl) ?_
  refine cv_R1 (rest := []) hc (D_isGap l hDW hW x) (lw_V q423 q425 qs3 q67 q426) nd_X0_isGap ⟨Nat.le_of_ble_eq_true rfl, Nat.le_of_ble_eq_true rfl⟩ (DW.recv hK hDW) rfl hl.1 rfl (Nat.le_of_ble_eq_true rfl) dX0_shut_2 ⟨Nat.le_of_ble_eq_true rfl, Nat.le_of_ble_eq_true rfl⟩ ?_
  refine lv_iconst (v := 0) hx hb dX0_shut_5 (by decide) ?_
  by_cases c_435 : 0 ≤ x ∧ x ≤ (f 0) 1 - 1
  · refine cs_R0 (rest := []) hc (D_need_ok l (x := b2i (0 ≤ x ∧ x ≤ (f 0) 1 - 1)) (by rw [b2i_t c_435]; decide) 0) (lw_S q207 q208 q67 q209) nd_X0_need ⟨Nat.le_of_ble_eq_true rfl, Nat.le_of_ble_eq_true rfl⟩ rfl hl.1 rfl (Nat.le_of_ble_eq_true rfl) dX0_shut_6 ⟨Nat.le_of_ble_eq_true rfl, Nat.le_of_ble_eq_true rfl⟩ ?_
    obtain ⟨i, hi, rfl⟩ := hO.exGap c_435
    have hcl_i : (nI i).toNatClampNeg = i := nI_clamp (by omega)
    refine lv_aload_n hx hb dX0_shut_9 rfl (lv_at hl 0 rfl) ?_
    refine d_get hc hDW 0 (by decide) q161 rfl rfl dX0_shut_10 ?_
    refine lv_iload_n hx hb dX0_shut_13 rfl (lv_at hl 1 rfl) ?_
    refine lv_iload_n hx hb dX0_shut_14 rfl (lv_at hl 2 rfl) ?_
    refine cv_W1 (rest := []) hc (D_shuts l hF (HS.toR ⟨u, hv, hcok, hW⟩) hO i hi hz01) (lw_V q518 q519 q520 q68 q521) nd_X1_shuts ⟨Nat.le_of_ble_eq_true rfl, Nat.le_of_ble_eq_true rfl⟩ (HW.recv hK hW) rfl hl.1 rfl (Nat.le_of_ble_eq_true rfl) dX0_shut_15 ⟨Nat.le_of_ble_eq_true rfl, Nat.le_of_ble_eq_true rfl⟩ hS hHA (fun H locs hq hS hz hk1 => ?_)
    have hDW := hDW.aftC hdj hHA hk1
    obtain ⟨u, hv, hcok, hW⟩ := HS.ofR hq hW.1 hHA
    have hO_436 := OkN_shut (i := i) hO hz01
    have h7 := (hO.gap hi).2.2.2.2.2.2.2.2
    have h7x := h7
    by_cases h7 : f 0 (gp i 7) = 1
    · refine sm_topi (v := 1) (b2i_t h7) ?_
      rcases hz01 with rfl | rfl
      · have hx0 : ¬ f 0 (gp i 7) = 0 := fun h => absurd (h7.symm.trans h) (by decide)
        refine lv_iload_n hx hb dX0_shut_18 rfl (lv_at hl 2 rfl) ?_
        refine lv_icmp_ne (tgt := 26) hx hb dX0_shut_19 (by decide) (fun _ => ?_) (fun h => absurd h (by decide))
        refine lv_iconst (v := 1) hx hb dX0_shut_26 (by decide) ?_
        have hsp_437 : shutM f (nI i) 0 = (1, up2 f 0 (gp i 7) 0) := by simp only [shutM, hcl_i, if_pos c_435, if_true, if_neg hx0]
        refine w_more (cells' := 100) (slots' := 1000) (Nat.le_of_ble_eq_true rfl) (Nat.le_of_ble_eq_true rfl) ?_
        exact ri_W hx hb hr hlk hS (by rw [hsp_437]) (by rw [hsp_437]; exact DC.mk' up2_row hO_436 (hDW.fr rfl rfl rfl rfl rfl rfl) hcok hW hdj) dX0_shut_27
      · have hx0 : f 0 (gp i 7) = 1 := h7
        refine lv_iload_n hx hb dX0_shut_18 rfl (lv_at hl 2 rfl) ?_
        refine lv_icmp_ne (tgt := 26) hx hb dX0_shut_19 (by decide) (fun h => absurd (by decide) h) (fun _ => ?_)
        refine lv_iconst (v := 0) hx hb dX0_shut_22 (by decide) ?_
        refine lv_goto (tgt := 27) hx hb dX0_shut_23 (by decide) ?_
        have hsp_438 : shutM f (nI i) 1 = (0, up2 f 0 (gp i 7) 1) := by simp only [shutM, hcl_i, if_pos c_435]; rw [if_neg (show ¬ (1 : Int32) = 0 by decide), if_pos hx0]
        refine w_more (cells' := 100) (slots' := 1000) (Nat.le_of_ble_eq_true rfl) (Nat.le_of_ble_eq_true rfl) ?_
        exact ri_W hx hb hr hlk hS (by rw [hsp_438]) (by rw [hsp_438]; exact DC.mk' up2_row hO_436 (hDW.fr rfl rfl rfl rfl rfl rfl) hcok hW hdj) dX0_shut_27
    · refine sm_topi (v := 0) (b2i_f h7) ?_
      rcases hz01 with rfl | rfl
      · have hx0 : f 0 (gp i 7) = 0 := (h7x.resolve_right h7)
        refine lv_iload_n hx hb dX0_shut_18 rfl (lv_at hl 2 rfl) ?_
        refine lv_icmp_ne (tgt := 26) hx hb dX0_shut_19 (by decide) (fun h => absurd (by decide) h) (fun _ => ?_)
        refine lv_iconst (v := 0) hx hb dX0_shut_22 (by decide) ?_
        refine lv_goto (tgt := 27) hx hb dX0_shut_23 (by decide) ?_
        have hsp_439 : shutM f (nI i) 0 = (0, up2 f 0 (gp i 7) 0) := by simp only [shutM, hcl_i, if_pos c_435, if_true, if_pos hx0]
        refine w_more (cells' := 100) (slots' := 1000) (Nat.le_of_ble_eq_true rfl) (Nat.le_of_ble_eq_true rfl) ?_
        exact ri_W hx hb hr hlk hS (by rw [hsp_439]) (by rw [hsp_439]; exact DC.mk' up2_row hO_436 (hDW.fr rfl rfl rfl rfl rfl rfl) hcok hW hdj) dX0_shut_27
      · have hx0 : ¬ f 0 (gp i 7) = 1 := h7
        refine lv_iload_n hx hb dX0_shut_18 rfl (lv_at hl 2 rfl) ?_
        refine lv_icmp_ne (tgt := 26) hx hb dX0_shut_19 (by decide) (fun _ => ?_) (fun h => absurd h (by decide))
        refine lv_iconst (v := 1) hx hb dX0_shut_26 (by decide) ?_
        have hsp_440 : shutM f (nI i) 1 = (1, up2 f 0 (gp i 7) 1) := by simp only [shutM, hcl_i, if_pos c_435]; rw [if_neg (show ¬ (1 : Int32) = 0 by decide), if_neg hx0]
        refine w_more (cells' := 100) (slots' := 1000) (Nat.le_of_ble_eq_true rfl) (Nat.le_of_ble_eq_true rfl) ?_
        exact ri_W hx hb hr hlk hS (by rw [hsp_440]) (by rw [hsp_440]; exact DC.mk' up2_row hO_436 (hDW.fr rfl rfl rfl rfl rfl rfl) hcok hW hdj) dX0_shut_27
  · refine cs_T (rest := []) hc (D_need_no l hF.1 hDW.2.1 hDW.gle (x := b2i (0 ≤ x ∧ x ≤ (f 0) 1 - 1)) (b2i_f c_435) 0) q207 q208 q67 q209 nd_X0_need ⟨Nat.le_of_ble_eq_true rfl, Nat.le_of_ble_eq_true rfl⟩ rfl hl.1 rfl (Nat.le_of_ble_eq_true rfl) dX0_shut_6 ⟨Nat.le_of_ble_eq_true rfl, Nat.le_of_ble_eq_true rfl⟩ hS (fun q h => hAb q (Nat.le_trans hS.1 h)) (fun ex H locs hq hS hz hk1 => ?_)
    obtain ⟨hexn, hex, hsz⟩ := hq
    have hne : ex ≠ ad 3 := by have := hDW.lt (r := 3) (fun z => by cases z); omega
    have hDW := hDW.aftM hk1
    have hW := hW.aftM hk1
    refine ct_find (pre := []) (post := []) (y := ⟨0, 27, 28, 1⟩) hc htab (by decide) (by decide) rfl hex ?_
    refine lv_astore_n (lv' := [(3, .ref ex), (0, .ref (ad 0)), (1, .int x), (2, .int z)]) hx hb dX0_shut_28 rfl hl (by decide) rfl (fun ls hl => ?_)
    refine lv_aload_n hx hb dX0_shut_29 rfl (lv_at hl 1 rfl) ?_
    refine lv_aload_n hx hb dX0_shut_30 rfl (lv_at hl 0 rfl) ?_
    refine cv_W1 (rest := []) hc (D_X0finds l hDW hex hne (k := 0) rfl (by decide)) (lw_V q277 q279 qs1 q67 q280) nd_X0_finds ⟨Nat.le_of_ble_eq_true rfl, Nat.le_of_ble_eq_true rfl⟩ (DW.recv hK hDW) rfl hl.1 rfl (Nat.le_of_ble_eq_true rfl) dX0_shut_31 ⟨Nat.le_of_ble_eq_true rfl, Nat.le_of_ble_eq_true rfl⟩ hS (fun _ h => h) (fun H locs hq hS hz hk1 => ?_)
    obtain ⟨hDW, hf3⟩ := hq
    have hW := hW.aftD (hdj 3 (Or.inl (by decide))) (hDW.1 _ (hDW.mem (r := 3) rfl)) hf3
    have hsp_441 : shutM f x z = (-1000000001, cntP f 0) := by simp only [shutM, if_neg c_435]
    refine w_more (cells' := 100) (slots' := 1000) (Nat.le_of_ble_eq_true rfl) (Nat.le_of_ble_eq_true rfl) ?_
    exact ri_W hx hb hr hlk hS (by rw [hsp_441]; show (-1000000001 - 0 : Int32) = -1000000001; decide) (by rw [hsp_441]; exact DC.mk' rfl hO hDW hcok hW hdj) dX0_shut_34
theorem nd_X0_as : yX0_as.cls = "SmokeLeans" ∧ yX0_as.cls ≠ "java/lang/invoke/MethodHandle" ∧ yX0_as.cls ≠ "java/lang/invoke/VarHandle" ∧ (parseMethodDescriptor yX0_as.desc).map (fun d => d.parameters.length) = some 2 := by decide +kernel
set_option maxHeartbeats 4000000 in
theorem O_as (l : Launch) {G : GD} {A : Nat → Prop} {f : Nat → Nat → Int32} {g : Nat → Nat → Int64} {xo hk ht : Nat} {H0 : Heap} (hF : FG G) (hC : DC G A f g xo hk ht H0) (hAb : ∀ q, H0.size ≤ q → A q) (x k : Int32) : MetH l G yX0_as cX0_as 4 (some .int) [((0), (53), (54), (1))] 6 100 1000 A [.ref xo, .int x, .int k] H0 (some (.int (asM f x k).1)) (fun H => DC G A (asM f x k).2 g xo hk ht H) := by
  refine mw_of (hh := [((0), (53), (54), (1))]) (by decide) (Nat.le_of_ble_eq_true rfl) ?_
  intro p e s m below meth c hx hb hr hc hlk hnm htab hs0 ls hl
  subst hs0
  have hown := hc.2.2.2.1
  have hts := hc.2.2.2.2.1
  have hK := hc.2.2.2.2.2
  obtain ⟨b, ad, ah, ga, N, R, rfl, hO, hDW, ⟨u, hv, hcok, hW⟩, hdj⟩ := hC
  have hl : lv_has ls 4 [(0, .ref (ad 0)), (1, .int x), (2, .int k)] := hl
  have hS : va_S A s.heap s.heap [] := va_S.rf
  have hN20 := hO.2.1
  have hHA : ∀ q, HR N ah ga q → A q := fun q h => HR.mem hW h
  refine lv_aload_n hx hb dX0_as_0 rfl (lv_at hl 0 rfl) ?_
  refine lv_iload_n hx hb dX0_as_1 rfl (lv_at hl 1 rfl) ?_
  refine cv_R1 (rest := []) hc (D_isGap l hDW hW x) (lw_V q423 q425 qs3 q67 q426) nd_X0_isGap ⟨Nat.le_of_ble_eq_true rfl, Nat.le_of_ble_eq_true rfl⟩ (DW.recv hK hDW) rfl hl.1 rfl (Nat.le_of_ble_eq_true rfl) dX0_as_2 ⟨Nat.le_of_ble_eq_true rfl, Nat.le_of_ble_eq_true rfl⟩ ?_
  refine bi_eq (tgt := 24) hx hb dX0_as_5 (by decide) (fun c_442 => ?_) (fun c_442 => ?_)
  · refine lv_iconst (v := 0) hx hb dX0_as_24 (by decide) ?_
    refine lv_iconst (v := 0) hx hb dX0_as_25 (by decide) ?_
    refine cs_T (rest := []) hc (D_need_no l hF.1 hDW.2.1 hDW.gle (x := 0) rfl 0) q207 q208 q67 q209 nd_X0_need ⟨Nat.le_of_ble_eq_true rfl, Nat.le_of_ble_eq_true rfl⟩ rfl hl.1 rfl (Nat.le_of_ble_eq_true rfl) dX0_as_26 ⟨Nat.le_of_ble_eq_true rfl, Nat.le_of_ble_eq_true rfl⟩ hS (fun q h => hAb q (Nat.le_trans hS.1 h)) (fun ex H locs hq hS hz hk1 => ?_)
    obtain ⟨hexn, hex, hsz⟩ := hq
    have hne : ex ≠ ad 3 := by have := hDW.lt (r := 3) (fun z => by cases z); omega
    have hDW := hDW.aftM hk1
    have hW := hW.aftM hk1
    refine ct_find (pre := []) (post := []) (y := ⟨0, 53, 54, 1⟩) hc htab (by decide) (by decide) rfl hex ?_
    refine lv_astore_n (lv' := [(3, .ref ex), (0, .ref (ad 0)), (1, .int x), (2, .int k)]) hx hb dX0_as_54 rfl hl (by decide) rfl (fun ls hl => ?_)
    refine lv_aload_n hx hb dX0_as_55 rfl (lv_at hl 1 rfl) ?_
    refine lv_aload_n hx hb dX0_as_56 rfl (lv_at hl 0 rfl) ?_
    refine cv_W1 (rest := []) hc (D_X0finds l hDW hex hne (k := 0) rfl (by decide)) (lw_V q277 q279 qs1 q67 q280) nd_X0_finds ⟨Nat.le_of_ble_eq_true rfl, Nat.le_of_ble_eq_true rfl⟩ (DW.recv hK hDW) rfl hl.1 rfl (Nat.le_of_ble_eq_true rfl) dX0_as_57 ⟨Nat.le_of_ble_eq_true rfl, Nat.le_of_ble_eq_true rfl⟩ hS (fun _ h => h) (fun H locs hq hS hz hk1 => ?_)
    obtain ⟨hDW, hf3⟩ := hq
    have hW := hW.aftD (hdj 3 (Or.inl (by decide))) (hDW.1 _ (hDW.mem (r := 3) rfl)) hf3
    have hsp_443 : asM f x k = (-1000000001, cntP f 0) := by simp only [asM, if_neg c_442]
    refine w_more (cells' := 100) (slots' := 1000) (Nat.le_of_ble_eq_true rfl) (Nat.le_of_ble_eq_true rfl) ?_
    exact ri_W hx hb hr hlk hS (by rw [hsp_443]; show (-1000000001 - 0 : Int32) = -1000000001; decide) (by rw [hsp_443]; exact DC.mk' rfl hO hDW hcok hW hdj) dX0_as_60
  · refine lv_iload_n hx hb dX0_as_8 rfl (lv_at hl 2 rfl) ?_
    refine lv_i2l hx hb dX0_as_9 rfl ?_
    refine lv_lconst (v := (0 : Int32).toInt64) hx hb dX0_as_10 (by decide) ?_
    refine lv_ldc2 (v := 5) hx hb hown (hts _ q297) dX0_as_11 (sm_topl (v := (5 : Int32).toInt64) (by decide) ?_)
    refine cs_R1 (rest := []) hc (D_in32 l k 0 5) (lw_S q294 q295 q67 q296) nd_X0_in ⟨Nat.le_of_ble_eq_true rfl, Nat.le_of_ble_eq_true rfl⟩ rfl hl.1 rfl (Nat.le_of_ble_eq_true rfl) dX0_as_14 ⟨Nat.le_of_ble_eq_true rfl, Nat.le_of_ble_eq_true rfl⟩ ?_
    refine bi_eq (tgt := 24) hx hb dX0_as_17 (by decide) (fun c_444 => ?_) (fun c_444 => ?_)
    · refine lv_iconst (v := 0) hx hb dX0_as_24 (by decide) ?_
      refine lv_iconst (v := 0) hx hb dX0_as_25 (by decide) ?_
      refine cs_T (rest := []) hc (D_need_no l hF.1 hDW.2.1 hDW.gle (x := 0) rfl 0) q207 q208 q67 q209 nd_X0_need ⟨Nat.le_of_ble_eq_true rfl, Nat.le_of_ble_eq_true rfl⟩ rfl hl.1 rfl (Nat.le_of_ble_eq_true rfl) dX0_as_26 ⟨Nat.le_of_ble_eq_true rfl, Nat.le_of_ble_eq_true rfl⟩ hS (fun q h => hAb q (Nat.le_trans hS.1 h)) (fun ex H locs hq hS hz hk1 => ?_)
      obtain ⟨hexn, hex, hsz⟩ := hq
      have hne : ex ≠ ad 3 := by have := hDW.lt (r := 3) (fun z => by cases z); omega
      have hDW := hDW.aftM hk1
      have hW := hW.aftM hk1
      refine ct_find (pre := []) (post := []) (y := ⟨0, 53, 54, 1⟩) hc htab (by decide) (by decide) rfl hex ?_
      refine lv_astore_n (lv' := [(3, .ref ex), (0, .ref (ad 0)), (1, .int x), (2, .int k)]) hx hb dX0_as_54 rfl hl (by decide) rfl (fun ls hl => ?_)
      refine lv_aload_n hx hb dX0_as_55 rfl (lv_at hl 1 rfl) ?_
      refine lv_aload_n hx hb dX0_as_56 rfl (lv_at hl 0 rfl) ?_
      refine cv_W1 (rest := []) hc (D_X0finds l hDW hex hne (k := 0) rfl (by decide)) (lw_V q277 q279 qs1 q67 q280) nd_X0_finds ⟨Nat.le_of_ble_eq_true rfl, Nat.le_of_ble_eq_true rfl⟩ (DW.recv hK hDW) rfl hl.1 rfl (Nat.le_of_ble_eq_true rfl) dX0_as_57 ⟨Nat.le_of_ble_eq_true rfl, Nat.le_of_ble_eq_true rfl⟩ hS (fun _ h => h) (fun H locs hq hS hz hk1 => ?_)
      obtain ⟨hDW, hf3⟩ := hq
      have hW := hW.aftD (hdj 3 (Or.inl (by decide))) (hDW.1 _ (hDW.mem (r := 3) rfl)) hf3
      have hsp_445 : asM f x k = (-1000000001, cntP f 0) := by simp only [asM, if_pos c_442, if_neg c_444]
      refine w_more (cells' := 100) (slots' := 1000) (Nat.le_of_ble_eq_true rfl) (Nat.le_of_ble_eq_true rfl) ?_
      exact ri_W hx hb hr hlk hS (by rw [hsp_445]; show (-1000000001 - 0 : Int32) = -1000000001; decide) (by rw [hsp_445]; exact DC.mk' rfl hO hDW hcok hW hdj) dX0_as_60
    · refine lv_iconst (v := 1) hx hb dX0_as_20 (by decide) ?_
      refine lv_goto (tgt := 25) hx hb dX0_as_21 (by decide) ?_
      refine lv_iconst (v := 0) hx hb dX0_as_25 (by decide) ?_
      refine cs_R0 (rest := []) hc (D_need_ok l (by decide) 0) (lw_S q207 q208 q67 q209) nd_X0_need ⟨Nat.le_of_ble_eq_true rfl, Nat.le_of_ble_eq_true rfl⟩ rfl hl.1 rfl (Nat.le_of_ble_eq_true rfl) dX0_as_26 ⟨Nat.le_of_ble_eq_true rfl, Nat.le_of_ble_eq_true rfl⟩ ?_
      obtain ⟨i, hi, rfl⟩ := hO.exGap c_442
      have hcl_i : (nI i).toNatClampNeg = i := nI_clamp (by omega)
      refine lv_aload_n hx hb dX0_as_29 rfl (lv_at hl 0 rfl) ?_
      refine d_get hc hDW 0 (by decide) q161 rfl rfl dX0_as_30 ?_
      refine lv_iload_n hx hb dX0_as_33 rfl (lv_at hl 1 rfl) ?_
      refine cv_R1 (rest := []) hc (D_hgap l hF hW hO i hi) (lw_V q428 q429 q430 q68 q431) nd_X1_gap ⟨Nat.le_of_ble_eq_true rfl, Nat.le_of_ble_eq_true rfl⟩ (HW.recv hK hW) rfl hl.1 rfl (Nat.le_of_ble_eq_true rfl) dX0_as_34 ⟨Nat.le_of_ble_eq_true rfl, Nat.le_of_ble_eq_true rfl⟩ ?_
      refine lv_iload_n hx hb dX0_as_37 rfl (lv_at hl 2 rfl) ?_
      refine gv_is (rest := []) hc q527 (hO.gap hi).kd.1 (hW.gp hi) ⟨Nat.le_of_ble_eq_true rfl, Nat.le_of_ble_eq_true rfl⟩ hl.1 (Nat.le_of_ble_eq_true rfl) dX0_as_38 ⟨Nat.le_of_ble_eq_true rfl, Nat.le_of_ble_eq_true rfl⟩ (sm_topi (v := b2i ((k = 0 ∨ (f 0) (gp i 0) = k ∨ (k = 2 ∧ needP (f 0) i)))) (b2i_congr (isB_eq (hO.gap hi) k)) ?_)
      refine lv_iconst (v := 2) hx hb dX0_as_41 (by decide) ?_
      by_cases c_446 : (k = 0 ∨ (f 0) (gp i 0) = k ∨ (k = 2 ∧ needP (f 0) i))
      · refine cs_R0 (rest := []) hc (D_need_ok l (x := b2i ((k = 0 ∨ (f 0) (gp i 0) = k ∨ (k = 2 ∧ needP (f 0) i)))) (by rw [b2i_t c_446]; decide) 2) (lw_S q207 q208 q67 q209) nd_X0_need ⟨Nat.le_of_ble_eq_true rfl, Nat.le_of_ble_eq_true rfl⟩ rfl hl.1 rfl (Nat.le_of_ble_eq_true rfl) dX0_as_42 ⟨Nat.le_of_ble_eq_true rfl, Nat.le_of_ble_eq_true rfl⟩ ?_
        refine lv_aload_n hx hb dX0_as_45 rfl (lv_at hl 0 rfl) ?_
        refine d_get hc hDW 0 (by decide) q161 rfl rfl dX0_as_46 ?_
        refine lv_iload_n hx hb dX0_as_49 rfl (lv_at hl 1 rfl) ?_
        refine cv_R1 (rest := []) hc (D_hbreadth l hF hW hO i hi) (lw_V q462 q463 q464 q68 q465) nd_X1_breadth ⟨Nat.le_of_ble_eq_true rfl, Nat.le_of_ble_eq_true rfl⟩ (HW.recv hK hW) rfl hl.1 rfl (Nat.le_of_ble_eq_true rfl) dX0_as_50 ⟨Nat.le_of_ble_eq_true rfl, Nat.le_of_ble_eq_true rfl⟩ ?_
        have hsp_447 : asM f (nI i) k = (breadthP (f 0) i, f) := by exact as_t c_442 c_444 hcl_i c_446
        refine w_more (cells' := 100) (slots' := 1000) (Nat.le_of_ble_eq_true rfl) (Nat.le_of_ble_eq_true rfl) ?_
        exact ri_W hx hb hr hlk hS (by rw [hsp_447]) (by rw [hsp_447]; exact DC.mk' rfl hO hDW hcok hW hdj) dX0_as_53
      · refine cs_T (rest := []) hc (D_need_no l hF.1 hDW.2.1 hDW.gle (x := b2i ((k = 0 ∨ (f 0) (gp i 0) = k ∨ (k = 2 ∧ needP (f 0) i)))) (b2i_f c_446) 2) q207 q208 q67 q209 nd_X0_need ⟨Nat.le_of_ble_eq_true rfl, Nat.le_of_ble_eq_true rfl⟩ rfl hl.1 rfl (Nat.le_of_ble_eq_true rfl) dX0_as_42 ⟨Nat.le_of_ble_eq_true rfl, Nat.le_of_ble_eq_true rfl⟩ hS (fun q h => hAb q (Nat.le_trans hS.1 h)) (fun ex H locs hq hS hz hk1 => ?_)
        obtain ⟨hexn, hex, hsz⟩ := hq
        have hne : ex ≠ ad 3 := by have := hDW.lt (r := 3) (fun z => by cases z); omega
        have hDW := hDW.aftM hk1
        have hW := hW.aftM hk1
        refine ct_find (pre := []) (post := []) (y := ⟨0, 53, 54, 1⟩) hc htab (by decide) (by decide) rfl hex ?_
        refine lv_astore_n (lv' := [(3, .ref ex), (0, .ref (ad 0)), (1, .int (nI i)), (2, .int k)]) hx hb dX0_as_54 rfl hl (by decide) rfl (fun ls hl => ?_)
        refine lv_aload_n hx hb dX0_as_55 rfl (lv_at hl 1 rfl) ?_
        refine lv_aload_n hx hb dX0_as_56 rfl (lv_at hl 0 rfl) ?_
        refine cv_W1 (rest := []) hc (D_X0finds l hDW hex hne (k := 2) rfl (by decide)) (lw_V q277 q279 qs1 q67 q280) nd_X0_finds ⟨Nat.le_of_ble_eq_true rfl, Nat.le_of_ble_eq_true rfl⟩ (DW.recv hK hDW) rfl hl.1 rfl (Nat.le_of_ble_eq_true rfl) dX0_as_57 ⟨Nat.le_of_ble_eq_true rfl, Nat.le_of_ble_eq_true rfl⟩ hS (fun _ h => h) (fun H locs hq hS hz hk1 => ?_)
        obtain ⟨hDW, hf3⟩ := hq
        have hW := hW.aftD (hdj 3 (Or.inl (by decide))) (hDW.1 _ (hDW.mem (r := 3) rfl)) hf3
        have hsp_448 : asM f (nI i) k = (-1000000003, cntP f 2) := by exact as_f c_442 c_444 hcl_i c_446
        refine w_more (cells' := 100) (slots' := 1000) (Nat.le_of_ble_eq_true rfl) (Nat.le_of_ble_eq_true rfl) ?_
        exact ri_W hx hb hr hlk hS (by rw [hsp_448]; show (-1000000001 - 2 : Int32) = -1000000003; decide) (by rw [hsp_448]; exact DC.mk' rfl hO hDW hcok hW hdj) dX0_as_60
theorem nd_X0_night : yX0_night.cls = "SmokeLeans" ∧ yX0_night.cls ≠ "java/lang/invoke/MethodHandle" ∧ yX0_night.cls ≠ "java/lang/invoke/VarHandle" ∧ (parseMethodDescriptor yX0_night.desc).map (fun d => d.parameters.length) = some 2 := by decide +kernel
set_option maxHeartbeats 4000000 in
theorem O_night (l : Launch) {G : GD} {A : Nat → Prop} {f : Nat → Nat → Int32} {g : Nat → Nat → Int64} {xo hk ht : Nat} {H0 : Heap} (hF : FG G) (hC : DC G A f g xo hk ht H0) (hAb : ∀ q, H0.size ≤ q → A q) (z v : Int32) : MetH l G yX0_night cX0_night 4 (some .int) [((0), (37), (38), (1))] 5 100 1000 A [.ref xo, .int z, .int v] H0 (some (.int (nightM f z v).1)) (fun H => DC G A (nightM f z v).2 g xo hk ht H) := by
  refine mw_of (hh := [((0), (37), (38), (1))]) (by decide) (Nat.le_of_ble_eq_true rfl) ?_
  intro p e s m below meth c hx hb hr hc hlk hnm htab hs0 ls hl
  subst hs0
  have hown := hc.2.2.2.1
  have hts := hc.2.2.2.2.1
  have hK := hc.2.2.2.2.2
  obtain ⟨b, ad, ah, ga, N, R, rfl, hO, hDW, ⟨u, hv, hcok, hW⟩, hdj⟩ := hC
  have hl : lv_has ls 4 [(0, .ref (ad 0)), (1, .int z), (2, .int v)] := hl
  have hS : va_S A s.heap s.heap [] := va_S.rf
  have hN20 := hO.2.1
  have hHA : ∀ q, HR N ah ga q → A q := fun q h => HR.mem hW h
  refine lv_iload_n hx hb dX0_night_0 rfl (lv_at hl 1 rfl) ?_
  refine lv_iload_n hx hb dX0_night_1 rfl (lv_at hl 2 rfl) ?_
  refine cs_R1 (rest := []) hc (D_isNight l z v) (lw_S q545 q546 q67 q547) nd_X0_isNight ⟨Nat.le_of_ble_eq_true rfl, Nat.le_of_ble_eq_true rfl⟩ rfl hl.1 rfl (Nat.le_of_ble_eq_true rfl) dX0_night_2 ⟨Nat.le_of_ble_eq_true rfl, Nat.le_of_ble_eq_true rfl⟩ ?_
  refine lv_iconst (v := 0) hx hb dX0_night_5 (by decide) ?_
  by_cases c_449 : (0 ≤ z ∧ z ≤ 5) ∧ (leastP z ≤ v ∧ v ≤ mostP z)
  · refine cs_R0 (rest := []) hc (D_need_ok l (x := b2i ((0 ≤ z ∧ z ≤ 5) ∧ (leastP z ≤ v ∧ v ≤ mostP z))) (by rw [b2i_t c_449]; decide) 0) (lw_S q207 q208 q67 q209) nd_X0_need ⟨Nat.le_of_ble_eq_true rfl, Nat.le_of_ble_eq_true rfl⟩ rfl hl.1 rfl (Nat.le_of_ble_eq_true rfl) dX0_night_6 ⟨Nat.le_of_ble_eq_true rfl, Nat.le_of_ble_eq_true rfl⟩ ?_
    obtain ⟨j, hj, rfl⟩ := ex_le 5 (hi := 5) rfl (by decide) c_449.1.1 c_449.1.2
    have hcl_j : (nI j).toNatClampNeg = j := nI_clamp (by omega)
    refine lv_aload_n hx hb dX0_night_9 rfl (lv_at hl 0 rfl) ?_
    refine d_get hc hDW 0 (by decide) q161 rfl rfl dX0_night_10 ?_
    refine h_get hc hW 3 (by decide) rfl q130 rfl rfl dX0_night_13 ?_
    refine lv_iload_n hx hb dX0_night_16 rfl (lv_at hl 1 rfl) ?_
    refine nt_ld hc hW.nt (ix_nI (by omega) (by decide)) dX0_night_17 ?_
    refine sm_topi (v := (f 0) (2 + j)) rfl ?_
    refine lv_istore_n (lv' := [(3, .int ((f 0) (2 + j))), (0, .ref (ad 0)), (1, .int (nI j)), (2, .int v)]) hx hb dX0_night_18 rfl hl (by decide) rfl (fun ls hl => ?_)
    refine lv_aload_n hx hb dX0_night_19 rfl (lv_at hl 1 rfl) ?_
    refine d_get hc hDW 0 (by decide) q161 rfl rfl dX0_night_20 ?_
    refine h_get hc hW 3 (by decide) rfl q130 rfl rfl dX0_night_23 ?_
    refine lv_iload_n hx hb dX0_night_26 rfl (lv_at hl 2 rfl) ?_
    refine lv_iload_n hx hb dX0_night_27 rfl (lv_at hl 3 rfl) ?_
    refine h_nst hc hW hS (ix_nI (by omega) (by decide)) dX0_night_28 (fun H locs hW hS hz oq => ?_)
    have hW : HW G A N (upd (f 0) (2 + j) v) u hv ah ga H := hW
    have hDW := hDW.aftH hdj hHA HR.n oq
    have hO1 := night_ok hO (show j < 6 by omega) c_449.2
    refine lv_aload_n hx hb dX0_night_29 rfl (lv_at hl 1 rfl) ?_
    refine d_get hc hDW 0 (by decide) q161 rfl rfl dX0_night_30 ?_
    refine cv_W0 (rest := []) hc (D_changes l hF hW.toR hO1) (lw_V q273 q274 q275 q68 q276) nd_X1_changes ⟨Nat.le_of_ble_eq_true rfl, Nat.le_of_ble_eq_true rfl⟩ (HW.recv hK hW) rfl hl.1 rfl (Nat.le_of_ble_eq_true rfl) dX0_night_33 ⟨Nat.le_of_ble_eq_true rfl, Nat.le_of_ble_eq_true rfl⟩ hS hHA (fun H locs hq hS hz hk1 => ?_)
    have hDW := hDW.aftC hdj hHA hk1
    obtain ⟨u, hv, hcok, hW⟩ := HS.ofR (HS.ch hq) hW.1 hHA
    refine lv_iload_n hx hb dX0_night_36 rfl (lv_at hl 0 rfl) ?_
    have hsp_450 : nightM f (nI j) v = ((f 0) (2 + j), up2 f 0 (2 + j) v) := by simp only [nightM, hcl_j]; rw [if_pos c_449.1, if_pos c_449.2]
    refine w_more (cells' := 100) (slots' := 1000) (Nat.le_of_ble_eq_true rfl) (Nat.le_of_ble_eq_true rfl) ?_
    exact ri_W hx hb hr hlk hS (by rw [hsp_450]) (by rw [hsp_450]; exact DC.mk' up2_row hO1 (hDW.fr rfl rfl rfl rfl rfl rfl) hcok hW hdj) dX0_night_37
  · refine cs_T (rest := []) hc (D_need_no l hF.1 hDW.2.1 hDW.gle (x := b2i ((0 ≤ z ∧ z ≤ 5) ∧ (leastP z ≤ v ∧ v ≤ mostP z))) (b2i_f c_449) 0) q207 q208 q67 q209 nd_X0_need ⟨Nat.le_of_ble_eq_true rfl, Nat.le_of_ble_eq_true rfl⟩ rfl hl.1 rfl (Nat.le_of_ble_eq_true rfl) dX0_night_6 ⟨Nat.le_of_ble_eq_true rfl, Nat.le_of_ble_eq_true rfl⟩ hS (fun q h => hAb q (Nat.le_trans hS.1 h)) (fun ex H locs hq hS hz hk1 => ?_)
    obtain ⟨hexn, hex, hsz⟩ := hq
    have hne : ex ≠ ad 3 := by have := hDW.lt (r := 3) (fun z => by cases z); omega
    have hDW := hDW.aftM hk1
    have hW := hW.aftM hk1
    refine ct_find (pre := []) (post := []) (y := ⟨0, 37, 38, 1⟩) hc htab (by decide) (by decide) rfl hex ?_
    refine lv_astore_n (lv' := [(3, .ref ex), (0, .ref (ad 0)), (1, .int z), (2, .int v)]) hx hb dX0_night_38 rfl hl (by decide) rfl (fun ls hl => ?_)
    refine lv_aload_n hx hb dX0_night_39 rfl (lv_at hl 1 rfl) ?_
    refine lv_aload_n hx hb dX0_night_40 rfl (lv_at hl 0 rfl) ?_
    refine cv_W1 (rest := []) hc (D_X0finds l hDW hex hne (k := 0) rfl (by decide)) (lw_V q277 q279 qs1 q67 q280) nd_X0_finds ⟨Nat.le_of_ble_eq_true rfl, Nat.le_of_ble_eq_true rfl⟩ (DW.recv hK hDW) rfl hl.1 rfl (Nat.le_of_ble_eq_true rfl) dX0_night_41 ⟨Nat.le_of_ble_eq_true rfl, Nat.le_of_ble_eq_true rfl⟩ hS (fun _ h => h) (fun H locs hq hS hz hk1 => ?_)
    obtain ⟨hDW, hf3⟩ := hq
    have hW := hW.aftD (hdj 3 (Or.inl (by decide))) (hDW.1 _ (hDW.mem (r := 3) rfl)) hf3
    have hsp_451 : nightM f z v = (-1000000001, cntP f 0) := by unfold nightM; by_cases q1 : 0 ≤ z ∧ z ≤ 5; (rw [if_pos q1, if_neg (fun q2 => c_449 ⟨q1, q2⟩)]); (rw [if_neg q1])
    refine w_more (cells' := 100) (slots' := 1000) (Nat.le_of_ble_eq_true rfl) (Nat.le_of_ble_eq_true rfl) ?_
    exact ri_W hx hb hr hlk hS (by rw [hsp_451]; show (-1000000001 - 0 : Int32) = -1000000001; decide) (by rw [hsp_451]; exact DC.mk' rfl hO hDW hcok hW hdj) dX0_night_44
theorem nd_X0_wipe : yX0_wipe.cls = "SmokeLeans" ∧ yX0_wipe.cls ≠ "java/lang/invoke/MethodHandle" ∧ yX0_wipe.cls ≠ "java/lang/invoke/VarHandle" ∧ (parseMethodDescriptor yX0_wipe.desc).map (fun d => d.parameters.length) = some 0 := by decide +kernel
set_option maxHeartbeats 4000000 in
theorem O_wipe (l : Launch) {G : GD} {A : Nat → Prop} {f : Nat → Nat → Int32} {g : Nat → Nat → Int64} {xo hk ht : Nat} {H0 : Heap} (hF : FG G) (hC : DC G A f g xo hk ht H0) (hAb : ∀ q, H0.size ≤ q → A q)  : MetW l G yX0_wipe cX0_wipe 2 (some .int) 1 100 1000 A [.ref xo] H0 (some (.int (f 6 0))) (fun H => DC G A (up2 f 6 0 0) g xo hk ht H) := by
  refine mx_of (by decide) (Nat.le_of_ble_eq_true rfl) ?_
  intro p e s m below meth c hx hb hr hc hlk hnm hs0 ls hl
  subst hs0
  have hown := hc.2.2.2.1
  have hts := hc.2.2.2.2.1
  have hK := hc.2.2.2.2.2
  obtain ⟨b, ad, ah, ga, N, R, rfl, hO, hDW, ⟨u, hv, hcok, hW⟩, hdj⟩ := hC
  have hl : lv_has ls 2 [(0, .ref (ad 0))] := hl
  have hS : va_S A s.heap s.heap [] := va_S.rf
  have hN20 := hO.2.1
  have hHA : ∀ q, HR N ah ga q → A q := fun q h => HR.mem hW h
  refine lv_aload_n hx hb dX0_wipe_0 rfl (lv_at hl 0 rfl) ?_
  refine d_get hc hDW 5 (by decide) q166 rfl rfl dX0_wipe_1 ?_
  refine lv_istore_n (lv' := [(1, .int (f 6 0)), (0, .ref (ad 0))]) hx hb dX0_wipe_4 rfl hl (by decide) rfl (fun ls hl => ?_)
  refine lv_aload_n hx hb dX0_wipe_5 rfl (lv_at hl 1 rfl) ?_
  refine lv_iconst (v := 0) hx hb dX0_wipe_6 (by decide) ?_
  refine d_put (f' := up2 f 6 0 0) (b' := b) hc hDW hS 5 (by decide) q166 rfl rfl rfl rfl rfl rfl rfl rfl rfl rfl rfl rfl dX0_wipe_7 (fun H locs hDW hS hz oq => ?_)
  have hW := hW.aftD (hdj 0 (Or.inl (by decide))) (hDW.1 _ (hDW.mem (r := 0) rfl)) oq
  refine lv_iload_n hx hb dX0_wipe_10 rfl (lv_at hl 0 rfl) ?_
  refine w_more (cells' := 100) (slots' := 1000) (Nat.le_of_ble_eq_true rfl) (Nat.le_of_ble_eq_true rfl) ?_
  exact ri_W hx hb hr hlk hS (rfl) (DC.mk' rfl hO hDW (hcok) hW hdj) dX0_wipe_11
theorem nd_X0_seed : yX0_seed.cls = "SmokeLeans" ∧ yX0_seed.cls ≠ "java/lang/invoke/MethodHandle" ∧ yX0_seed.cls ≠ "java/lang/invoke/VarHandle" ∧ (parseMethodDescriptor yX0_seed.desc).map (fun d => d.parameters.length) = some 1 := by decide +kernel
set_option maxHeartbeats 4000000 in
theorem O_seed (l : Launch) {G : GD} {A : Nat → Prop} {f : Nat → Nat → Int32} {g : Nat → Nat → Int64} {xo hk ht : Nat} {H0 : Heap} (hF : FG G) (hC : DC G A f g xo hk ht H0) (hAb : ∀ q, H0.size ≤ q → A q) (v : Int32) : MetW l G yX0_seed cX0_seed 3 (some .int) 1 100 1000 A [.ref xo, .int v] H0 (some (.int (f 0 8))) (fun H => DC G A (up2 f 0 8 v) g xo hk ht H) := by
  refine mx_of (by decide) (Nat.le_of_ble_eq_true rfl) ?_
  intro p e s m below meth c hx hb hr hc hlk hnm hs0 ls hl
  subst hs0
  have hown := hc.2.2.2.1
  have hts := hc.2.2.2.2.1
  have hK := hc.2.2.2.2.2
  obtain ⟨b, ad, ah, ga, N, R, rfl, hO, hDW, ⟨u, hv, hcok, hW⟩, hdj⟩ := hC
  have hl : lv_has ls 3 [(0, .ref (ad 0)), (1, .int v)] := hl
  have hS : va_S A s.heap s.heap [] := va_S.rf
  have hN20 := hO.2.1
  have hHA : ∀ q, HR N ah ga q → A q := fun q h => HR.mem hW h
  refine lv_aload_n hx hb dX0_seed_0 rfl (lv_at hl 0 rfl) ?_
  refine d_get hc hDW 0 (by decide) q161 rfl rfl dX0_seed_1 ?_
  refine h_get hc hW 4 (by decide) rfl q132 rfl rfl dX0_seed_4 ?_
  refine lv_istore_n (lv' := [(2, .int ((f 0) 8)), (0, .ref (ad 0)), (1, .int v)]) hx hb dX0_seed_7 rfl hl (by decide) rfl (fun ls hl => ?_)
  refine lv_aload_n hx hb dX0_seed_8 rfl (lv_at hl 1 rfl) ?_
  refine d_get hc hDW 0 (by decide) q161 rfl rfl dX0_seed_9 ?_
  refine lv_iload_n hx hb dX0_seed_12 rfl (lv_at hl 2 rfl) ?_
  refine h_put (r' := upd (f 0) 8 v) (u' := u) hc hW hS 4 (by decide) rfl q132 rfl rfl rfl rfl rfl rfl (fun j hj => if_neg (by omega)) rfl rfl dX0_seed_13 (fun H locs hW hS hz oq => ?_)
  have hO1 := OkN_8 (s' := upd (f 0) 8 v) eq8_upd hO
  have hDW := hDW.aftH hdj hHA HR.o oq
  refine lv_iload_n hx hb dX0_seed_16 rfl (lv_at hl 0 rfl) ?_
  refine w_more (cells' := 100) (slots' := 1000) (Nat.le_of_ble_eq_true rfl) (Nat.le_of_ble_eq_true rfl) ?_
  exact ri_W hx hb hr hlk hS (rfl) (DC.mk' up2_row hO1 (hDW.fr rfl rfl rfl rfl rfl rfl) (HCok_8 hcok) hW hdj) dX0_seed_17
theorem nd_X0_tear : yX0_tear.cls = "SmokeLeans" ∧ yX0_tear.cls ≠ "java/lang/invoke/MethodHandle" ∧ yX0_tear.cls ≠ "java/lang/invoke/VarHandle" ∧ (parseMethodDescriptor yX0_tear.desc).map (fun d => d.parameters.length) = some 0 := by decide +kernel
set_option maxHeartbeats 4000000 in
theorem O_tear (l : Launch) {G : GD} {A : Nat → Prop} {f : Nat → Nat → Int32} {g : Nat → Nat → Int64} {xo hk ht : Nat} {H0 : Heap} (hF : FG G) (hC : DC G A f g xo hk ht H0) (hAb : ∀ q, H0.size ≤ q → A q)  : MetW l G yX0_tear cX0_tear 2 (some .int) 1 100 1000 A [.ref xo] H0 (some (.int (if f 4 0 = 0 then 0 else 1))) (fun H => DC G A (up2 f 4 0 0) g xo hk ht H) := by
  refine mx_of (by decide) (Nat.le_of_ble_eq_true rfl) ?_
  intro p e s m below meth c hx hb hr hc hlk hnm hs0 ls hl
  subst hs0
  have hown := hc.2.2.2.1
  have hts := hc.2.2.2.2.1
  have hK := hc.2.2.2.2.2
  obtain ⟨b, ad, ah, ga, N, R, rfl, hO, hDW, ⟨u, hv, hcok, hW⟩, hdj⟩ := hC
  have hl : lv_has ls 2 [(0, .ref (ad 0))] := hl
  have hS : va_S A s.heap s.heap [] := va_S.rf
  have hN20 := hO.2.1
  have hHA : ∀ q, HR N ah ga q → A q := fun q h => HR.mem hW h
  refine lv_aload_n hx hb dX0_tear_0 rfl (lv_at hl 0 rfl) ?_
  refine d_get hc hDW 3 (by decide) q164 rfl rfl dX0_tear_1 ?_
  refine lv_if_eq (tgt := 11) hx hb dX0_tear_4 (by decide) (fun c_452 => ?_) (fun c_452 => ?_)
  · refine lv_iconst (v := 0) hx hb dX0_tear_11 (by decide) ?_
    refine lv_istore_n (lv' := [(1, .int 0), (0, .ref (ad 0))]) hx hb dX0_tear_12 rfl hl (by decide) rfl (fun ls hl => ?_)
    refine lv_aload_n hx hb dX0_tear_13 rfl (lv_at hl 1 rfl) ?_
    refine lv_iconst (v := 0) hx hb dX0_tear_14 (by decide) ?_
    refine d_put (f' := up2 f 4 0 0) (b' := b) hc hDW hS 3 (by decide) q164 rfl rfl rfl rfl rfl rfl rfl rfl rfl rfl rfl rfl dX0_tear_15 (fun H locs hDW hS hz oq => ?_)
    have hW := hW.aftD (hdj 0 (Or.inl (by decide))) (hDW.1 _ (hDW.mem (r := 0) rfl)) oq
    refine lv_iload_n hx hb dX0_tear_18 rfl (lv_at hl 0 rfl) ?_
    refine w_more (cells' := 100) (slots' := 1000) (Nat.le_of_ble_eq_true rfl) (Nat.le_of_ble_eq_true rfl) ?_
    exact ri_W hx hb hr hlk hS ((if_pos c_452).symm) (DC.mk' rfl hO hDW (hcok) hW hdj) dX0_tear_19
  · refine lv_iconst (v := 1) hx hb dX0_tear_7 (by decide) ?_
    refine lv_goto (tgt := 12) hx hb dX0_tear_8 (by decide) ?_
    refine lv_istore_n (lv' := [(1, .int 1), (0, .ref (ad 0))]) hx hb dX0_tear_12 rfl hl (by decide) rfl (fun ls hl => ?_)
    refine lv_aload_n hx hb dX0_tear_13 rfl (lv_at hl 1 rfl) ?_
    refine lv_iconst (v := 0) hx hb dX0_tear_14 (by decide) ?_
    refine d_put (f' := up2 f 4 0 0) (b' := b) hc hDW hS 3 (by decide) q164 rfl rfl rfl rfl rfl rfl rfl rfl rfl rfl rfl rfl dX0_tear_15 (fun H locs hDW hS hz oq => ?_)
    have hW := hW.aftD (hdj 0 (Or.inl (by decide))) (hDW.1 _ (hDW.mem (r := 0) rfl)) oq
    refine lv_iload_n hx hb dX0_tear_18 rfl (lv_at hl 0 rfl) ?_
    refine w_more (cells' := 100) (slots' := 1000) (Nat.le_of_ble_eq_true rfl) (Nat.le_of_ble_eq_true rfl) ?_
    exact ri_W hx hb hr hlk hS ((if_neg c_452).symm) (DC.mk' rfl hO hDW (hcok) hW hdj) dX0_tear_19
theorem nd_X0_pressure : yX0_pressure.cls = "SmokeLeans" ∧ yX0_pressure.cls ≠ "java/lang/invoke/MethodHandle" ∧ yX0_pressure.cls ≠ "java/lang/invoke/VarHandle" ∧ (parseMethodDescriptor yX0_pressure.desc).map (fun d => d.parameters.length) = some 1 := by decide +kernel
set_option maxHeartbeats 4000000 in
theorem O_pressure (l : Launch) {G : GD} {A : Nat → Prop} {f : Nat → Nat → Int32} {g : Nat → Nat → Int64} {xo hk ht : Nat} {H0 : Heap} (hF : FG G) (hC : DC G A f g xo hk ht H0) (hAb : ∀ q, H0.size ≤ q → A q) (x : Int32) : MetH l G yX0_pressure cX0_pressure 3 (some .int) [((0), (17), (18), (1))] 8 100 1000 A [.ref xo, .int x] H0 (some (.int (pressureM f x).1)) (fun H => DC G A (pressureM f x).2 g xo hk ht H) := by
  refine mw_of (hh := [((0), (17), (18), (1))]) (by decide) (Nat.le_of_ble_eq_true rfl) ?_
  intro p e s m below meth c hx hb hr hc hlk hnm htab hs0 ls hl
  subst hs0
  have hown := hc.2.2.2.1
  have hts := hc.2.2.2.2.1
  have hK := hc.2.2.2.2.2
  obtain ⟨b, ad, ah, ga, N, R, rfl, hO, hDW, ⟨u, hv, hcok, hW⟩, hdj⟩ := hC
  have hl : lv_has ls 3 [(0, .ref (ad 0)), (1, .int x)] := hl
  have hS : va_S A s.heap s.heap [] := va_S.rf
  have hN20 := hO.2.1
  have hHA : ∀ q, HR N ah ga q → A q := fun q h => HR.mem hW h
  refine lv_aload_n hx hb dX0_pressure_0 rfl (lv_at hl 0 rfl) ?_
  refine lv_iload_n hx hb dX0_pressure_1 rfl (lv_at hl 1 rfl) ?_
  refine cv_R1 (rest := []) hc (D_isRoom l hDW hW x) (lw_V q298 q300 qs2 q67 q301) nd_X0_isRoom ⟨Nat.le_of_ble_eq_true rfl, Nat.le_of_ble_eq_true rfl⟩ (DW.recv hK hDW) rfl hl.1 rfl (Nat.le_of_ble_eq_true rfl) dX0_pressure_2 ⟨Nat.le_of_ble_eq_true rfl, Nat.le_of_ble_eq_true rfl⟩ ?_
  refine lv_iconst (v := 0) hx hb dX0_pressure_5 (by decide) ?_
  by_cases c_453 : 0 ≤ x ∧ x ≤ (f 0) 0 - 1
  · refine cs_R0 (rest := []) hc (D_need_ok l (x := b2i (0 ≤ x ∧ x ≤ (f 0) 0 - 1)) (by rw [b2i_t c_453]; decide) 0) (lw_S q207 q208 q67 q209) nd_X0_need ⟨Nat.le_of_ble_eq_true rfl, Nat.le_of_ble_eq_true rfl⟩ rfl hl.1 rfl (Nat.le_of_ble_eq_true rfl) dX0_pressure_6 ⟨Nat.le_of_ble_eq_true rfl, Nat.le_of_ble_eq_true rfl⟩ ?_
    obtain ⟨i, hi, rfl⟩ := hO.exRoom c_453
    have hcl_i : (nI i).toNatClampNeg = i := nI_clamp (by have := hO.1; omega)
    refine lv_aload_n hx hb dX0_pressure_9 rfl (lv_at hl 0 rfl) ?_
    refine d_get hc hDW 0 (by decide) q161 rfl rfl dX0_pressure_10 ?_
    refine lv_iload_n hx hb dX0_pressure_13 rfl (lv_at hl 1 rfl) ?_
    refine cv_W1 (rest := []) hc (D_pressure l hF (HS.toR ⟨u, hv, hcok, hW⟩) hO i hi) (lw_V q732 q733 q734 q68 q735) nd_X1_pressure ⟨Nat.le_of_ble_eq_true rfl, Nat.le_of_ble_eq_true rfl⟩ (HW.recv hK hW) rfl hl.1 rfl (Nat.le_of_ble_eq_true rfl) dX0_pressure_14 ⟨Nat.le_of_ble_eq_true rfl, Nat.le_of_ble_eq_true rfl⟩ hS hHA (fun H locs hq hS hz hk1 => ?_)
    have hDW := hDW.aftC hdj hHA hk1
    obtain ⟨u, hv, hcok, hW⟩ := HS.ofR hq hW.1 hHA
    have hsp_454 : pressureM f (nI i) = (prP (f 0) i, f) := by simp only [pressureM, hcl_i, if_pos c_453]
    refine w_more (cells' := 100) (slots' := 1000) (Nat.le_of_ble_eq_true rfl) (Nat.le_of_ble_eq_true rfl) ?_
    exact ri_W hx hb hr hlk hS (by rw [hsp_454]) (by rw [hsp_454]; exact DC.mk' rfl hO hDW hcok hW hdj) dX0_pressure_17
  · refine cs_T (rest := []) hc (D_need_no l hF.1 hDW.2.1 hDW.gle (x := b2i (0 ≤ x ∧ x ≤ (f 0) 0 - 1)) (b2i_f c_453) 0) q207 q208 q67 q209 nd_X0_need ⟨Nat.le_of_ble_eq_true rfl, Nat.le_of_ble_eq_true rfl⟩ rfl hl.1 rfl (Nat.le_of_ble_eq_true rfl) dX0_pressure_6 ⟨Nat.le_of_ble_eq_true rfl, Nat.le_of_ble_eq_true rfl⟩ hS (fun q h => hAb q (Nat.le_trans hS.1 h)) (fun ex H locs hq hS hz hk1 => ?_)
    obtain ⟨hexn, hex, hsz⟩ := hq
    have hne : ex ≠ ad 3 := by have := hDW.lt (r := 3) (fun z => by cases z); omega
    have hDW := hDW.aftM hk1
    have hW := hW.aftM hk1
    refine ct_find (pre := []) (post := []) (y := ⟨0, 17, 18, 1⟩) hc htab (by decide) (by decide) rfl hex ?_
    refine lv_astore_n (lv' := [(2, .ref ex), (0, .ref (ad 0)), (1, .int x)]) hx hb dX0_pressure_18 rfl hl (by decide) rfl (fun ls hl => ?_)
    refine lv_aload_n hx hb dX0_pressure_19 rfl (lv_at hl 1 rfl) ?_
    refine lv_aload_n hx hb dX0_pressure_20 rfl (lv_at hl 0 rfl) ?_
    refine cv_W1 (rest := []) hc (D_X0finds l hDW hex hne (k := 0) rfl (by decide)) (lw_V q277 q279 qs1 q67 q280) nd_X0_finds ⟨Nat.le_of_ble_eq_true rfl, Nat.le_of_ble_eq_true rfl⟩ (DW.recv hK hDW) rfl hl.1 rfl (Nat.le_of_ble_eq_true rfl) dX0_pressure_21 ⟨Nat.le_of_ble_eq_true rfl, Nat.le_of_ble_eq_true rfl⟩ hS (fun _ h => h) (fun H locs hq hS hz hk1 => ?_)
    obtain ⟨hDW, hf3⟩ := hq
    have hW := hW.aftD (hdj 3 (Or.inl (by decide))) (hDW.1 _ (hDW.mem (r := 3) rfl)) hf3
    have hsp_455 : pressureM f x = (-1000000001, cntP f 0) := by simp only [pressureM, if_neg c_453]
    refine w_more (cells' := 100) (slots' := 1000) (Nat.le_of_ble_eq_true rfl) (Nat.le_of_ble_eq_true rfl) ?_
    exact ri_W hx hb hr hlk hS (by rw [hsp_455]; show (-1000000001 - 0 : Int32) = -1000000001; decide) (by rw [hsp_455]; exact DC.mk' rfl hO hDW hcok hW hdj) dX0_pressure_24
theorem nd_X0_flow : yX0_flow.cls = "SmokeLeans" ∧ yX0_flow.cls ≠ "java/lang/invoke/MethodHandle" ∧ yX0_flow.cls ≠ "java/lang/invoke/VarHandle" ∧ (parseMethodDescriptor yX0_flow.desc).map (fun d => d.parameters.length) = some 1 := by decide +kernel
set_option maxHeartbeats 4000000 in
theorem O_flow (l : Launch) {G : GD} {A : Nat → Prop} {f : Nat → Nat → Int32} {g : Nat → Nat → Int64} {xo hk ht : Nat} {H0 : Heap} (hF : FG G) (hC : DC G A f g xo hk ht H0) (hAb : ∀ q, H0.size ≤ q → A q) (x : Int32) : MetH l G yX0_flow cX0_flow 3 (some .int) [((0), (17), (18), (1))] 8 100 1000 A [.ref xo, .int x] H0 (some (.int (flowM f x).1)) (fun H => DC G A (flowM f x).2 g xo hk ht H) := by
  refine mw_of (hh := [((0), (17), (18), (1))]) (by decide) (Nat.le_of_ble_eq_true rfl) ?_
  intro p e s m below meth c hx hb hr hc hlk hnm htab hs0 ls hl
  subst hs0
  have hown := hc.2.2.2.1
  have hts := hc.2.2.2.2.1
  have hK := hc.2.2.2.2.2
  obtain ⟨b, ad, ah, ga, N, R, rfl, hO, hDW, ⟨u, hv, hcok, hW⟩, hdj⟩ := hC
  have hl : lv_has ls 3 [(0, .ref (ad 0)), (1, .int x)] := hl
  have hS : va_S A s.heap s.heap [] := va_S.rf
  have hN20 := hO.2.1
  have hHA : ∀ q, HR N ah ga q → A q := fun q h => HR.mem hW h
  refine lv_aload_n hx hb dX0_flow_0 rfl (lv_at hl 0 rfl) ?_
  refine lv_iload_n hx hb dX0_flow_1 rfl (lv_at hl 1 rfl) ?_
  refine cv_R1 (rest := []) hc (D_isGap l hDW hW x) (lw_V q423 q425 qs3 q67 q426) nd_X0_isGap ⟨Nat.le_of_ble_eq_true rfl, Nat.le_of_ble_eq_true rfl⟩ (DW.recv hK hDW) rfl hl.1 rfl (Nat.le_of_ble_eq_true rfl) dX0_flow_2 ⟨Nat.le_of_ble_eq_true rfl, Nat.le_of_ble_eq_true rfl⟩ ?_
  refine lv_iconst (v := 0) hx hb dX0_flow_5 (by decide) ?_
  by_cases c_456 : 0 ≤ x ∧ x ≤ (f 0) 1 - 1
  · refine cs_R0 (rest := []) hc (D_need_ok l (x := b2i (0 ≤ x ∧ x ≤ (f 0) 1 - 1)) (by rw [b2i_t c_456]; decide) 0) (lw_S q207 q208 q67 q209) nd_X0_need ⟨Nat.le_of_ble_eq_true rfl, Nat.le_of_ble_eq_true rfl⟩ rfl hl.1 rfl (Nat.le_of_ble_eq_true rfl) dX0_flow_6 ⟨Nat.le_of_ble_eq_true rfl, Nat.le_of_ble_eq_true rfl⟩ ?_
    obtain ⟨i, hi, rfl⟩ := hO.exGap c_456
    have hcl_i : (nI i).toNatClampNeg = i := nI_clamp (by omega)
    refine lv_aload_n hx hb dX0_flow_9 rfl (lv_at hl 0 rfl) ?_
    refine d_get hc hDW 0 (by decide) q161 rfl rfl dX0_flow_10 ?_
    refine lv_iload_n hx hb dX0_flow_13 rfl (lv_at hl 1 rfl) ?_
    refine cv_W1 (rest := []) hc (D_flow l hF (HS.toR ⟨u, hv, hcok, hW⟩) hO i hi) (lw_V q757 q758 q759 q68 q760) nd_X1_flow ⟨Nat.le_of_ble_eq_true rfl, Nat.le_of_ble_eq_true rfl⟩ (HW.recv hK hW) rfl hl.1 rfl (Nat.le_of_ble_eq_true rfl) dX0_flow_14 ⟨Nat.le_of_ble_eq_true rfl, Nat.le_of_ble_eq_true rfl⟩ hS hHA (fun H locs hq hS hz hk1 => ?_)
    have hDW := hDW.aftC hdj hHA hk1
    obtain ⟨u, hv, hcok, hW⟩ := HS.ofR hq hW.1 hHA
    have hsp_457 : flowM f (nI i) = (flowP (f 0) i, f) := by simp only [flowM, hcl_i, if_pos c_456]
    refine w_more (cells' := 100) (slots' := 1000) (Nat.le_of_ble_eq_true rfl) (Nat.le_of_ble_eq_true rfl) ?_
    exact ri_W hx hb hr hlk hS (by rw [hsp_457]) (by rw [hsp_457]; exact DC.mk' rfl hO hDW hcok hW hdj) dX0_flow_17
  · refine cs_T (rest := []) hc (D_need_no l hF.1 hDW.2.1 hDW.gle (x := b2i (0 ≤ x ∧ x ≤ (f 0) 1 - 1)) (b2i_f c_456) 0) q207 q208 q67 q209 nd_X0_need ⟨Nat.le_of_ble_eq_true rfl, Nat.le_of_ble_eq_true rfl⟩ rfl hl.1 rfl (Nat.le_of_ble_eq_true rfl) dX0_flow_6 ⟨Nat.le_of_ble_eq_true rfl, Nat.le_of_ble_eq_true rfl⟩ hS (fun q h => hAb q (Nat.le_trans hS.1 h)) (fun ex H locs hq hS hz hk1 => ?_)
    obtain ⟨hexn, hex, hsz⟩ := hq
    have hne : ex ≠ ad 3 := by have := hDW.lt (r := 3) (fun z => by cases z); omega
    have hDW := hDW.aftM hk1
    have hW := hW.aftM hk1
    refine ct_find (pre := []) (post := []) (y := ⟨0, 17, 18, 1⟩) hc htab (by decide) (by decide) rfl hex ?_
    refine lv_astore_n (lv' := [(2, .ref ex), (0, .ref (ad 0)), (1, .int x)]) hx hb dX0_flow_18 rfl hl (by decide) rfl (fun ls hl => ?_)
    refine lv_aload_n hx hb dX0_flow_19 rfl (lv_at hl 1 rfl) ?_
    refine lv_aload_n hx hb dX0_flow_20 rfl (lv_at hl 0 rfl) ?_
    refine cv_W1 (rest := []) hc (D_X0finds l hDW hex hne (k := 0) rfl (by decide)) (lw_V q277 q279 qs1 q67 q280) nd_X0_finds ⟨Nat.le_of_ble_eq_true rfl, Nat.le_of_ble_eq_true rfl⟩ (DW.recv hK hDW) rfl hl.1 rfl (Nat.le_of_ble_eq_true rfl) dX0_flow_21 ⟨Nat.le_of_ble_eq_true rfl, Nat.le_of_ble_eq_true rfl⟩ hS (fun _ h => h) (fun H locs hq hS hz hk1 => ?_)
    obtain ⟨hDW, hf3⟩ := hq
    have hW := hW.aftD (hdj 3 (Or.inl (by decide))) (hDW.1 _ (hDW.mem (r := 3) rfl)) hf3
    have hsp_458 : flowM f x = (-1000000001, cntP f 0) := by simp only [flowM, if_neg c_456]
    refine w_more (cells' := 100) (slots' := 1000) (Nat.le_of_ble_eq_true rfl) (Nat.le_of_ble_eq_true rfl) ?_
    exact ri_W hx hb hr hlk hS (by rw [hsp_458]; show (-1000000001 - 0 : Int32) = -1000000001; decide) (by rw [hsp_458]; exact DC.mk' rfl hO hDW hcok hW hdj) dX0_flow_24
theorem nd_X0_lean : yX0_lean.cls = "SmokeLeans" ∧ yX0_lean.cls ≠ "java/lang/invoke/MethodHandle" ∧ yX0_lean.cls ≠ "java/lang/invoke/VarHandle" ∧ (parseMethodDescriptor yX0_lean.desc).map (fun d => d.parameters.length) = some 1 := by decide +kernel
set_option maxHeartbeats 4000000 in
theorem O_lean (l : Launch) {G : GD} {A : Nat → Prop} {f : Nat → Nat → Int32} {g : Nat → Nat → Int64} {xo hk ht : Nat} {H0 : Heap} (hF : FG G) (hC : DC G A f g xo hk ht H0) (hAb : ∀ q, H0.size ≤ q → A q) (x : Int32) : MetH l G yX0_lean cX0_lean 3 (some .int) [((0), (17), (18), (1))] 9 100 1000 A [.ref xo, .int x] H0 (some (.int (leanM f x).1)) (fun H => DC G A (leanM f x).2 g xo hk ht H) := by
  refine mw_of (hh := [((0), (17), (18), (1))]) (by decide) (Nat.le_of_ble_eq_true rfl) ?_
  intro p e s m below meth c hx hb hr hc hlk hnm htab hs0 ls hl
  subst hs0
  have hown := hc.2.2.2.1
  have hts := hc.2.2.2.2.1
  have hK := hc.2.2.2.2.2
  obtain ⟨b, ad, ah, ga, N, R, rfl, hO, hDW, ⟨u, hv, hcok, hW⟩, hdj⟩ := hC
  have hl : lv_has ls 3 [(0, .ref (ad 0)), (1, .int x)] := hl
  have hS : va_S A s.heap s.heap [] := va_S.rf
  have hN20 := hO.2.1
  have hHA : ∀ q, HR N ah ga q → A q := fun q h => HR.mem hW h
  refine lv_aload_n hx hb dX0_lean_0 rfl (lv_at hl 0 rfl) ?_
  refine lv_iload_n hx hb dX0_lean_1 rfl (lv_at hl 1 rfl) ?_
  refine cv_R1 (rest := []) hc (D_isGap l hDW hW x) (lw_V q423 q425 qs3 q67 q426) nd_X0_isGap ⟨Nat.le_of_ble_eq_true rfl, Nat.le_of_ble_eq_true rfl⟩ (DW.recv hK hDW) rfl hl.1 rfl (Nat.le_of_ble_eq_true rfl) dX0_lean_2 ⟨Nat.le_of_ble_eq_true rfl, Nat.le_of_ble_eq_true rfl⟩ ?_
  refine lv_iconst (v := 0) hx hb dX0_lean_5 (by decide) ?_
  by_cases c_459 : 0 ≤ x ∧ x ≤ (f 0) 1 - 1
  · refine cs_R0 (rest := []) hc (D_need_ok l (x := b2i (0 ≤ x ∧ x ≤ (f 0) 1 - 1)) (by rw [b2i_t c_459]; decide) 0) (lw_S q207 q208 q67 q209) nd_X0_need ⟨Nat.le_of_ble_eq_true rfl, Nat.le_of_ble_eq_true rfl⟩ rfl hl.1 rfl (Nat.le_of_ble_eq_true rfl) dX0_lean_6 ⟨Nat.le_of_ble_eq_true rfl, Nat.le_of_ble_eq_true rfl⟩ ?_
    obtain ⟨i, hi, rfl⟩ := hO.exGap c_459
    have hcl_i : (nI i).toNatClampNeg = i := nI_clamp (by omega)
    refine lv_aload_n hx hb dX0_lean_9 rfl (lv_at hl 0 rfl) ?_
    refine d_get hc hDW 0 (by decide) q161 rfl rfl dX0_lean_10 ?_
    refine lv_iload_n hx hb dX0_lean_13 rfl (lv_at hl 1 rfl) ?_
    refine cv_W1 (rest := []) hc (D_lean l hF (HS.toR ⟨u, hv, hcok, hW⟩) hO i hi) (lw_V q765 q766 q767 q68 q768) nd_X1_lean ⟨Nat.le_of_ble_eq_true rfl, Nat.le_of_ble_eq_true rfl⟩ (HW.recv hK hW) rfl hl.1 rfl (Nat.le_of_ble_eq_true rfl) dX0_lean_14 ⟨Nat.le_of_ble_eq_true rfl, Nat.le_of_ble_eq_true rfl⟩ hS hHA (fun H locs hq hS hz hk1 => ?_)
    have hDW := hDW.aftC hdj hHA hk1
    obtain ⟨u, hv, hcok, hW⟩ := HS.ofR hq hW.1 hHA
    have hsp_460 : leanM f (nI i) = (leanP (f 0) i, f) := by simp only [leanM, hcl_i, if_pos c_459]
    refine w_more (cells' := 100) (slots' := 1000) (Nat.le_of_ble_eq_true rfl) (Nat.le_of_ble_eq_true rfl) ?_
    exact ri_W hx hb hr hlk hS (by rw [hsp_460]) (by rw [hsp_460]; exact DC.mk' rfl hO hDW hcok hW hdj) dX0_lean_17
  · refine cs_T (rest := []) hc (D_need_no l hF.1 hDW.2.1 hDW.gle (x := b2i (0 ≤ x ∧ x ≤ (f 0) 1 - 1)) (b2i_f c_459) 0) q207 q208 q67 q209 nd_X0_need ⟨Nat.le_of_ble_eq_true rfl, Nat.le_of_ble_eq_true rfl⟩ rfl hl.1 rfl (Nat.le_of_ble_eq_true rfl) dX0_lean_6 ⟨Nat.le_of_ble_eq_true rfl, Nat.le_of_ble_eq_true rfl⟩ hS (fun q h => hAb q (Nat.le_trans hS.1 h)) (fun ex H locs hq hS hz hk1 => ?_)
    obtain ⟨hexn, hex, hsz⟩ := hq
    have hne : ex ≠ ad 3 := by have := hDW.lt (r := 3) (fun z => by cases z); omega
    have hDW := hDW.aftM hk1
    have hW := hW.aftM hk1
    refine ct_find (pre := []) (post := []) (y := ⟨0, 17, 18, 1⟩) hc htab (by decide) (by decide) rfl hex ?_
    refine lv_astore_n (lv' := [(2, .ref ex), (0, .ref (ad 0)), (1, .int x)]) hx hb dX0_lean_18 rfl hl (by decide) rfl (fun ls hl => ?_)
    refine lv_aload_n hx hb dX0_lean_19 rfl (lv_at hl 1 rfl) ?_
    refine lv_aload_n hx hb dX0_lean_20 rfl (lv_at hl 0 rfl) ?_
    refine cv_W1 (rest := []) hc (D_X0finds l hDW hex hne (k := 0) rfl (by decide)) (lw_V q277 q279 qs1 q67 q280) nd_X0_finds ⟨Nat.le_of_ble_eq_true rfl, Nat.le_of_ble_eq_true rfl⟩ (DW.recv hK hDW) rfl hl.1 rfl (Nat.le_of_ble_eq_true rfl) dX0_lean_21 ⟨Nat.le_of_ble_eq_true rfl, Nat.le_of_ble_eq_true rfl⟩ hS (fun _ h => h) (fun H locs hq hS hz hk1 => ?_)
    obtain ⟨hDW, hf3⟩ := hq
    have hW := hW.aftD (hdj 3 (Or.inl (by decide))) (hDW.1 _ (hDW.mem (r := 3) rfl)) hf3
    have hsp_461 : leanM f x = (-1000000001, cntP f 0) := by simp only [leanM, if_neg c_459]
    refine w_more (cells' := 100) (slots' := 1000) (Nat.le_of_ble_eq_true rfl) (Nat.le_of_ble_eq_true rfl) ?_
    exact ri_W hx hb hr hlk hS (by rw [hsp_461]; show (-1000000001 - 0 : Int32) = -1000000001; decide) (by rw [hsp_461]; exact DC.mk' rfl hO hDW hcok hW hdj) dX0_lean_24
theorem nd_X0_rounds : yX0_rounds.cls = "SmokeLeans" ∧ yX0_rounds.cls ≠ "java/lang/invoke/MethodHandle" ∧ yX0_rounds.cls ≠ "java/lang/invoke/VarHandle" ∧ (parseMethodDescriptor yX0_rounds.desc).map (fun d => d.parameters.length) = some 0 := by decide +kernel
set_option maxHeartbeats 4000000 in
theorem O_rounds (l : Launch) {G : GD} {A : Nat → Prop} {f : Nat → Nat → Int32} {g : Nat → Nat → Int64} {xo hk ht : Nat} {H0 : Heap} (hF : FG G) (hC : DC G A f g xo hk ht H0) (hAb : ∀ q, H0.size ≤ q → A q)  : MetW l G yX0_rounds cX0_rounds 1 (some .int) 8 100 1000 A [.ref xo] H0 (some (.int (nI (rdP (f 0))))) (fun H => DC G A f g xo hk ht H) := by
  refine mx_of (by decide) (Nat.le_of_ble_eq_true rfl) ?_
  intro p e s m below meth c hx hb hr hc hlk hnm hs0 ls hl
  subst hs0
  have hown := hc.2.2.2.1
  have hts := hc.2.2.2.2.1
  have hK := hc.2.2.2.2.2
  obtain ⟨b, ad, ah, ga, N, R, rfl, hO, hDW, ⟨u, hv, hcok, hW⟩, hdj⟩ := hC
  have hl : lv_has ls 1 [(0, .ref (ad 0))] := hl
  have hS : va_S A s.heap s.heap [] := va_S.rf
  have hN20 := hO.2.1
  have hHA : ∀ q, HR N ah ga q → A q := fun q h => HR.mem hW h
  refine lv_aload_n hx hb dX0_rounds_0 rfl (lv_at hl 0 rfl) ?_
  refine d_get hc hDW 0 (by decide) q161 rfl rfl dX0_rounds_1 ?_
  refine cv_W1 (rest := []) hc (D_rounds l hF (HS.toR ⟨u, hv, hcok, hW⟩) hO) (lw_V q780 q781 q782 q68 q783) nd_X1_rounds ⟨Nat.le_of_ble_eq_true rfl, Nat.le_of_ble_eq_true rfl⟩ (HW.recv hK hW) rfl hl.1 rfl (Nat.le_of_ble_eq_true rfl) dX0_rounds_4 ⟨Nat.le_of_ble_eq_true rfl, Nat.le_of_ble_eq_true rfl⟩ hS hHA (fun H locs hq hS hz hk1 => ?_)
  have hDW := hDW.aftC hdj hHA hk1
  obtain ⟨u, hv, hcok, hW⟩ := HS.ofR hq hW.1 hHA
  refine w_more (cells' := 100) (slots' := 1000) (Nat.le_of_ble_eq_true rfl) (Nat.le_of_ble_eq_true rfl) ?_
  exact ri_W hx hb hr hlk hS (rfl) (DC.mk' rfl hO hDW (hcok) hW hdj) dX0_rounds_7
theorem nd_X0_stick : yX0_stick.cls = "SmokeLeans" ∧ yX0_stick.cls ≠ "java/lang/invoke/MethodHandle" ∧ yX0_stick.cls ≠ "java/lang/invoke/VarHandle" ∧ (parseMethodDescriptor yX0_stick.desc).map (fun d => d.parameters.length) = some 1 := by decide +kernel
set_option maxHeartbeats 4000000 in
theorem O_stick (l : Launch) {G : GD} {A : Nat → Prop} {f : Nat → Nat → Int32} {g : Nat → Nat → Int64} {xo hk ht : Nat} {H0 : Heap} (hF : FG G) (hC : DC G A f g xo hk ht H0) (hAb : ∀ q, H0.size ≤ q → A q) (x : Int32) : MetH l G yX0_stick cX0_stick 3 (some .int) [((0), (17), (18), (1))] 10 100 1000 A [.ref xo, .int x] H0 (some (.int (stickM f x).1)) (fun H => DC G A (stickM f x).2 g xo hk ht H) := by
  refine mw_of (hh := [((0), (17), (18), (1))]) (by decide) (Nat.le_of_ble_eq_true rfl) ?_
  intro p e s m below meth c hx hb hr hc hlk hnm htab hs0 ls hl
  subst hs0
  have hown := hc.2.2.2.1
  have hts := hc.2.2.2.2.1
  have hK := hc.2.2.2.2.2
  obtain ⟨b, ad, ah, ga, N, R, rfl, hO, hDW, ⟨u, hv, hcok, hW⟩, hdj⟩ := hC
  have hl : lv_has ls 3 [(0, .ref (ad 0)), (1, .int x)] := hl
  have hS : va_S A s.heap s.heap [] := va_S.rf
  have hN20 := hO.2.1
  have hHA : ∀ q, HR N ah ga q → A q := fun q h => HR.mem hW h
  refine lv_aload_n hx hb dX0_stick_0 rfl (lv_at hl 0 rfl) ?_
  refine lv_iload_n hx hb dX0_stick_1 rfl (lv_at hl 1 rfl) ?_
  refine cv_R1 (rest := []) hc (D_isGap l hDW hW x) (lw_V q423 q425 qs3 q67 q426) nd_X0_isGap ⟨Nat.le_of_ble_eq_true rfl, Nat.le_of_ble_eq_true rfl⟩ (DW.recv hK hDW) rfl hl.1 rfl (Nat.le_of_ble_eq_true rfl) dX0_stick_2 ⟨Nat.le_of_ble_eq_true rfl, Nat.le_of_ble_eq_true rfl⟩ ?_
  refine lv_iconst (v := 0) hx hb dX0_stick_5 (by decide) ?_
  by_cases c_462 : 0 ≤ x ∧ x ≤ (f 0) 1 - 1
  · refine cs_R0 (rest := []) hc (D_need_ok l (x := b2i (0 ≤ x ∧ x ≤ (f 0) 1 - 1)) (by rw [b2i_t c_462]; decide) 0) (lw_S q207 q208 q67 q209) nd_X0_need ⟨Nat.le_of_ble_eq_true rfl, Nat.le_of_ble_eq_true rfl⟩ rfl hl.1 rfl (Nat.le_of_ble_eq_true rfl) dX0_stick_6 ⟨Nat.le_of_ble_eq_true rfl, Nat.le_of_ble_eq_true rfl⟩ ?_
    obtain ⟨i, hi, rfl⟩ := hO.exGap c_462
    have hcl_i : (nI i).toNatClampNeg = i := nI_clamp (by omega)
    refine lv_aload_n hx hb dX0_stick_9 rfl (lv_at hl 0 rfl) ?_
    refine d_get hc hDW 0 (by decide) q161 rfl rfl dX0_stick_10 ?_
    refine lv_iload_n hx hb dX0_stick_13 rfl (lv_at hl 1 rfl) ?_
    refine cv_W1 (rest := []) hc (D_seen l hF (HS.toR ⟨u, hv, hcok, hW⟩) hO i hi) (lw_V q821 q822 q823 q68 q824) nd_X1_seen ⟨Nat.le_of_ble_eq_true rfl, Nat.le_of_ble_eq_true rfl⟩ (HW.recv hK hW) rfl hl.1 rfl (Nat.le_of_ble_eq_true rfl) dX0_stick_14 ⟨Nat.le_of_ble_eq_true rfl, Nat.le_of_ble_eq_true rfl⟩ hS hHA (fun H locs hq hS hz hk1 => ?_)
    have hDW := hDW.aftC hdj hHA hk1
    obtain ⟨u, hv, hcok, hW⟩ := HS.ofR hq hW.1 hHA
    have hO8 := OkN_8 (s' := upd (f 0) 8 (drawP ((f 0) 8))) eq8_upd hO
    have hsp_463 : stickM f (nI i) = (seenV (f 0) (prP (f 0)) i, up2 f 0 8 (drawP (f 0 8))) := by simp only [stickM, hcl_i, if_pos c_462]
    refine w_more (cells' := 100) (slots' := 1000) (Nat.le_of_ble_eq_true rfl) (Nat.le_of_ble_eq_true rfl) ?_
    exact ri_W hx hb hr hlk hS (by rw [hsp_463]) (by rw [hsp_463]; exact DC.mk' up2_row hO8 (hDW.fr rfl rfl rfl rfl rfl rfl) hcok hW hdj) dX0_stick_17
  · refine cs_T (rest := []) hc (D_need_no l hF.1 hDW.2.1 hDW.gle (x := b2i (0 ≤ x ∧ x ≤ (f 0) 1 - 1)) (b2i_f c_462) 0) q207 q208 q67 q209 nd_X0_need ⟨Nat.le_of_ble_eq_true rfl, Nat.le_of_ble_eq_true rfl⟩ rfl hl.1 rfl (Nat.le_of_ble_eq_true rfl) dX0_stick_6 ⟨Nat.le_of_ble_eq_true rfl, Nat.le_of_ble_eq_true rfl⟩ hS (fun q h => hAb q (Nat.le_trans hS.1 h)) (fun ex H locs hq hS hz hk1 => ?_)
    obtain ⟨hexn, hex, hsz⟩ := hq
    have hne : ex ≠ ad 3 := by have := hDW.lt (r := 3) (fun z => by cases z); omega
    have hDW := hDW.aftM hk1
    have hW := hW.aftM hk1
    refine ct_find (pre := []) (post := []) (y := ⟨0, 17, 18, 1⟩) hc htab (by decide) (by decide) rfl hex ?_
    refine lv_astore_n (lv' := [(2, .ref ex), (0, .ref (ad 0)), (1, .int x)]) hx hb dX0_stick_18 rfl hl (by decide) rfl (fun ls hl => ?_)
    refine lv_aload_n hx hb dX0_stick_19 rfl (lv_at hl 1 rfl) ?_
    refine lv_aload_n hx hb dX0_stick_20 rfl (lv_at hl 0 rfl) ?_
    refine cv_W1 (rest := []) hc (D_X0finds l hDW hex hne (k := 0) rfl (by decide)) (lw_V q277 q279 qs1 q67 q280) nd_X0_finds ⟨Nat.le_of_ble_eq_true rfl, Nat.le_of_ble_eq_true rfl⟩ (DW.recv hK hDW) rfl hl.1 rfl (Nat.le_of_ble_eq_true rfl) dX0_stick_21 ⟨Nat.le_of_ble_eq_true rfl, Nat.le_of_ble_eq_true rfl⟩ hS (fun _ h => h) (fun H locs hq hS hz hk1 => ?_)
    obtain ⟨hDW, hf3⟩ := hq
    have hW := hW.aftD (hdj 3 (Or.inl (by decide))) (hDW.1 _ (hDW.mem (r := 3) rfl)) hf3
    have hsp_464 : stickM f x = (-1000000001, cntP f 0) := by simp only [stickM, if_neg c_462]
    refine w_more (cells' := 100) (slots' := 1000) (Nat.le_of_ble_eq_true rfl) (Nat.le_of_ble_eq_true rfl) ?_
    exact ri_W hx hb hr hlk hS (by rw [hsp_464]; show (-1000000001 - 0 : Int32) = -1000000001; decide) (by rw [hsp_464]; exact DC.mk' rfl hO hDW hcok hW hdj) dX0_stick_24
theorem nd_X0_air : yX0_air.cls = "SmokeLeans" ∧ yX0_air.cls ≠ "java/lang/invoke/MethodHandle" ∧ yX0_air.cls ≠ "java/lang/invoke/VarHandle" ∧ (parseMethodDescriptor yX0_air.desc).map (fun d => d.parameters.length) = some 1 := by decide +kernel
set_option maxHeartbeats 4000000 in
theorem O_air (l : Launch) {G : GD} {A : Nat → Prop} {f : Nat → Nat → Int32} {g : Nat → Nat → Int64} {xo hk ht : Nat} {H0 : Heap} (hF : FG G) (hC : DC G A f g xo hk ht H0) (hAb : ∀ q, H0.size ≤ q → A q) (x : Int32) : MetH l G yX0_air cX0_air 3 (some .int) [((0), (75), (76), (1))] 10 100 1000 A [.ref xo, .int x] H0 (some (.int (airM f x).1)) (fun H => DC G A (airM f x).2 g xo hk ht H) := by
  refine mw_of (hh := [((0), (75), (76), (1))]) (by decide) (Nat.le_of_ble_eq_true rfl) ?_
  intro p e s m below meth c hx hb hr hc hlk hnm htab hs0 ls hl
  subst hs0
  have hown := hc.2.2.2.1
  have hts := hc.2.2.2.2.1
  have hK := hc.2.2.2.2.2
  obtain ⟨b, ad, ah, ga, N, R, rfl, hO, hDW, ⟨u, hv, hcok, hW⟩, hdj⟩ := hC
  have hl : lv_has ls 3 [(0, .ref (ad 0)), (1, .int x)] := hl
  have hS : va_S A s.heap s.heap [] := va_S.rf
  have hN20 := hO.2.1
  have hHA : ∀ q, HR N ah ga q → A q := fun q h => HR.mem hW h
  refine lv_iload_n hx hb dX0_air_0 rfl (lv_at hl 1 rfl) ?_
  refine lv_i2l hx hb dX0_air_1 rfl ?_
  refine lv_lconst (v := (0 : Int32).toInt64) hx hb dX0_air_2 (by decide) ?_
  refine lv_ldc2 (v := 3) hx hb hown (hts _ q549) dX0_air_3 (sm_topl (v := (3 : Int32).toInt64) (by decide) ?_)
  refine cs_R1 (rest := []) hc (D_in32 l x 0 3) (lw_S q294 q295 q67 q296) nd_X0_in ⟨Nat.le_of_ble_eq_true rfl, Nat.le_of_ble_eq_true rfl⟩ rfl hl.1 rfl (Nat.le_of_ble_eq_true rfl) dX0_air_6 ⟨Nat.le_of_ble_eq_true rfl, Nat.le_of_ble_eq_true rfl⟩ ?_
  refine lv_iconst (v := 0) hx hb dX0_air_9 (by decide) ?_
  by_cases c_465 : 0 ≤ x ∧ x ≤ 3
  · refine cs_R0 (rest := []) hc (D_need_ok l (x := b2i (0 ≤ x ∧ x ≤ 3)) (by rw [b2i_t c_465]; decide) 0) (lw_S q207 q208 q67 q209) nd_X0_need ⟨Nat.le_of_ble_eq_true rfl, Nat.le_of_ble_eq_true rfl⟩ rfl hl.1 rfl (Nat.le_of_ble_eq_true rfl) dX0_air_10 ⟨Nat.le_of_ble_eq_true rfl, Nat.le_of_ble_eq_true rfl⟩ ?_
    refine lv_iload_n hx hb dX0_air_13 rfl (lv_at hl 1 rfl) ?_
    refine lv_if_ne (tgt := 27) hx hb dX0_air_14 (by decide) (fun c_466 => ?_) (fun c_466 => ?_)
    · refine lv_iload_n hx hb dX0_air_27 rfl (lv_at hl 1 rfl) ?_
      refine lv_iconst (v := 1) hx hb dX0_air_28 (by decide) ?_
      refine lv_icmp_ne (tgt := 42) hx hb dX0_air_29 (by decide) (fun c_467 => ?_) (fun c_467 => ?_)
      · refine lv_iload_n hx hb dX0_air_42 rfl (lv_at hl 1 rfl) ?_
        refine lv_iconst (v := 2) hx hb dX0_air_43 (by decide) ?_
        refine lv_icmp_ne (tgt := 60) hx hb dX0_air_44 (by decide) (fun c_468 => ?_) (fun c_468 => ?_)
        · refine lv_aload_n hx hb dX0_air_60 rfl (lv_at hl 0 rfl) ?_
          refine d_get hc hDW 0 (by decide) q161 rfl rfl dX0_air_61 ?_
          refine cv_W1 (rest := []) hc (D_isRestless l hF (HS.toR ⟨u, hv, hcok, hW⟩) hO) (lw_V q809 q810 q811 q68 q812) nd_X1_isRestless ⟨Nat.le_of_ble_eq_true rfl, Nat.le_of_ble_eq_true rfl⟩ (HW.recv hK hW) rfl hl.1 rfl (Nat.le_of_ble_eq_true rfl) dX0_air_64 ⟨Nat.le_of_ble_eq_true rfl, Nat.le_of_ble_eq_true rfl⟩ hS hHA (fun H locs hq hS hz hk1 => ?_)
          have hDW := hDW.aftC hdj hHA hk1
          obtain ⟨u, hv, hcok, hW⟩ := HS.ofR hq hW.1 hHA
          refine bi_eq (tgt := 74) hx hb dX0_air_67 (by decide) (fun c_469 => ?_) (fun c_469 => ?_)
          · refine lv_iconst (v := 0) hx hb dX0_air_74 (by decide) ?_
            have hsp_470 : airM f x = (0, f) := by simp only [airM, if_pos c_465, if_neg c_466, if_neg c_467, if_neg c_468, b2i_f c_469]
            refine w_more (cells' := 100) (slots' := 1000) (Nat.le_of_ble_eq_true rfl) (Nat.le_of_ble_eq_true rfl) ?_
            exact ri_W hx hb hr hlk hS (by rw [hsp_470]) (by rw [hsp_470]; exact DC.mk' rfl hO hDW hcok hW hdj) dX0_air_75
          · refine lv_iconst (v := 1) hx hb dX0_air_70 (by decide) ?_
            refine lv_goto (tgt := 75) hx hb dX0_air_71 (by decide) ?_
            have hsp_471 : airM f x = (1, f) := by simp only [airM, if_pos c_465, if_neg c_466, if_neg c_467, if_neg c_468, b2i_t c_469]
            refine w_more (cells' := 100) (slots' := 1000) (Nat.le_of_ble_eq_true rfl) (Nat.le_of_ble_eq_true rfl) ?_
            exact ri_W hx hb hr hlk hS (by rw [hsp_471]) (by rw [hsp_471]; exact DC.mk' rfl hO hDW hcok hW hdj) dX0_air_75
        · refine lv_aload_n hx hb dX0_air_47 rfl (lv_at hl 0 rfl) ?_
          refine d_get hc hDW 0 (by decide) q161 rfl rfl dX0_air_48 ?_
          refine cv_W1 (rest := []) hc (D_isSmoky l hF (HS.toR ⟨u, hv, hcok, hW⟩) hO) (lw_V q804 q805 q806 q68 q807) nd_X1_isSmoky ⟨Nat.le_of_ble_eq_true rfl, Nat.le_of_ble_eq_true rfl⟩ (HW.recv hK hW) rfl hl.1 rfl (Nat.le_of_ble_eq_true rfl) dX0_air_51 ⟨Nat.le_of_ble_eq_true rfl, Nat.le_of_ble_eq_true rfl⟩ hS hHA (fun H locs hq hS hz hk1 => ?_)
          have hDW := hDW.aftC hdj hHA hk1
          obtain ⟨u, hv, hcok, hW⟩ := HS.ofR hq hW.1 hHA
          refine bi_eq (tgt := 74) hx hb dX0_air_54 (by decide) (fun c_472 => ?_) (fun c_472 => ?_)
          · refine lv_iconst (v := 0) hx hb dX0_air_74 (by decide) ?_
            have hsp_473 : airM f x = (0, f) := by simp only [airM, if_pos c_465, if_neg c_466, if_neg c_467, if_pos c_468, b2i_f c_472]
            refine w_more (cells' := 100) (slots' := 1000) (Nat.le_of_ble_eq_true rfl) (Nat.le_of_ble_eq_true rfl) ?_
            exact ri_W hx hb hr hlk hS (by rw [hsp_473]) (by rw [hsp_473]; exact DC.mk' rfl hO hDW hcok hW hdj) dX0_air_75
          · refine lv_goto (tgt := 70) hx hb dX0_air_57 (by decide) ?_
            refine lv_iconst (v := 1) hx hb dX0_air_70 (by decide) ?_
            refine lv_goto (tgt := 75) hx hb dX0_air_71 (by decide) ?_
            have hsp_474 : airM f x = (1, f) := by simp only [airM, if_pos c_465, if_neg c_466, if_neg c_467, if_pos c_468, b2i_t c_472]
            refine w_more (cells' := 100) (slots' := 1000) (Nat.le_of_ble_eq_true rfl) (Nat.le_of_ble_eq_true rfl) ?_
            exact ri_W hx hb hr hlk hS (by rw [hsp_474]) (by rw [hsp_474]; exact DC.mk' rfl hO hDW hcok hW hdj) dX0_air_75
      · refine lv_aload_n hx hb dX0_air_32 rfl (lv_at hl 0 rfl) ?_
        refine d_get hc hDW 0 (by decide) q161 rfl rfl dX0_air_33 ?_
        refine cv_W1 (rest := []) hc (D_lost l hF (HS.toR ⟨u, hv, hcok, hW⟩) hO) (lw_V q799 q800 q801 q68 q802) nd_X1_lost ⟨Nat.le_of_ble_eq_true rfl, Nat.le_of_ble_eq_true rfl⟩ (HW.recv hK hW) rfl hl.1 rfl (Nat.le_of_ble_eq_true rfl) dX0_air_36 ⟨Nat.le_of_ble_eq_true rfl, Nat.le_of_ble_eq_true rfl⟩ hS hHA (fun H locs hq hS hz hk1 => ?_)
        have hDW := hDW.aftC hdj hHA hk1
        obtain ⟨u, hv, hcok, hW⟩ := HS.ofR hq hW.1 hHA
        refine lv_goto (tgt := 75) hx hb dX0_air_39 (by decide) ?_
        have hsp_475 : airM f x = (lostP (f 0), f) := by simp only [airM, if_pos c_465, if_neg c_466, if_pos c_467]
        refine w_more (cells' := 100) (slots' := 1000) (Nat.le_of_ble_eq_true rfl) (Nat.le_of_ble_eq_true rfl) ?_
        exact ri_W hx hb hr hlk hS (by rw [hsp_475]) (by rw [hsp_475]; exact DC.mk' rfl hO hDW hcok hW hdj) dX0_air_75
    · refine lv_aload_n hx hb dX0_air_17 rfl (lv_at hl 0 rfl) ?_
      refine d_get hc hDW 0 (by decide) q161 rfl rfl dX0_air_18 ?_
      refine cv_W1 (rest := []) hc (D_fresh l hF (HS.toR ⟨u, hv, hcok, hW⟩) hO) (lw_V q792 q793 q794 q68 q795) nd_X1_fresh ⟨Nat.le_of_ble_eq_true rfl, Nat.le_of_ble_eq_true rfl⟩ (HW.recv hK hW) rfl hl.1 rfl (Nat.le_of_ble_eq_true rfl) dX0_air_21 ⟨Nat.le_of_ble_eq_true rfl, Nat.le_of_ble_eq_true rfl⟩ hS hHA (fun H locs hq hS hz hk1 => ?_)
      have hDW := hDW.aftC hdj hHA hk1
      obtain ⟨u, hv, hcok, hW⟩ := HS.ofR hq hW.1 hHA
      refine lv_goto (tgt := 75) hx hb dX0_air_24 (by decide) ?_
      have hsp_476 : airM f x = (freshP (f 0), f) := by simp only [airM, if_pos c_465, if_pos c_466]
      refine w_more (cells' := 100) (slots' := 1000) (Nat.le_of_ble_eq_true rfl) (Nat.le_of_ble_eq_true rfl) ?_
      exact ri_W hx hb hr hlk hS (by rw [hsp_476]) (by rw [hsp_476]; exact DC.mk' rfl hO hDW hcok hW hdj) dX0_air_75
  · refine cs_T (rest := []) hc (D_need_no l hF.1 hDW.2.1 hDW.gle (x := b2i (0 ≤ x ∧ x ≤ 3)) (b2i_f c_465) 0) q207 q208 q67 q209 nd_X0_need ⟨Nat.le_of_ble_eq_true rfl, Nat.le_of_ble_eq_true rfl⟩ rfl hl.1 rfl (Nat.le_of_ble_eq_true rfl) dX0_air_10 ⟨Nat.le_of_ble_eq_true rfl, Nat.le_of_ble_eq_true rfl⟩ hS (fun q h => hAb q (Nat.le_trans hS.1 h)) (fun ex H locs hq hS hz hk1 => ?_)
    obtain ⟨hexn, hex, hsz⟩ := hq
    have hne : ex ≠ ad 3 := by have := hDW.lt (r := 3) (fun z => by cases z); omega
    have hDW := hDW.aftM hk1
    have hW := hW.aftM hk1
    refine ct_find (pre := []) (post := []) (y := ⟨0, 75, 76, 1⟩) hc htab (by decide) (by decide) rfl hex ?_
    refine lv_astore_n (lv' := [(2, .ref ex), (0, .ref (ad 0)), (1, .int x)]) hx hb dX0_air_76 rfl hl (by decide) rfl (fun ls hl => ?_)
    refine lv_aload_n hx hb dX0_air_77 rfl (lv_at hl 1 rfl) ?_
    refine lv_aload_n hx hb dX0_air_78 rfl (lv_at hl 0 rfl) ?_
    refine cv_W1 (rest := []) hc (D_X0finds l hDW hex hne (k := 0) rfl (by decide)) (lw_V q277 q279 qs1 q67 q280) nd_X0_finds ⟨Nat.le_of_ble_eq_true rfl, Nat.le_of_ble_eq_true rfl⟩ (DW.recv hK hDW) rfl hl.1 rfl (Nat.le_of_ble_eq_true rfl) dX0_air_79 ⟨Nat.le_of_ble_eq_true rfl, Nat.le_of_ble_eq_true rfl⟩ hS (fun _ h => h) (fun H locs hq hS hz hk1 => ?_)
    obtain ⟨hDW, hf3⟩ := hq
    have hW := hW.aftD (hdj 3 (Or.inl (by decide))) (hDW.1 _ (hDW.mem (r := 3) rfl)) hf3
    have hsp_477 : airM f x = (-1000000001, cntP f 0) := by simp only [airM, if_neg c_465]
    refine w_more (cells' := 100) (slots' := 1000) (Nat.le_of_ble_eq_true rfl) (Nat.le_of_ble_eq_true rfl) ?_
    exact ri_W hx hb hr hlk hS (by rw [hsp_477]; show (-1000000001 - 0 : Int32) = -1000000001; decide) (by rw [hsp_477]; exact DC.mk' rfl hO hDW hcok hW hdj) dX0_air_82
theorem nd_X0_status : yX0_status.cls = "SmokeLeans" ∧ yX0_status.cls ≠ "java/lang/invoke/MethodHandle" ∧ yX0_status.cls ≠ "java/lang/invoke/VarHandle" ∧ (parseMethodDescriptor yX0_status.desc).map (fun d => d.parameters.length) = some 1 := by decide +kernel
set_option maxHeartbeats 4000000 in
theorem O_status (l : Launch) {G : GD} {A : Nat → Prop} {f : Nat → Nat → Int32} {g : Nat → Nat → Int64} {xo hk ht : Nat} {H0 : Heap} (hF : FG G) (hC : DC G A f g xo hk ht H0) (hAb : ∀ q, H0.size ≤ q → A q) (x : Int32) : MetH l G yX0_status cX0_status 4 (some .int) [((0), (25), (53), (1)), ((26), (52), (53), (1))] 5 100 1000 A [.ref xo, .int x] H0 (some (.int (statusM f x).1)) (fun H => DC G A (statusM f x).2 g xo hk ht H) := by
  refine mw_of (hh := [((0), (25), (53), (1)), ((26), (52), (53), (1))]) (by decide) (Nat.le_of_ble_eq_true rfl) ?_
  intro p e s m below meth c hx hb hr hc hlk hnm htab hs0 ls hl
  subst hs0
  have hown := hc.2.2.2.1
  have hts := hc.2.2.2.2.1
  have hK := hc.2.2.2.2.2
  obtain ⟨b, ad, ah, ga, N, R, rfl, hO, hDW, ⟨u, hv, hcok, hW⟩, hdj⟩ := hC
  have hl : lv_has ls 4 [(0, .ref (ad 0)), (1, .int x)] := hl
  have hS : va_S A s.heap s.heap [] := va_S.rf
  have hN20 := hO.2.1
  have hHA : ∀ q, HR N ah ga q → A q := fun q h => HR.mem hW h
  refine lv_iload_n hx hb dX0_status_0 rfl (lv_at hl 1 rfl) ?_
  refine lv_i2l hx hb dX0_status_1 rfl ?_
  refine lv_ldc2 (v := (-1)) hx hb hown (hts _ q992) dX0_status_2 (sm_topl (v := (-1 : Int32).toInt64) (by decide) ?_)
  refine lv_ldc2 (v := 6) hx hb hown (hts _ q993) dX0_status_5 (sm_topl (v := (6 : Int32).toInt64) (by decide) ?_)
  refine cs_R1 (rest := []) hc (D_in32 l x (-1) 6) (lw_S q294 q295 q67 q296) nd_X0_in ⟨Nat.le_of_ble_eq_true rfl, Nat.le_of_ble_eq_true rfl⟩ rfl hl.1 rfl (Nat.le_of_ble_eq_true rfl) dX0_status_8 ⟨Nat.le_of_ble_eq_true rfl, Nat.le_of_ble_eq_true rfl⟩ ?_
  refine lv_iconst (v := 0) hx hb dX0_status_11 (by decide) ?_
  by_cases c_478 : (-1) ≤ x ∧ x ≤ 6
  · refine cs_R0 (rest := []) hc (D_need_ok l (x := b2i ((-1) ≤ x ∧ x ≤ 6)) (by rw [b2i_t c_478]; decide) 0) (lw_S q207 q208 q67 q209) nd_X0_need ⟨Nat.le_of_ble_eq_true rfl, Nat.le_of_ble_eq_true rfl⟩ rfl hl.1 rfl (Nat.le_of_ble_eq_true rfl) dX0_status_12 ⟨Nat.le_of_ble_eq_true rfl, Nat.le_of_ble_eq_true rfl⟩ ?_
    refine lv_iload_n hx hb dX0_status_15 rfl (lv_at hl 1 rfl) ?_
    refine lv_if_lt (tgt := 26) hx hb dX0_status_16 (by decide) (fun c_479 => ?_) (fun c_479 => ?_)
    · refine lv_iconst (v := 0) hx hb dX0_status_26 (by decide) ?_
      refine lv_istore_n (lv' := [(2, .int 0), (0, .ref (ad 0)), (1, .int x)]) hx hb dX0_status_27 rfl hl (by decide) rfl (fun ls hl => ?_)
      refine lv_iconst (v := 0) hx hb dX0_status_28 (by decide) ?_
      refine lv_istore_n (lv' := [(3, .int 0), (2, .int 0), (0, .ref (ad 0)), (1, .int x)]) hx hb dX0_status_29 rfl hl (by decide) rfl (fun ls hl => ?_)
      refine w_loop (σ := Nat) (fun i fr => ∃ ls, fr = F0 m 30 ls [] ∧ lv_has ls 4 [(3, .int (nI i)), (2, .int (stsN f x i)), (1, .int x), (0, .ref (ad 0))] ∧ (i ≤ 7)) (fun i => 7 - i) 0 ⟨ls, rfl, lv_sub hl [0, 1, 3, 2] rfl, Nat.zero_le _⟩ ?_
      intro i fr hI ih
      obtain ⟨ls, rfl, hl, hinv⟩ := hI
      by_cases hi : i < 7
      · refine lv_iload_n hx hb dX0_status_30 rfl (lv_at hl 0 rfl) ?_
        refine lv_bipush (v := 7) hx hb dX0_status_31 (by decide) ?_
        refine lv_icmp_ge (tgt := 51) hx hb dX0_status_33 (by decide) (fun h => absurd h (nI_ge (b := 7) hi (by decide))) (fun _ => ?_)
        refine lv_iload_n hx hb dX0_status_36 rfl (lv_at hl 1 rfl) ?_
        refine lv_aload_n hx hb dX0_status_37 rfl (lv_at hl 3 rfl) ?_
        refine d_get hc hDW 7 (by decide) q168 rfl rfl dX0_status_38 ?_
        refine lv_iload_n hx hb dX0_status_41 rfl (lv_at hl 0 rfl) ?_
        refine h_ild hc hDW.fd (ix_nI (by omega) (by decide)) dX0_status_42 ?_
        refine lv_iadd hx hb dX0_status_43 ?_
        refine lv_istore_n (lv' := [(2, .int ((stsN f x i) + (f 3 i))), (3, .int (nI i)), (1, .int x), (0, .ref (ad 0))]) hx hb dX0_status_44 rfl hl (by decide) rfl (fun ls hl => ?_)
        refine lv_iinc (v := nI (i + 1)) (lv' := [(3, .int (nI (i + 1))), (2, .int ((stsN f x i) + (f 3 i))), (1, .int x), (0, .ref (ad 0))]) hx hb dX0_status_45 hl (k := 1) rfl (nI_1 _) (by decide) rfl (fun ls hl => ?_)
        refine lv_goto (tgt := 30) hx hb dX0_status_48 (by decide) ?_
        refine ih (i + 1) _ ⟨ls, rfl, ?_, hi⟩ (by omega)
        rw [sts_1 c_479]
        exact lv_sub hl [0, 1, 2, 3] rfl
      · have hiE : 7 = i := by omega
        subst hiE
        refine lv_iload_n hx hb dX0_status_30 rfl (lv_at hl 0 rfl) ?_
        refine lv_bipush (v := 7) hx hb dX0_status_31 (by decide) ?_
        refine lv_icmp_ge (tgt := 51) hx hb dX0_status_33 (by decide) (fun _ => ?_) (fun h => absurd (nI_le (a := 7) (by omega) (by omega)) h)
        refine lv_iload_n hx hb dX0_status_51 rfl (lv_at hl 1 rfl) ?_
        have hsp_480 : statusM f x = (stsN f x 7, f) := by simp only [statusM, if_pos c_478]
        refine w_more (cells' := 100) (slots' := 1000) (Nat.le_of_ble_eq_true rfl) (Nat.le_of_ble_eq_true rfl) ?_
        exact ri_W hx hb hr hlk hS (by rw [hsp_480]) (by rw [hsp_480]; exact DC.mk' rfl hO hDW hcok hW hdj) dX0_status_52
    · obtain ⟨j, hj, rfl⟩ := ex_le 6 (hi := 6) rfl (by decide) (Int32.not_lt.mp c_479) c_478.2
      refine lv_aload_n hx hb dX0_status_19 rfl (lv_at hl 0 rfl) ?_
      refine d_get hc hDW 7 (by decide) q168 rfl rfl dX0_status_20 ?_
      refine lv_iload_n hx hb dX0_status_23 rfl (lv_at hl 1 rfl) ?_
      refine h_ild hc hDW.fd (ix_nI (by omega) (by decide)) dX0_status_24 ?_
      have hsp_481 : statusM f (nI j) = (f 3 j, f) := by simp only [statusM, if_pos c_478]; rw [sts_j (by omega)]
      refine w_more (cells' := 100) (slots' := 1000) (Nat.le_of_ble_eq_true rfl) (Nat.le_of_ble_eq_true rfl) ?_
      exact ri_W hx hb hr hlk hS (by rw [hsp_481]) (by rw [hsp_481]; exact DC.mk' rfl hO hDW hcok hW hdj) dX0_status_25
  · refine cs_T (rest := []) hc (D_need_no l hF.1 hDW.2.1 hDW.gle (x := b2i ((-1) ≤ x ∧ x ≤ 6)) (b2i_f c_478) 0) q207 q208 q67 q209 nd_X0_need ⟨Nat.le_of_ble_eq_true rfl, Nat.le_of_ble_eq_true rfl⟩ rfl hl.1 rfl (Nat.le_of_ble_eq_true rfl) dX0_status_12 ⟨Nat.le_of_ble_eq_true rfl, Nat.le_of_ble_eq_true rfl⟩ hS (fun q h => hAb q (Nat.le_trans hS.1 h)) (fun ex H locs hq hS hz hk1 => ?_)
    obtain ⟨hexn, hex, hsz⟩ := hq
    have hne : ex ≠ ad 3 := by have := hDW.lt (r := 3) (fun z => by cases z); omega
    have hDW := hDW.aftM hk1
    have hW := hW.aftM hk1
    refine ct_find (pre := []) (post := [⟨26, 52, 53, 1⟩]) (y := ⟨0, 25, 53, 1⟩) hc htab (by decide) (by decide) rfl hex ?_
    refine lv_astore_n (lv' := [(2, .ref ex), (0, .ref (ad 0)), (1, .int x)]) hx hb dX0_status_53 rfl hl (by decide) rfl (fun ls hl => ?_)
    refine lv_aload_n hx hb dX0_status_54 rfl (lv_at hl 1 rfl) ?_
    refine lv_aload_n hx hb dX0_status_55 rfl (lv_at hl 0 rfl) ?_
    refine cv_W1 (rest := []) hc (D_X0finds l hDW hex hne (k := 0) rfl (by decide)) (lw_V q277 q279 qs1 q67 q280) nd_X0_finds ⟨Nat.le_of_ble_eq_true rfl, Nat.le_of_ble_eq_true rfl⟩ (DW.recv hK hDW) rfl hl.1 rfl (Nat.le_of_ble_eq_true rfl) dX0_status_56 ⟨Nat.le_of_ble_eq_true rfl, Nat.le_of_ble_eq_true rfl⟩ hS (fun _ h => h) (fun H locs hq hS hz hk1 => ?_)
    obtain ⟨hDW, hf3⟩ := hq
    have hW := hW.aftD (hdj 3 (Or.inl (by decide))) (hDW.1 _ (hDW.mem (r := 3) rfl)) hf3
    have hsp_482 : statusM f x = (-1000000001, cntP f 0) := by simp only [statusM, if_neg c_478]
    refine w_more (cells' := 100) (slots' := 1000) (Nat.le_of_ble_eq_true rfl) (Nat.le_of_ble_eq_true rfl) ?_
    exact ri_W hx hb hr hlk hS (by rw [hsp_482]; show (-1000000001 - 0 : Int32) = -1000000001; decide) (by rw [hsp_482]; exact DC.mk' rfl hO hDW hcok hW hdj) dX0_status_59
