/-! the reference's methods, 12: sheets copied, stuck, laid, read -/
set_option maxRecDepth 100000
def copyM (f : Nat → Nat → Int32) (g : Nat → Nat → Int64) (x a y b n : Int32) : ST3 :=
  if 0 ≤ x ∧ x ≤ 3 then
    if 0 ≤ y ∧ y ≤ 3 then
      if f 19 x.toNatClampNeg = 0 then MIS3 f g
      else if f 19 y.toNatClampNeg = 0 then MIS3 f g
      else if f 19 x.toNatClampNeg = f 19 y.toNatClampNeg then
        if a < 0 then BEY3 f g
        else if b < 0 then BEY3 f g
        else if n < 0 then BEY3 f g
        else if f 20 x.toNatClampNeg - a < n then BEY3 f g
        else if n ≤ f 20 y.toNatClampNeg - b then (n, f, upR g 21 (40 * y.toNatClampNeg + b.toNatClampNeg) n.toNatClampNeg (fun j => g 21 (40 * x.toNatClampNeg + a.toNatClampNeg + j)))
        else BEY3 f g
      else (-1000000003, cntP f 2, g)
    else BEY3 f g
  else BEY3 f g
def MP3 (G : GD) (A : Nat → Prop) (r : ST3) (ad : Nat → Nat) (H : Heap) : Prop := MP G A r.2.1 r.2.2 ad H
theorem sub_le {n a z : Nat} (hn : n < 2 ^ 31) (ha : a < 2 ^ 31) (hz : z ≤ 40) (h : nI n ≤ nI z - nI a) : n + a ≤ z := by
  rw [Int32.le_iff_toInt_le, nI_toInt hn, Int32.toInt_sub, nI_toInt (by omega), nI_toInt ha, Int.bmod_eq_of_le (by omega) (by omega)] at h
  omega
theorem nd_X3_copy : yX3_copy.cls = "SmokeLeansModel" ∧ yX3_copy.cls ≠ "java/lang/invoke/MethodHandle" ∧ yX3_copy.cls ≠ "java/lang/invoke/VarHandle" ∧ (parseMethodDescriptor yX3_copy.desc).map (fun d => d.parameters.length) = some 5 := by decide +kernel
set_option maxHeartbeats 8000000 in
theorem M_copy (l : Launch) {G : GD} {A : Nat → Prop} {f : Nat → Nat → Int32} {g : Nat → Nat → Int64} {ad : Nat → Nat} {H0 : Heap} (hW : MW G A f g ad H0) (hz : OkZ f) (x a y b n : Int32) : MetW l G yX3_copy cX3_copy 7 (some .int) 2 0 0 A [.ref (ad 23), .int x, .int a, .int y, .int b, .int n] H0 (some (.int ((copyM f g x a y b n).1))) (fun H => MP3 G A (copyM f g x a y b n) ad H) := by
  refine mx_of (by decide) (Nat.le_of_ble_eq_true rfl) ?_
  intro p e s m below meth c hx hb hr hc hlk hnm hs0 ls hl
  subst hs0
  have hown := hc.2.2.2.1
  have hts := hc.2.2.2.2.1
  have hK := hc.2.2.2.2.2
  have hl : lv_has ls 7 [(0, .ref (ad 23)), (1, .int x), (2, .int a), (3, .int y), (4, .int b), (5, .int n)] := hl
  have hS : va_S A s.heap s.heap [] := va_S.rf
  refine lv_iload_n hx hb dX3_copy_0 rfl (lv_at hl 1 rfl) ?_
  refine cs_R1 (rest := []) hc (M_isOne l x) (lw_S q1372 q1373 q70 q1374) nd_X3_isOne ⟨Nat.le_of_ble_eq_true rfl, Nat.le_of_ble_eq_true rfl⟩ rfl hl.1 rfl (Nat.le_of_ble_eq_true rfl) dX3_copy_1 ⟨Nat.le_of_ble_eq_true rfl, Nat.le_of_ble_eq_true rfl⟩ ?_
  refine bi_eq (tgt := 14) hx hb dX3_copy_4 (by decide) (fun c_212 => ?_) (fun c_212 => ?_)
  · refine lv_aload_n hx hb dX3_copy_14 rfl (lv_at hl 0 rfl) ?_
    refine lv_ldc (v := (-1000000001)) hx hb hown (hts _ q1079) dX3_copy_15 ?_
    refine cv_W1 (rest := []) hc (M_finds l hW (-1000000001) 0 (ix_eq (k := 0) (by decide) (by decide) (by decide))) (lw_V q1075 q1077 qs28 q70 q1078) nd_X3_finds ⟨Nat.le_of_ble_eq_true rfl, Nat.le_of_ble_eq_true rfl⟩ (MW.recv hK hW) rfl hl.1 rfl (Nat.le_of_ble_eq_true rfl) dX3_copy_17 ⟨Nat.le_of_ble_eq_true rfl, Nat.le_of_ble_eq_true rfl⟩ hS (fun _ h => h) (fun H locs hW hS hz hk => ?_)
    exact ri_W hx hb hr hlk hS (by simp only [copyM, if_neg c_212]) (by simp only [MP3, copyM, if_neg c_212]; exact MW.mp hW) dX3_copy_20
  · obtain ⟨k, hk, rfl⟩ := ex_le 3 (hi := 3) rfl (by decide) c_212.1 c_212.2
    have hclk : (nI k).toNatClampNeg = k := nI_clamp (by omega)
    obtain ⟨z1, hz140, hz1k⟩ := hz k (by omega)
    refine lv_iload_n hx hb dX3_copy_7 rfl (lv_at hl 3 rfl) ?_
    refine cs_R1 (rest := []) hc (M_isOne l y) (lw_S q1372 q1373 q70 q1374) nd_X3_isOne ⟨Nat.le_of_ble_eq_true rfl, Nat.le_of_ble_eq_true rfl⟩ rfl hl.1 rfl (Nat.le_of_ble_eq_true rfl) dX3_copy_8 ⟨Nat.le_of_ble_eq_true rfl, Nat.le_of_ble_eq_true rfl⟩ ?_
    refine bi_ne (tgt := 21) hx hb dX3_copy_11 (by decide) (fun c_213 => ?_) (fun c_213 => ?_)
    · obtain ⟨k2, hk2, rfl⟩ := ex_le 3 (hi := 3) rfl (by decide) c_213.1 c_213.2
      have hclk2 : (nI k2).toNatClampNeg = k2 := nI_clamp (by omega)
      obtain ⟨z2, hz240, hz2k⟩ := hz k2 (by omega)
      refine lv_aload_n hx hb dX3_copy_21 rfl (lv_at hl 0 rfl) ?_
      refine m_get hc hW 19 (by decide) rfl q1019 rfl rfl dX3_copy_22 ?_
      refine lv_iload_n hx hb dX3_copy_25 rfl (lv_at hl 1 rfl) ?_
      refine m_ild hc hW 19 rfl (n := 4) rfl (ix_nI (by omega) (by decide)) dX3_copy_26 ?_
      refine lv_if_eq (tgt := 39) hx hb dX3_copy_27 (by decide) (fun c_214 => ?_) (fun c_214 => ?_)
      · refine lv_aload_n hx hb dX3_copy_39 rfl (lv_at hl 0 rfl) ?_
        refine lv_ldcw (v := (-1000000006)) hx hb hown (hts _ q1384) dX3_copy_40 ?_
        refine cv_W1 (rest := []) hc (M_finds l hW (-1000000006) 5 (ix_eq (k := 5) (by decide) (by decide) (by decide))) (lw_V q1075 q1077 qs28 q70 q1078) nd_X3_finds ⟨Nat.le_of_ble_eq_true rfl, Nat.le_of_ble_eq_true rfl⟩ (MW.recv hK hW) rfl hl.1 rfl (Nat.le_of_ble_eq_true rfl) dX3_copy_43 ⟨Nat.le_of_ble_eq_true rfl, Nat.le_of_ble_eq_true rfl⟩ hS (fun _ h => h) (fun H locs hW hS hz hk => ?_)
        exact ri_W hx hb hr hlk hS (by simp only [copyM, hclk, hclk2, if_pos c_212, if_pos c_213, if_pos c_214]) (by simp only [MP3, copyM, hclk, hclk2, if_pos c_212, if_pos c_213, if_pos c_214]; exact MW.mp hW) dX3_copy_46
      · refine lv_aload_n hx hb dX3_copy_30 rfl (lv_at hl 0 rfl) ?_
        refine m_get hc hW 19 (by decide) rfl q1019 rfl rfl dX3_copy_31 ?_
        refine lv_iload_n hx hb dX3_copy_34 rfl (lv_at hl 3 rfl) ?_
        refine m_ild hc hW 19 rfl (n := 4) rfl (ix_nI (by omega) (by decide)) dX3_copy_35 ?_
        refine lv_if_ne (tgt := 47) hx hb dX3_copy_36 (by decide) (fun c_215 => ?_) (fun c_215 => ?_)
        · refine lv_aload_n hx hb dX3_copy_47 rfl (lv_at hl 0 rfl) ?_
          refine m_get hc hW 19 (by decide) rfl q1019 rfl rfl dX3_copy_48 ?_
          refine lv_iload_n hx hb dX3_copy_51 rfl (lv_at hl 1 rfl) ?_
          refine m_ild hc hW 19 rfl (n := 4) rfl (ix_nI (by omega) (by decide)) dX3_copy_52 ?_
          refine lv_aload_n hx hb dX3_copy_53 rfl (lv_at hl 0 rfl) ?_
          refine m_get hc hW 19 (by decide) rfl q1019 rfl rfl dX3_copy_54 ?_
          refine lv_iload_n hx hb dX3_copy_57 rfl (lv_at hl 3 rfl) ?_
          refine m_ild hc hW 19 rfl (n := 4) rfl (ix_nI (by omega) (by decide)) dX3_copy_58 ?_
          refine lv_icmp_eq (tgt := 69) hx hb dX3_copy_59 (by decide) (fun c_216 => ?_) (fun c_216 => ?_)
          · refine lv_iload_n hx hb dX3_copy_69 rfl (lv_at hl 2 rfl) ?_
            refine lv_if_lt (tgt := 110) hx hb dX3_copy_70 (by decide) (fun c_217 => ?_) (fun c_217 => ?_)
            · refine lv_aload_n hx hb dX3_copy_110 rfl (lv_at hl 0 rfl) ?_
              refine lv_ldc (v := (-1000000001)) hx hb hown (hts _ q1079) dX3_copy_111 ?_
              refine cv_W1 (rest := []) hc (M_finds l hW (-1000000001) 0 (ix_eq (k := 0) (by decide) (by decide) (by decide))) (lw_V q1075 q1077 qs28 q70 q1078) nd_X3_finds ⟨Nat.le_of_ble_eq_true rfl, Nat.le_of_ble_eq_true rfl⟩ (MW.recv hK hW) rfl hl.1 rfl (Nat.le_of_ble_eq_true rfl) dX3_copy_113 ⟨Nat.le_of_ble_eq_true rfl, Nat.le_of_ble_eq_true rfl⟩ hS (fun _ h => h) (fun H locs hW hS hz hk => ?_)
              exact ri_W hx hb hr hlk hS (by simp only [copyM, hclk, hclk2, if_pos c_212, if_pos c_213, if_neg c_214, if_neg c_215, if_pos c_216, if_pos c_217]) (by simp only [MP3, copyM, hclk, hclk2, if_pos c_212, if_pos c_213, if_neg c_214, if_neg c_215, if_pos c_216, if_pos c_217]; exact MW.mp hW) dX3_copy_116
            · obtain ⟨a, ha31, rfl⟩ := nI_of c_217
              have hcla : (nI a).toNatClampNeg = a := nI_clamp ha31
              refine lv_iload hx hb dX3_copy_73 (lv_at hl 4 rfl) ?_
              refine lv_if_lt (tgt := 110) hx hb dX3_copy_75 (by decide) (fun c_218 => ?_) (fun c_218 => ?_)
              · refine lv_aload_n hx hb dX3_copy_110 rfl (lv_at hl 0 rfl) ?_
                refine lv_ldc (v := (-1000000001)) hx hb hown (hts _ q1079) dX3_copy_111 ?_
                refine cv_W1 (rest := []) hc (M_finds l hW (-1000000001) 0 (ix_eq (k := 0) (by decide) (by decide) (by decide))) (lw_V q1075 q1077 qs28 q70 q1078) nd_X3_finds ⟨Nat.le_of_ble_eq_true rfl, Nat.le_of_ble_eq_true rfl⟩ (MW.recv hK hW) rfl hl.1 rfl (Nat.le_of_ble_eq_true rfl) dX3_copy_113 ⟨Nat.le_of_ble_eq_true rfl, Nat.le_of_ble_eq_true rfl⟩ hS (fun _ h => h) (fun H locs hW hS hz hk => ?_)
                exact ri_W hx hb hr hlk hS (by simp only [copyM, hclk, hclk2, hcla, if_pos c_212, if_pos c_213, if_neg c_214, if_neg c_215, if_pos c_216, if_neg c_217, if_pos c_218]) (by simp only [MP3, copyM, hclk, hclk2, hcla, if_pos c_212, if_pos c_213, if_neg c_214, if_neg c_215, if_pos c_216, if_neg c_217, if_pos c_218]; exact MW.mp hW) dX3_copy_116
              · obtain ⟨b, hb31, rfl⟩ := nI_of c_218
                have hclb : (nI b).toNatClampNeg = b := nI_clamp hb31
                refine lv_iload hx hb dX3_copy_78 (lv_at hl 5 rfl) ?_
                refine lv_if_lt (tgt := 110) hx hb dX3_copy_80 (by decide) (fun c_219 => ?_) (fun c_219 => ?_)
                · refine lv_aload_n hx hb dX3_copy_110 rfl (lv_at hl 0 rfl) ?_
                  refine lv_ldc (v := (-1000000001)) hx hb hown (hts _ q1079) dX3_copy_111 ?_
                  refine cv_W1 (rest := []) hc (M_finds l hW (-1000000001) 0 (ix_eq (k := 0) (by decide) (by decide) (by decide))) (lw_V q1075 q1077 qs28 q70 q1078) nd_X3_finds ⟨Nat.le_of_ble_eq_true rfl, Nat.le_of_ble_eq_true rfl⟩ (MW.recv hK hW) rfl hl.1 rfl (Nat.le_of_ble_eq_true rfl) dX3_copy_113 ⟨Nat.le_of_ble_eq_true rfl, Nat.le_of_ble_eq_true rfl⟩ hS (fun _ h => h) (fun H locs hW hS hz hk => ?_)
                  exact ri_W hx hb hr hlk hS (by simp only [copyM, hclk, hclk2, hcla, hclb, if_pos c_212, if_pos c_213, if_neg c_214, if_neg c_215, if_pos c_216, if_neg c_217, if_neg c_218, if_pos c_219]) (by simp only [MP3, copyM, hclk, hclk2, hcla, hclb, if_pos c_212, if_pos c_213, if_neg c_214, if_neg c_215, if_pos c_216, if_neg c_217, if_neg c_218, if_pos c_219]; exact MW.mp hW) dX3_copy_116
                · obtain ⟨n, hn31, rfl⟩ := nI_of c_219
                  have hcln : (nI n).toNatClampNeg = n := nI_clamp hn31
                  refine lv_iload hx hb dX3_copy_83 (lv_at hl 5 rfl) ?_
                  refine lv_aload_n hx hb dX3_copy_85 rfl (lv_at hl 0 rfl) ?_
                  refine m_get hc hW 20 (by decide) rfl q1020 rfl rfl dX3_copy_86 ?_
                  refine lv_iload_n hx hb dX3_copy_89 rfl (lv_at hl 1 rfl) ?_
                  refine m_ild hc hW 20 rfl (n := 4) rfl (ix_nI (by omega) (by decide)) dX3_copy_90 ?_
                  refine lv_iload_n hx hb dX3_copy_91 rfl (lv_at hl 2 rfl) ?_
                  refine lv_isub hx hb dX3_copy_92 ?_
                  refine lv_icmp_gt (tgt := 110) hx hb dX3_copy_93 (by decide) (fun c_220 => ?_) (fun c_220 => ?_)
                  · refine lv_aload_n hx hb dX3_copy_110 rfl (lv_at hl 0 rfl) ?_
                    refine lv_ldc (v := (-1000000001)) hx hb hown (hts _ q1079) dX3_copy_111 ?_
                    refine cv_W1 (rest := []) hc (M_finds l hW (-1000000001) 0 (ix_eq (k := 0) (by decide) (by decide) (by decide))) (lw_V q1075 q1077 qs28 q70 q1078) nd_X3_finds ⟨Nat.le_of_ble_eq_true rfl, Nat.le_of_ble_eq_true rfl⟩ (MW.recv hK hW) rfl hl.1 rfl (Nat.le_of_ble_eq_true rfl) dX3_copy_113 ⟨Nat.le_of_ble_eq_true rfl, Nat.le_of_ble_eq_true rfl⟩ hS (fun _ h => h) (fun H locs hW hS hz hk => ?_)
                    exact ri_W hx hb hr hlk hS (by simp only [copyM, hclk, hclk2, hcla, hclb, hcln, if_pos c_212, if_pos c_213, if_neg c_214, if_neg c_215, if_pos c_216, if_neg c_217, if_neg c_218, if_neg c_219, if_pos c_220]) (by simp only [MP3, copyM, hclk, hclk2, hcla, hclb, hcln, if_pos c_212, if_pos c_213, if_neg c_214, if_neg c_215, if_pos c_216, if_neg c_217, if_neg c_218, if_neg c_219, if_pos c_220]; exact MW.mp hW) dX3_copy_116
                  · have hAn := sub_le hn31 ha31 hz140 (by have q := Int32.not_lt.mp c_220; rw [hz1k] at q; exact q)
                    refine lv_iload hx hb dX3_copy_96 (lv_at hl 5 rfl) ?_
                    refine lv_aload_n hx hb dX3_copy_98 rfl (lv_at hl 0 rfl) ?_
                    refine m_get hc hW 20 (by decide) rfl q1020 rfl rfl dX3_copy_99 ?_
                    refine lv_iload_n hx hb dX3_copy_102 rfl (lv_at hl 3 rfl) ?_
                    refine m_ild hc hW 20 rfl (n := 4) rfl (ix_nI (by omega) (by decide)) dX3_copy_103 ?_
                    refine lv_iload hx hb dX3_copy_104 (lv_at hl 4 rfl) ?_
                    refine lv_isub hx hb dX3_copy_106 ?_
                    refine lv_icmp_le (tgt := 117) hx hb dX3_copy_107 (by decide) (fun c_221 => ?_) (fun c_221 => ?_)
                    · have hBn := sub_le hn31 hb31 hz240 (by have q := c_221; rw [hz2k] at q; exact q)
                      refine lv_iconst (v := 0) hx hb dX3_copy_117 (by decide) ?_
                      refine lv_istore (lv' := [(6, .int 0), (0, .ref (ad 23)), (1, .int (nI k)), (2, .int (nI a)), (3, .int (nI k2)), (4, .int (nI b)), (5, .int (nI n))]) hx hb dX3_copy_118 hl (by decide) rfl (fun ls hl => ?_)
                      refine w_loopH (σ := Nat) (fun i H locs cells slots fr => cells = 0 ∧ slots = 0 ∧ (∃ ls, fr = F0 m 120 ls [] ∧ lv_has ls 7 [(6, .int (nI i)), (0, .ref (ad 23)), (1, .int (nI k)), (2, .int (nI a)), (3, .int (nI k2)), (4, .int (nI b)), (5, .int (nI n))]) ∧ va_S A s.heap H locs ∧ (i ≤ n ∧ MW G A f (upR g 22 0 i (fun q => g 21 (40 * k + a + q))) ad H)) (fun i => n - i) 0 ⟨rfl, rfl, ⟨ls, rfl, lv_sub hl [0, 1, 2, 3, 4, 5, 6] rfl⟩, hS, ⟨Nat.zero_le _, by rw [upR_0]; exact hW⟩⟩ ?_
                      intro i H locs cells slots fr hI ih
                      obtain ⟨rfl, rfl, ⟨ls, rfl, hl⟩, hS, ⟨hle, hW⟩⟩ := hI
                      by_cases hi : i < n
                      · refine lv_iload hx hb dX3_copy_120 (lv_at hl 0 rfl) ?_
                        refine lv_iload hx hb dX3_copy_122 (lv_at hl 6 rfl) ?_
                        refine lv_icmp_ge (tgt := 154) hx hb dX3_copy_124 (by decide) (fun h => absurd h (nI_ge hi hn31)) (fun _ => ?_)
                        refine lv_aload_n hx hb dX3_copy_127 rfl (lv_at hl 1 rfl) ?_
                        refine m_get hc hW 22 (by decide) rfl q1022 rfl rfl dX3_copy_128 ?_
                        refine lv_iload hx hb dX3_copy_131 (lv_at hl 0 rfl) ?_
                        refine lv_aload_n hx hb dX3_copy_133 rfl (lv_at hl 1 rfl) ?_
                        refine m_get hc hW 21 (by decide) rfl q1021 rfl rfl dX3_copy_134 ?_
                        refine lv_bipush (v := 40) hx hb dX3_copy_137 (by decide) ?_
                        refine lv_iload_n hx hb dX3_copy_139 rfl (lv_at hl 2 rfl) ?_
                        refine lv_imul hx hb dX3_copy_140 (sm_topi (v := nI (40 * k)) (pk_mul _ _) ?_)
                        refine lv_iload_n hx hb dX3_copy_141 rfl (lv_at hl 3 rfl) ?_
                        refine lv_iadd hx hb dX3_copy_142 (sm_topi (v := nI (40 * k + a)) (nI_add _ _) ?_)
                        refine lv_iload hx hb dX3_copy_143 (lv_at hl 0 rfl) ?_
                        refine lv_iadd hx hb dX3_copy_145 (sm_topi (v := nI (40 * k + a + i)) (nI_add _ _) ?_)
                        refine m_lld hc hW 21 rfl (n := 160) rfl (ix_nI (by omega) (by decide)) dX3_copy_146 ?_
                        refine sm_topl (v := g 21 (40 * k + a + i)) (by rw [upR_ne (by decide)]) ?_
                        refine m_lst hc hW hS 22 rfl (n := 40) rfl (ix_nI (by omega) (by decide)) dX3_copy_147 (fun H locs hW hS hz => ?_)
                        refine lv_iinc (v := nI (i + 1)) (lv' := [(6, .int (nI (i + 1))), (0, .ref (ad 23)), (1, .int (nI k)), (2, .int (nI a)), (3, .int (nI k2)), (4, .int (nI b)), (5, .int (nI n))]) hx hb dX3_copy_148 hl (k := 0) rfl (nI_1 _) (by decide) rfl (fun ls hl => ?_)
                        refine lv_goto (tgt := 120) hx hb dX3_copy_151 (by decide) ?_
                        have hW : MW G A f (up2L (upR g 22 0 i (fun q => g 21 (40 * k + a + q))) 22 (0 + i) (g 21 (40 * k + a + i))) ad H := by rw [Nat.zero_add]; exact hW
                        rw [upR_s (c := fun q => g 21 (40 * k + a + q)) rfl] at hW
                        exact ih (i + 1) _ _ _ _ _ ⟨rfl, rfl, ⟨ls, rfl, lv_sub hl [0, 1, 2, 3, 4, 5, 6] rfl⟩, hS, hi, hW⟩ (by omega)
                      · have hin : i = n := by omega
                        subst hin
                        refine lv_iload hx hb dX3_copy_120 (lv_at hl 0 rfl) ?_
                        refine lv_iload hx hb dX3_copy_122 (lv_at hl 6 rfl) ?_
                        refine lv_icmp_ge (tgt := 154) hx hb dX3_copy_124 (by decide) (fun _ => ?_) (fun h => absurd (nI_le (by omega) (by omega)) h)
                        refine lv_iconst (v := 0) hx hb dX3_copy_154 (by decide) ?_
                        refine lv_istore (lv' := [(6, .int 0), (0, .ref (ad 23)), (1, .int (nI k)), (2, .int (nI a)), (3, .int (nI k2)), (4, .int (nI b)), (5, .int (nI i))]) hx hb dX3_copy_155 hl (by decide) rfl (fun ls hl => ?_)
                        refine w_loopH (σ := Nat) (fun j H locs cells slots fr => cells = 0 ∧ slots = 0 ∧ (∃ ls, fr = F0 m 157 ls [] ∧ lv_has ls 7 [(6, .int (nI j)), (0, .ref (ad 23)), (1, .int (nI k)), (2, .int (nI a)), (3, .int (nI k2)), (4, .int (nI b)), (5, .int (nI i))]) ∧ va_S A s.heap H locs ∧ (j ≤ i ∧ MW G A f (upR (upR g 22 0 i (fun q => g 21 (40 * k + a + q))) 21 (40 * k2 + b) j (fun q => g 21 (40 * k + a + q))) ad H)) (fun j => i - j) 0 ⟨rfl, rfl, ⟨ls, rfl, lv_sub hl [0, 1, 2, 3, 4, 5, 6] rfl⟩, hS, ⟨Nat.zero_le _, by rw [upR_0]; exact hW⟩⟩ ?_
                        intro j H locs cells slots fr hI ih
                        obtain ⟨rfl, rfl, ⟨ls, rfl, hl⟩, hS, ⟨hlj, hW⟩⟩ := hI
                        by_cases hj : j < i
                        · refine lv_iload hx hb dX3_copy_157 (lv_at hl 0 rfl) ?_
                          refine lv_iload hx hb dX3_copy_159 (lv_at hl 6 rfl) ?_
                          refine lv_icmp_ge (tgt := 192) hx hb dX3_copy_161 (by decide) (fun h => absurd h (nI_ge hj (by omega))) (fun _ => ?_)
                          refine lv_aload_n hx hb dX3_copy_164 rfl (lv_at hl 1 rfl) ?_
                          refine m_get hc hW 21 (by decide) rfl q1021 rfl rfl dX3_copy_165 ?_
                          refine lv_bipush (v := 40) hx hb dX3_copy_168 (by decide) ?_
                          refine lv_iload_n hx hb dX3_copy_170 rfl (lv_at hl 4 rfl) ?_
                          refine lv_imul hx hb dX3_copy_171 (sm_topi (v := nI (40 * k2)) (pk_mul _ _) ?_)
                          refine lv_iload hx hb dX3_copy_172 (lv_at hl 5 rfl) ?_
                          refine lv_iadd hx hb dX3_copy_174 (sm_topi (v := nI (40 * k2 + b)) (nI_add _ _) ?_)
                          refine lv_iload hx hb dX3_copy_175 (lv_at hl 0 rfl) ?_
                          refine lv_iadd hx hb dX3_copy_177 (sm_topi (v := nI (40 * k2 + b + j)) (nI_add _ _) ?_)
                          refine lv_aload_n hx hb dX3_copy_178 rfl (lv_at hl 1 rfl) ?_
                          refine m_get hc hW 22 (by decide) rfl q1022 rfl rfl dX3_copy_179 ?_
                          refine lv_iload hx hb dX3_copy_182 (lv_at hl 0 rfl) ?_
                          refine m_lld hc hW 22 rfl (n := 40) rfl (ix_nI (by omega) (by decide)) dX3_copy_184 ?_
                          refine sm_topl (v := g 21 (40 * k + a + j)) (by rw [upR_ne (by decide), upR, if_pos ⟨rfl, by omega, by omega⟩, Nat.sub_zero]) ?_
                          refine m_lst hc hW hS 21 rfl (n := 160) rfl (ix_nI (by omega) (by decide)) dX3_copy_185 (fun H locs hW hS hz => ?_)
                          refine lv_iinc (v := nI (j + 1)) (lv' := [(6, .int (nI (j + 1))), (0, .ref (ad 23)), (1, .int (nI k)), (2, .int (nI a)), (3, .int (nI k2)), (4, .int (nI b)), (5, .int (nI i))]) hx hb dX3_copy_186 hl (k := 0) rfl (nI_1 _) (by decide) rfl (fun ls hl => ?_)
                          refine lv_goto (tgt := 157) hx hb dX3_copy_189 (by decide) ?_
                          rw [upR_s (c := fun q => g 21 (40 * k + a + q)) rfl] at hW
                          exact ih (j + 1) _ _ _ _ _ ⟨rfl, rfl, ⟨ls, rfl, lv_sub hl [0, 1, 2, 3, 4, 5, 6] rfl⟩, hS, hj, hW⟩ (by omega)
                        · have hji : j = i := by omega
                          subst hji
                          refine lv_iload hx hb dX3_copy_157 (lv_at hl 0 rfl) ?_
                          refine lv_iload hx hb dX3_copy_159 (lv_at hl 6 rfl) ?_
                          refine lv_icmp_ge (tgt := 192) hx hb dX3_copy_161 (by decide) (fun _ => ?_) (fun h => absurd (nI_le (by omega) (by omega)) h)
                          refine lv_iload hx hb dX3_copy_192 (lv_at hl 6 rfl) ?_
                          exact ri_W hx hb hr hlk hS (by simp only [copyM, hclk, hclk2, hcla, hclb, hcln, if_pos c_212, if_pos c_213, if_neg c_214, if_neg c_215, if_pos c_216, if_neg c_217, if_neg c_218, if_neg c_219, if_neg c_220, if_pos c_221]) (by simp only [MP3, copyM, hclk, hclk2, hcla, hclb, hcln, if_pos c_212, if_pos c_213, if_neg c_214, if_neg c_215, if_pos c_216, if_neg c_217, if_neg c_218, if_neg c_219, if_neg c_220, if_pos c_221]; exact ⟨f, _, Jk.rf, by unfold upR; funext q; simp, hW⟩) dX3_copy_194
                    · refine lv_aload_n hx hb dX3_copy_110 rfl (lv_at hl 0 rfl) ?_
                      refine lv_ldc (v := (-1000000001)) hx hb hown (hts _ q1079) dX3_copy_111 ?_
                      refine cv_W1 (rest := []) hc (M_finds l hW (-1000000001) 0 (ix_eq (k := 0) (by decide) (by decide) (by decide))) (lw_V q1075 q1077 qs28 q70 q1078) nd_X3_finds ⟨Nat.le_of_ble_eq_true rfl, Nat.le_of_ble_eq_true rfl⟩ (MW.recv hK hW) rfl hl.1 rfl (Nat.le_of_ble_eq_true rfl) dX3_copy_113 ⟨Nat.le_of_ble_eq_true rfl, Nat.le_of_ble_eq_true rfl⟩ hS (fun _ h => h) (fun H locs hW hS hz hk => ?_)
                      exact ri_W hx hb hr hlk hS (by simp only [copyM, hclk, hclk2, hcla, hclb, hcln, if_pos c_212, if_pos c_213, if_neg c_214, if_neg c_215, if_pos c_216, if_neg c_217, if_neg c_218, if_neg c_219, if_neg c_220, if_neg c_221]) (by simp only [MP3, copyM, hclk, hclk2, hcla, hclb, hcln, if_pos c_212, if_pos c_213, if_neg c_214, if_neg c_215, if_pos c_216, if_neg c_217, if_neg c_218, if_neg c_219, if_neg c_220, if_neg c_221]; exact MW.mp hW) dX3_copy_116
          · refine lv_aload_n hx hb dX3_copy_62 rfl (lv_at hl 0 rfl) ?_
            refine lv_ldc (v := (-1000000003)) hx hb hown (hts _ q1139) dX3_copy_63 ?_
            refine cv_W1 (rest := []) hc (M_finds l hW (-1000000003) 2 (ix_eq (k := 2) (by decide) (by decide) (by decide))) (lw_V q1075 q1077 qs28 q70 q1078) nd_X3_finds ⟨Nat.le_of_ble_eq_true rfl, Nat.le_of_ble_eq_true rfl⟩ (MW.recv hK hW) rfl hl.1 rfl (Nat.le_of_ble_eq_true rfl) dX3_copy_65 ⟨Nat.le_of_ble_eq_true rfl, Nat.le_of_ble_eq_true rfl⟩ hS (fun _ h => h) (fun H locs hW hS hz hk => ?_)
            exact ri_W hx hb hr hlk hS (by simp only [copyM, hclk, hclk2, if_pos c_212, if_pos c_213, if_neg c_214, if_neg c_215, if_neg c_216]) (by simp only [MP3, copyM, hclk, hclk2, if_pos c_212, if_pos c_213, if_neg c_214, if_neg c_215, if_neg c_216]; exact MW.mp hW) dX3_copy_68
        · refine lv_aload_n hx hb dX3_copy_39 rfl (lv_at hl 0 rfl) ?_
          refine lv_ldcw (v := (-1000000006)) hx hb hown (hts _ q1384) dX3_copy_40 ?_
          refine cv_W1 (rest := []) hc (M_finds l hW (-1000000006) 5 (ix_eq (k := 5) (by decide) (by decide) (by decide))) (lw_V q1075 q1077 qs28 q70 q1078) nd_X3_finds ⟨Nat.le_of_ble_eq_true rfl, Nat.le_of_ble_eq_true rfl⟩ (MW.recv hK hW) rfl hl.1 rfl (Nat.le_of_ble_eq_true rfl) dX3_copy_43 ⟨Nat.le_of_ble_eq_true rfl, Nat.le_of_ble_eq_true rfl⟩ hS (fun _ h => h) (fun H locs hW hS hz hk => ?_)
          exact ri_W hx hb hr hlk hS (by simp only [copyM, hclk, hclk2, if_pos c_212, if_pos c_213, if_neg c_214, if_pos c_215]) (by simp only [MP3, copyM, hclk, hclk2, if_pos c_212, if_pos c_213, if_neg c_214, if_pos c_215]; exact MW.mp hW) dX3_copy_46
    · refine lv_aload_n hx hb dX3_copy_14 rfl (lv_at hl 0 rfl) ?_
      refine lv_ldc (v := (-1000000001)) hx hb hown (hts _ q1079) dX3_copy_15 ?_
      refine cv_W1 (rest := []) hc (M_finds l hW (-1000000001) 0 (ix_eq (k := 0) (by decide) (by decide) (by decide))) (lw_V q1075 q1077 qs28 q70 q1078) nd_X3_finds ⟨Nat.le_of_ble_eq_true rfl, Nat.le_of_ble_eq_true rfl⟩ (MW.recv hK hW) rfl hl.1 rfl (Nat.le_of_ble_eq_true rfl) dX3_copy_17 ⟨Nat.le_of_ble_eq_true rfl, Nat.le_of_ble_eq_true rfl⟩ hS (fun _ h => h) (fun H locs hW hS hz hk => ?_)
      exact ri_W hx hb hr hlk hS (by simp only [copyM, hclk, if_pos c_212, if_neg c_213]) (by simp only [MP3, copyM, hclk, if_pos c_212, if_neg c_213]; exact MW.mp hW) dX3_copy_20
