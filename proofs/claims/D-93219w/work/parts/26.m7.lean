/-! the reference's methods, 7: stopping -/
set_option maxRecDepth 100000
theorem stgN_0 {s : Nat → Int32} {t : Int32} : ∀ {n : Nat}, stgN s t n = true → (0 ≤ t ∧ t ≤ (1 <<< (s 1 &&& 31)) - 1) ∧ onesP t ≤ 10
  | 0, h => of_decide_eq_true h
  | n + 1, h => by
    unfold stgN at h
    rw [Bool.and_eq_true] at h
    exact stgN_0 h.1
theorem stgN_g {s : Nat → Int32} {t : Int32} {g : Nat} : ∀ {n : Nat}, stgN s t n = true → g < n → sBit t g = 0 ∨ s (gp g 7) = 0
  | 0, _, hg => absurd hg (Nat.not_lt_zero g)
  | n + 1, h, hg => by
    unfold stgN at h
    rw [Bool.and_eq_true] at h
    rcases Nat.lt_or_ge g n with q | q
    · exact stgN_g h.1 q
    · have : g = n := by omega
      subst this
      exact of_decide_eq_true h.2
theorem stgN_ex {s : Nat → Int32} {R N : Nat} {t : Int32} (hO : OkN s R N) (h : stgN s t N = true) : ∃ T, T < 2 ^ 20 ∧ t = nI T := by
  obtain ⟨⟨h0, h1⟩, -⟩ := stgN_0 h
  have hp : 2 ^ N ≤ 2 ^ 20 := Nat.pow_le_pow_right (by decide) hO.2.1
  have hq : 0 < 2 ^ N := Nat.pos_of_ne_zero (by simp)
  rw [hO.2.2.2.1, sh_lim N (by have := hO.2.1; omega)] at h1
  obtain ⟨T, hT, e⟩ := ex_le (2 ^ N - 1) rfl (by omega) h0 h1
  exact ⟨T, by omega, e⟩
/-- one part of the set is tried: the best so far -/
def stB (s : Nat → Int32) (N : Nat) (coin least t : Int32) (b : Int32 × Int32) : Int32 × Int32 :=
  if coin < costN s t N then b
  else if freshP (shN s t 1 N) < least then b
  else if smokesP (shN s t 1 N) = true then b
  else if b.1 < 0 then (t, lostP (shN s t 1 N))
  else if lostP (shN s t 1 N) < b.2 then (t, lostP (shN s t 1 N))
  else if lostP (shN s t 1 N) = b.2 then (if onesP b.1 ≤ onesP t then b else (t, lostP (shN s t 1 N)))
  else b
def stR (s : Nat → Int32) (N : Nat) (coin least set : Int32) : Nat → Int32 → Int32 × Int32 → Int32 × Int32
  | 0, _, b => b
  | k + 1, t, b => if t = set then stB s N coin least t b else stR s N coin least set k ((t - set) &&& set) (stB s N coin least t b)
def stP (s : Nat → Int32) (N : Nat) (coin least set : Int32) : Int32 × Int32 := stR s N coin least set (set.toNatClampNeg + 1) 0 (-1, 0)
def stopM (f : Nat → Nat → Int32) (x coin least w : Int32) : Int32 × (Nat → Nat → Int32) :=
  if stgN (f 0) x (f 0 1).toNatClampNeg = true then
    if 0 ≤ coin ∧ coin ≤ 999 then
      if 0 ≤ least ∧ least ≤ 99999 then
        if 0 ≤ w ∧ w ≤ 2 then
          if 0 ≤ (stP (f 0) (f 0 1).toNatClampNeg coin least x).1 then
            (if w = 0 then (stP (f 0) (f 0 1).toNatClampNeg coin least x).1 else if w = 1 then (stP (f 0) (f 0 1).toNatClampNeg coin least x).2 else costN (f 0) (stP (f 0) (f 0 1).toNatClampNeg coin least x).1 (f 0 1).toNatClampNeg, f)
          else NON f
        else BEY f
      else BEY f
    else BEY f
  else BEY f
theorem nd_X3_stop : yX3_stop.cls = "SmokeLeansModel" ∧ yX3_stop.cls ≠ "java/lang/invoke/MethodHandle" ∧ yX3_stop.cls ≠ "java/lang/invoke/VarHandle" ∧ (parseMethodDescriptor yX3_stop.desc).map (fun d => d.parameters.length) = some 4 := by decide +kernel
set_option maxHeartbeats 8000000 in
theorem M_stop (l : Launch) {G : GD} {A : Nat → Prop} {f : Nat → Nat → Int32} {g : Nat → Nat → Int64} {ad : Nat → Nat} {H0 : Heap} (hW : MW G A f g ad H0) {R N : Nat} (hO : OkN (f 0) R N) (x coin least w : Int32) : MetW l G yX3_stop cX3_stop 11 (some .int) 5 0 0 A [.ref (ad 23), .int x, .int coin, .int least, .int w] H0 (some (.int ((stopM f x coin least w).1))) (fun H => MP G A (stopM f x coin least w).2 g ad H) := by
  refine mx_of (by decide) (Nat.le_of_ble_eq_true rfl) ?_
  intro p e s m below meth c hx hb hr hc hlk hnm hs0 ls hl
  subst hs0
  have hown := hc.2.2.2.1
  have hts := hc.2.2.2.2.1
  have hK := hc.2.2.2.2.2
  have hl : lv_has ls 11 [(0, .ref (ad 23)), (1, .int x), (2, .int coin), (3, .int least), (4, .int w)] := hl
  have hS : va_S A s.heap s.heap [] := va_S.rf
  refine lv_aload_n hx hb dX3_stop_0 rfl (lv_at hl 0 rfl) ?_
  refine lv_iload_n hx hb dX3_stop_1 rfl (lv_at hl 1 rfl) ?_
  refine cv_R1 (rest := []) hc (M_isStopping l hW (R := R) (N := N) hO x) (lw_V q1317 q1319 qs60 q70 q1320) nd_X3_isStopping ⟨Nat.le_of_ble_eq_true rfl, Nat.le_of_ble_eq_true rfl⟩ (MW.recv hK hW) rfl hl.1 rfl (Nat.le_of_ble_eq_true rfl) dX3_stop_2 ⟨Nat.le_of_ble_eq_true rfl, Nat.le_of_ble_eq_true rfl⟩ ?_
  refine bi_eq (tgt := 45) hx hb dX3_stop_5 (by decide) (fun c_130 => ?_) (fun c_130 => ?_)
  · refine lv_aload_n hx hb dX3_stop_45 rfl (lv_at hl 0 rfl) ?_
    refine lv_ldc (v := (-1000000001)) hx hb hown (hts _ q1079) dX3_stop_46 ?_
    refine cv_W1 (rest := []) hc (M_finds l hW (-1000000001) 0 (ix_eq (k := 0) (by decide) (by decide) (by decide))) (lw_V q1075 q1077 qs28 q70 q1078) nd_X3_finds ⟨Nat.le_of_ble_eq_true rfl, Nat.le_of_ble_eq_true rfl⟩ (MW.recv hK hW) rfl hl.1 rfl (Nat.le_of_ble_eq_true rfl) dX3_stop_48 ⟨Nat.le_of_ble_eq_true rfl, Nat.le_of_ble_eq_true rfl⟩ hS (fun _ h => h) (fun H locs hW hS hz hk => ?_)
    exact ri_W hx hb hr hlk hS (by simp only [stopM, hO.cl1, if_neg c_130]) (by simp only [stopM, hO.cl1, if_neg c_130]; exact MW.mp hW) dX3_stop_51
  · refine lv_iload_n hx hb dX3_stop_8 rfl (lv_at hl 2 rfl) ?_
    refine lv_i2l hx hb dX3_stop_9 rfl ?_
    refine lv_lconst (v := (0 : Int32).toInt64) hx hb dX3_stop_10 (by decide) ?_
    refine lv_ldc2 (v := 999) hx hb hown (hts _ q1324) dX3_stop_11 (sm_topl (v := (999 : Int32).toInt64) (by decide) ?_)
    refine cs_R1 (rest := []) hc (M_in32 l coin 0 999) (lw_S q1089 q1090 q70 q1091) nd_X3_in ⟨Nat.le_of_ble_eq_true rfl, Nat.le_of_ble_eq_true rfl⟩ rfl hl.1 rfl (Nat.le_of_ble_eq_true rfl) dX3_stop_14 ⟨Nat.le_of_ble_eq_true rfl, Nat.le_of_ble_eq_true rfl⟩ ?_
    refine bi_eq (tgt := 45) hx hb dX3_stop_17 (by decide) (fun c_131 => ?_) (fun c_131 => ?_)
    · refine lv_aload_n hx hb dX3_stop_45 rfl (lv_at hl 0 rfl) ?_
      refine lv_ldc (v := (-1000000001)) hx hb hown (hts _ q1079) dX3_stop_46 ?_
      refine cv_W1 (rest := []) hc (M_finds l hW (-1000000001) 0 (ix_eq (k := 0) (by decide) (by decide) (by decide))) (lw_V q1075 q1077 qs28 q70 q1078) nd_X3_finds ⟨Nat.le_of_ble_eq_true rfl, Nat.le_of_ble_eq_true rfl⟩ (MW.recv hK hW) rfl hl.1 rfl (Nat.le_of_ble_eq_true rfl) dX3_stop_48 ⟨Nat.le_of_ble_eq_true rfl, Nat.le_of_ble_eq_true rfl⟩ hS (fun _ h => h) (fun H locs hW hS hz hk => ?_)
      exact ri_W hx hb hr hlk hS (by simp only [stopM, hO.cl1, if_pos c_130, if_neg c_131]) (by simp only [stopM, hO.cl1, if_pos c_130, if_neg c_131]; exact MW.mp hW) dX3_stop_51
    · refine lv_iload_n hx hb dX3_stop_20 rfl (lv_at hl 3 rfl) ?_
      refine lv_i2l hx hb dX3_stop_21 rfl ?_
      refine lv_lconst (v := (0 : Int32).toInt64) hx hb dX3_stop_22 (by decide) ?_
      refine lv_ldc2 (v := 99999) hx hb hown (hts _ q1325) dX3_stop_23 (sm_topl (v := (99999 : Int32).toInt64) (by decide) ?_)
      refine cs_R1 (rest := []) hc (M_in32 l least 0 99999) (lw_S q1089 q1090 q70 q1091) nd_X3_in ⟨Nat.le_of_ble_eq_true rfl, Nat.le_of_ble_eq_true rfl⟩ rfl hl.1 rfl (Nat.le_of_ble_eq_true rfl) dX3_stop_26 ⟨Nat.le_of_ble_eq_true rfl, Nat.le_of_ble_eq_true rfl⟩ ?_
      refine bi_eq (tgt := 45) hx hb dX3_stop_29 (by decide) (fun c_132 => ?_) (fun c_132 => ?_)
      · refine lv_aload_n hx hb dX3_stop_45 rfl (lv_at hl 0 rfl) ?_
        refine lv_ldc (v := (-1000000001)) hx hb hown (hts _ q1079) dX3_stop_46 ?_
        refine cv_W1 (rest := []) hc (M_finds l hW (-1000000001) 0 (ix_eq (k := 0) (by decide) (by decide) (by decide))) (lw_V q1075 q1077 qs28 q70 q1078) nd_X3_finds ⟨Nat.le_of_ble_eq_true rfl, Nat.le_of_ble_eq_true rfl⟩ (MW.recv hK hW) rfl hl.1 rfl (Nat.le_of_ble_eq_true rfl) dX3_stop_48 ⟨Nat.le_of_ble_eq_true rfl, Nat.le_of_ble_eq_true rfl⟩ hS (fun _ h => h) (fun H locs hW hS hz hk => ?_)
        exact ri_W hx hb hr hlk hS (by simp only [stopM, hO.cl1, if_pos c_130, if_pos c_131, if_neg c_132]) (by simp only [stopM, hO.cl1, if_pos c_130, if_pos c_131, if_neg c_132]; exact MW.mp hW) dX3_stop_51
      · refine lv_iload hx hb dX3_stop_32 (lv_at hl 4 rfl) ?_
        refine lv_i2l hx hb dX3_stop_34 rfl ?_
        refine lv_lconst (v := (0 : Int32).toInt64) hx hb dX3_stop_35 (by decide) ?_
        refine lv_ldc2 (v := 2) hx hb hown (hts _ q1307) dX3_stop_36 (sm_topl (v := (2 : Int32).toInt64) (by decide) ?_)
        refine cs_R1 (rest := []) hc (M_in32 l w 0 2) (lw_S q1089 q1090 q70 q1091) nd_X3_in ⟨Nat.le_of_ble_eq_true rfl, Nat.le_of_ble_eq_true rfl⟩ rfl hl.1 rfl (Nat.le_of_ble_eq_true rfl) dX3_stop_39 ⟨Nat.le_of_ble_eq_true rfl, Nat.le_of_ble_eq_true rfl⟩ ?_
        refine bi_ne (tgt := 52) hx hb dX3_stop_42 (by decide) (fun c_133 => ?_) (fun c_133 => ?_)
        · obtain ⟨T, hT, rfl⟩ := stgN_ex hO c_130
          have hclT : (nI T).toNatClampNeg = T := nI_clamp (by omega)
          obtain ⟨a0, b0, n0, z0, hW⟩ := AX.of hW
          rw [← upA_self (f := f) (k := 0)] at hW
          refine lv_iconst (v := (-1)) hx hb dX3_stop_52 (by decide) ?_
          refine lv_istore (lv' := [(5, .int (-1)), (0, .ref (ad 23)), (1, .int (nI T)), (2, .int coin), (3, .int least), (4, .int w)]) hx hb dX3_stop_53 hl (by decide) rfl (fun ls hl => ?_)
          refine lv_iconst (v := 0) hx hb dX3_stop_55 (by decide) ?_
          refine lv_istore (lv' := [(6, .int 0), (5, .int (-1)), (0, .ref (ad 23)), (1, .int (nI T)), (2, .int coin), (3, .int least), (4, .int w)]) hx hb dX3_stop_56 hl (by decide) rfl (fun ls hl => ?_)
          refine lv_iconst (v := 0) hx hb dX3_stop_58 (by decide) ?_
          refine lv_istore (lv' := [(7, .int 0), (6, .int 0), (5, .int (-1)), (0, .ref (ad 23)), (1, .int (nI T)), (2, .int coin), (3, .int least), (4, .int w)]) hx hb dX3_stop_59 hl (by decide) rfl (fun ls hl => ?_)
          refine lv_iconst (v := 1) hx hb dX3_stop_61 (by decide) ?_
          refine lv_istore (lv' := [(8, .int 1), (7, .int 0), (6, .int 0), (5, .int (-1)), (0, .ref (ad 23)), (1, .int (nI T)), (2, .int coin), (3, .int least), (4, .int w)]) hx hb dX3_stop_62 hl (by decide) rfl (fun ls hl => ?_)
          refine lv_iload hx hb dX3_stop_64 (lv_at hl 0 rfl) ?_
          refine lv_if_eq (tgt := 194) hx hb dX3_stop_66 (by decide) (fun h => absurd h (by decide)) (fun _ => ?_)
          refine w_loopH (σ := Nat × Int32 × Int32) (fun x H locs cells slots fr => cells = 0 ∧ slots = 0 ∧ (∃ ls, fr = F0 m 69 ls [] ∧ lv_has ls 11 [(7, .int (nI x.1)), (8, .int 1), (6, .int x.2.2), (5, .int x.2.1), (0, .ref (ad 23)), (1, .int (nI T)), (2, .int coin), (3, .int least), (4, .int w)]) ∧ va_S A s.heap H locs ∧ (x.1 &&& T = x.1 ∧ (∃ k, T - x.1 < k ∧ stR (f 0) N coin least (nI T) k (nI x.1) (x.2.1, x.2.2) = stP (f 0) N coin least (nI T)) ∧ ∃ a b n z, MW G A (airF (upA f 0 (f 0)) a b n z) g ad H)) (fun x => T - x.1) (0, -1, 0) ⟨rfl, rfl, ⟨ls, rfl, lv_sub hl [1, 0, 2, 3, 4, 5, 6, 7, 8] rfl⟩, hS, Nat.zero_and T, ⟨T + 1, by omega, by rw [stP, hclT]; rfl⟩, a0, b0, n0, z0, hW⟩ ?_
          rintro ⟨t0, b1, b2⟩ H locs cells slots fr ⟨rfl, rfl, ⟨ls, rfl, hl⟩, hS, hsub, ⟨k, hk, hrun⟩, a0, b0, n0, z0, hW⟩ ih
          have hl : lv_has ls 11 [(7, .int (nI t0)), (8, .int 1), (6, .int b2), (5, .int b1), (0, .ref (ad 23)), (1, .int (nI T)), (2, .int coin), (3, .int least), (4, .int w)] := hl
          have hsub : t0 &&& T = t0 := hsub
          have hk : T - t0 < k := hk
          have hrun : stR (f 0) N coin least (nI T) k (nI t0) (b1, b2) = stP (f 0) N coin least (nI T) := hrun
          obtain ⟨k, rfl⟩ : ∃ k', k = k' + 1 := ⟨k - 1, by omega⟩
          have ht0 : t0 ≤ T := by rw [← hsub]; exact Nat.and_le_right
          have hO1 : OkN (shN (f 0) (nI t0) 1 N) R N := OkN_sh (nI t0) (Or.inr rfl) N hO
          have hbk : shN (shN (f 0) (nI t0) 1 N) (nI t0) 0 N = f 0 := shN_back fun q hq hb => (stgN_g c_130 hq).resolve_left (fun e => by have := hO.2.1; rw [sBit_sub (by omega) (by omega) hsub hb] at e; exact absurd e (by decide))
          refine lv_aload_n hx hb dX3_stop_69 rfl (lv_at hl 4 rfl) ?_
          refine lv_iload hx hb dX3_stop_70 (lv_at hl 0 rfl) ?_
          refine cv_R1 (rest := []) hc (M_costs l hW (R := R) (N := N) hO (nI t0)) (lw_V q1326 q1328 qs61 q70 q1329) nd_X3_costs ⟨Nat.le_of_ble_eq_true rfl, Nat.le_of_ble_eq_true rfl⟩ (MW.recv hK hW) rfl hl.1 rfl (Nat.le_of_ble_eq_true rfl) dX3_stop_72 ⟨Nat.le_of_ble_eq_true rfl, Nat.le_of_ble_eq_true rfl⟩ ?_
          refine sm_topi (v := costN (f 0) (nI t0) N) rfl ?_
          refine lv_iload_n hx hb dX3_stop_75 rfl (lv_at hl 6 rfl) ?_
          refine lv_icmp_gt (tgt := 170) hx hb dX3_stop_76 (by decide) (fun c_134 => ?_) (fun c_134 => ?_)
          · have hst : stB (f 0) N coin least (nI t0) (b1, b2) = (b1, b2) := by simp only [stB, if_pos c_134]
            refine lv_iload hx hb dX3_stop_170 (lv_at hl 0 rfl) ?_
            refine lv_iload_n hx hb dX3_stop_172 rfl (lv_at hl 5 rfl) ?_
            refine lv_icmp_eq (tgt := 180) hx hb dX3_stop_173 (by decide) (fun c_135 => ?_) (fun c_135 => ?_)
            · refine lv_iconst (v := 0) hx hb dX3_stop_180 (by decide) ?_
              refine lv_istore (lv' := [(8, .int 0), (7, .int (nI t0)), (6, .int b2), (5, .int b1), (0, .ref (ad 23)), (1, .int (nI T)), (2, .int coin), (3, .int least), (4, .int w)]) hx hb dX3_stop_181 hl (by decide) rfl (fun ls hl => ?_)
              refine lv_iload hx hb dX3_stop_183 (lv_at hl 1 rfl) ?_
              refine lv_iload_n hx hb dX3_stop_185 rfl (lv_at hl 5 rfl) ?_
              refine lv_isub hx hb dX3_stop_186 ?_
              refine lv_iload_n hx hb dX3_stop_187 rfl (lv_at hl 5 rfl) ?_
              refine lv_iand hx hb dX3_stop_188 ?_
              refine lv_istore (lv' := [(7, .int (((nI t0) - (nI T)) &&& (nI T))), (8, .int 0), (6, .int b2), (5, .int b1), (0, .ref (ad 23)), (1, .int (nI T)), (2, .int coin), (3, .int least), (4, .int w)]) hx hb dX3_stop_189 hl (by decide) rfl (fun ls hl => ?_)
              refine lv_goto (tgt := 64) hx hb dX3_stop_191 (by decide) ?_
              refine lv_iload hx hb dX3_stop_64 (lv_at hl 1 rfl) ?_
              refine lv_if_eq (tgt := 194) hx hb dX3_stop_66 (by decide) (fun _ => ?_) (fun h => absurd (by decide) h)
              have hfin : stP (f 0) N coin least (nI T) = (b1, b2) := by rw [← hrun, stR, if_pos c_135, hst]
              refine lv_iload hx hb dX3_stop_194 (lv_at hl 3 rfl) ?_
              refine lv_if_ge (tgt := 208) hx hb dX3_stop_196 (by decide) (fun c_136 => ?_) (fun c_136 => ?_)
              · refine lv_iload hx hb dX3_stop_208 (lv_at hl 8 rfl) ?_
                refine lv_if_ne (tgt := 218) hx hb dX3_stop_210 (by decide) (fun c_137 => ?_) (fun c_137 => ?_)
                · refine lv_iload hx hb dX3_stop_218 (lv_at hl 8 rfl) ?_
                  refine lv_iconst (v := 1) hx hb dX3_stop_220 (by decide) ?_
                  refine lv_icmp_ne (tgt := 229) hx hb dX3_stop_221 (by decide) (fun c_138 => ?_) (fun c_138 => ?_)
                  · refine lv_aload_n hx hb dX3_stop_229 rfl (lv_at hl 4 rfl) ?_
                    refine lv_iload hx hb dX3_stop_230 (lv_at hl 3 rfl) ?_
                    refine cv_R1 (rest := []) hc (M_costs l hW (R := R) (N := N) hO b1) (lw_V q1326 q1328 qs61 q70 q1329) nd_X3_costs ⟨Nat.le_of_ble_eq_true rfl, Nat.le_of_ble_eq_true rfl⟩ (MW.recv hK hW) rfl hl.1 rfl (Nat.le_of_ble_eq_true rfl) dX3_stop_232 ⟨Nat.le_of_ble_eq_true rfl, Nat.le_of_ble_eq_true rfl⟩ ?_
                    refine sm_topi (v := costN (f 0) b1 N) rfl ?_
                    exact ri_W hx hb hr hlk hS (by simp only [stopM, hO.cl1, hfin, if_pos c_130, if_pos c_131, if_pos c_132, if_pos c_133, if_pos c_136, if_neg c_137, if_neg c_138]) (by simp only [stopM, hO.cl1, hfin, if_pos c_130, if_pos c_131, if_pos c_132, if_pos c_133, if_pos c_136, if_neg c_137, if_neg c_138]; exact AX.mp ⟨_, _, _, _, by rw [upA_self] at hW; exact hW⟩) dX3_stop_235
                  · refine lv_iload hx hb dX3_stop_224 (lv_at hl 2 rfl) ?_
                    refine lv_goto (tgt := 235) hx hb dX3_stop_226 (by decide) ?_
                    exact ri_W hx hb hr hlk hS (by simp only [stopM, hO.cl1, hfin, if_pos c_130, if_pos c_131, if_pos c_132, if_pos c_133, if_pos c_136, if_neg c_137, if_pos c_138]) (by simp only [stopM, hO.cl1, hfin, if_pos c_130, if_pos c_131, if_pos c_132, if_pos c_133, if_pos c_136, if_neg c_137, if_pos c_138]; exact AX.mp ⟨_, _, _, _, by rw [upA_self] at hW; exact hW⟩) dX3_stop_235
                · refine lv_iload hx hb dX3_stop_213 (lv_at hl 3 rfl) ?_
                  refine lv_goto (tgt := 235) hx hb dX3_stop_215 (by decide) ?_
                  exact ri_W hx hb hr hlk hS (by simp only [stopM, hO.cl1, hfin, if_pos c_130, if_pos c_131, if_pos c_132, if_pos c_133, if_pos c_136, if_pos c_137]) (by simp only [stopM, hO.cl1, hfin, if_pos c_130, if_pos c_131, if_pos c_132, if_pos c_133, if_pos c_136, if_pos c_137]; exact AX.mp ⟨_, _, _, _, by rw [upA_self] at hW; exact hW⟩) dX3_stop_235
              · refine lv_aload_n hx hb dX3_stop_199 rfl (lv_at hl 4 rfl) ?_
                refine lv_ldc (v := (-1000000004)) hx hb hown (hts _ q1308) dX3_stop_200 ?_
                rw [upA_self] at hW
                refine cv_W1 (rest := []) hc (M_finds l hW (-1000000004) 3 (ix_eq (k := 3) (by decide) (by decide) (by decide))) (lw_V q1075 q1077 qs28 q70 q1078) nd_X3_finds ⟨Nat.le_of_ble_eq_true rfl, Nat.le_of_ble_eq_true rfl⟩ (MW.recv hK hW) rfl hl.1 rfl (Nat.le_of_ble_eq_true rfl) dX3_stop_202 ⟨Nat.le_of_ble_eq_true rfl, Nat.le_of_ble_eq_true rfl⟩ hS (fun _ h => h) (fun H locs hW hS hz hk => ?_)
                rw [cntP, airF_up (by decide)] at hW
                refine lv_goto (tgt := 235) hx hb dX3_stop_205 (by decide) ?_
                exact ri_W hx hb hr hlk hS (by simp only [stopM, hO.cl1, hfin, if_pos c_130, if_pos c_131, if_pos c_132, if_pos c_133, if_neg c_136]) (by simp only [stopM, hO.cl1, hfin, if_pos c_130, if_pos c_131, if_pos c_132, if_pos c_133, if_neg c_136]; exact AX.mp ⟨_, _, _, _, hW⟩) dX3_stop_235
            · refine lv_iconst (v := 1) hx hb dX3_stop_176 (by decide) ?_
              refine lv_goto (tgt := 181) hx hb dX3_stop_177 (by decide) ?_
              refine lv_istore (lv' := [(8, .int 1), (7, .int (nI t0)), (6, .int b2), (5, .int b1), (0, .ref (ad 23)), (1, .int (nI T)), (2, .int coin), (3, .int least), (4, .int w)]) hx hb dX3_stop_181 hl (by decide) rfl (fun ls hl => ?_)
              refine lv_iload hx hb dX3_stop_183 (lv_at hl 1 rfl) ?_
              refine lv_iload_n hx hb dX3_stop_185 rfl (lv_at hl 5 rfl) ?_
              refine lv_isub hx hb dX3_stop_186 ?_
              refine lv_iload_n hx hb dX3_stop_187 rfl (lv_at hl 5 rfl) ?_
              refine lv_iand hx hb dX3_stop_188 ?_
              refine lv_istore (lv' := [(7, .int (((nI t0) - (nI T)) &&& (nI T))), (8, .int 1), (6, .int b2), (5, .int b1), (0, .ref (ad 23)), (1, .int (nI T)), (2, .int coin), (3, .int least), (4, .int w)]) hx hb dX3_stop_189 hl (by decide) rfl (fun ls hl => ?_)
              refine lv_goto (tgt := 64) hx hb dX3_stop_191 (by decide) ?_
              refine lv_iload hx hb dX3_stop_64 (lv_at hl 1 rfl) ?_
              refine lv_if_eq (tgt := 194) hx hb dX3_stop_66 (by decide) (fun h => absurd h (by decide)) (fun _ => ?_)
              obtain ⟨t1, e1, h1, h2, h3⟩ := nx_gt (by omega) hsub (fun e => c_135 (by rw [e]))
              refine ih (t1, b1, b2) _ _ _ _ _ ⟨rfl, rfl, ⟨ls, rfl, ?_⟩, hS, h3, ⟨k, by omega, ?_⟩, _, _, _, _, hW⟩ (by show T - t1 < T - t0; omega)
              · show lv_has ls 11 [(7, .int (nI t1)), (8, .int 1), (6, .int b2), (5, .int b1), (0, .ref (ad 23)), (1, .int (nI T)), (2, .int coin), (3, .int least), (4, .int w)]
                rw [← e1]
                exact lv_sub hl [0, 1, 2, 3, 4, 5, 6, 7, 8] rfl
              · rw [← hrun, stR, if_neg c_135, e1, hst]
          · refine lv_aload_n hx hb dX3_stop_79 rfl (lv_at hl 4 rfl) ?_
            refine lv_iload hx hb dX3_stop_80 (lv_at hl 0 rfl) ?_
            refine lv_iconst (v := 1) hx hb dX3_stop_82 (by decide) ?_
            refine cv_W0 (rest := []) hc (M_shutsX l hW (R := R) (N := N) hO (nI t0) 1) (lw_V q1330 q1332 qs62 q70 q1333) nd_X3_shuts ⟨Nat.le_of_ble_eq_true rfl, Nat.le_of_ble_eq_true rfl⟩ (MW.recv hK hW) rfl hl.1 rfl (Nat.le_of_ble_eq_true rfl) dX3_stop_83 ⟨Nat.le_of_ble_eq_true rfl, Nat.le_of_ble_eq_true rfl⟩ hS (fun _ h => h) (fun H locs hW hS hz hk => ?_)
            refine lv_aload_n hx hb dX3_stop_86 rfl (lv_at hl 4 rfl) ?_
            refine cv_W0 (rest := []) hc (M_restsX l hW (R := R) (N := N) hO1) (lw_V q1233 q1235 qs51 q70 q1236) nd_X3_rests ⟨Nat.le_of_ble_eq_true rfl, Nat.le_of_ble_eq_true rfl⟩ (MW.recv hK hW) rfl hl.1 rfl (Nat.le_of_ble_eq_true rfl) dX3_stop_87 ⟨Nat.le_of_ble_eq_true rfl, Nat.le_of_ble_eq_true rfl⟩ hS (fun _ h => h) (fun H locs hq hS hz hk => ?_)
            obtain ⟨b_139, hW⟩ := hq
            have hW : AR G A (upA f 0 (shN (f 0) (nI t0) 1 N)) g ad b_139 H := hW
            refine lv_aload_n hx hb dX3_stop_90 rfl (lv_at hl 4 rfl) ?_
            refine cv_R1 (rest := []) hc (M_fresh l hW (R := R) (N := N) hO1) (lw_V q1277 q1279 qs56 q70 q1280) nd_X3_fresh ⟨Nat.le_of_ble_eq_true rfl, Nat.le_of_ble_eq_true rfl⟩ (MW.recv hK hW) rfl hl.1 rfl (Nat.le_of_ble_eq_true rfl) dX3_stop_91 ⟨Nat.le_of_ble_eq_true rfl, Nat.le_of_ble_eq_true rfl⟩ ?_
            refine sm_topi (v := freshN (shN (f 0) (nI t0) 1 N) (prP (shN (f 0) (nI t0) 1 N)) N) rfl ?_
            refine sm_topi (v := freshP (shN (f 0) (nI t0) 1 N)) (by rw [freshP, hO1.cl1]) ?_
            refine lv_iload_n hx hb dX3_stop_94 rfl (lv_at hl 7 rfl) ?_
            refine lv_icmp_lt (tgt := 109) hx hb dX3_stop_95 (by decide) (fun c_140 => ?_) (fun c_140 => ?_)
            · refine lv_iconst (v := 0) hx hb dX3_stop_109 (by decide) ?_
              refine lv_istore (lv' := [(9, .int 0), (7, .int (nI t0)), (8, .int 1), (6, .int b2), (5, .int b1), (0, .ref (ad 23)), (1, .int (nI T)), (2, .int coin), (3, .int least), (4, .int w)]) hx hb dX3_stop_110 hl (by decide) rfl (fun ls hl => ?_)
              refine lv_aload_n hx hb dX3_stop_112 rfl (lv_at hl 5 rfl) ?_
              refine cv_R1 (rest := []) hc (M_lost l hW (R := R) (N := N) hO1) (lw_V q1281 q1283 qs57 q70 q1284) nd_X3_lost ⟨Nat.le_of_ble_eq_true rfl, Nat.le_of_ble_eq_true rfl⟩ (MW.recv hK hW) rfl hl.1 rfl (Nat.le_of_ble_eq_true rfl) dX3_stop_113 ⟨Nat.le_of_ble_eq_true rfl, Nat.le_of_ble_eq_true rfl⟩ ?_
              refine sm_topi (v := freshN (shN (f 0) (nI t0) 1 N) (prP (shN (f 0) (nI t0) 1 N)) N * (shN (f 0) (nI t0) 1 N) 2) rfl ?_
              refine sm_topi (v := lostP (shN (f 0) (nI t0) 1 N)) (by rw [lostP, freshP, hO1.cl1]) ?_
              refine lv_istore (lv' := [(10, .int (lostP (shN (f 0) (nI t0) 1 N))), (9, .int 0), (7, .int (nI t0)), (8, .int 1), (6, .int b2), (5, .int b1), (0, .ref (ad 23)), (1, .int (nI T)), (2, .int coin), (3, .int least), (4, .int w)]) hx hb dX3_stop_116 hl (by decide) rfl (fun ls hl => ?_)
              refine lv_aload_n hx hb dX3_stop_118 rfl (lv_at hl 6 rfl) ?_
              refine lv_iload hx hb dX3_stop_119 (lv_at hl 2 rfl) ?_
              refine lv_iconst (v := 0) hx hb dX3_stop_121 (by decide) ?_
              refine cv_W0 (rest := []) hc (M_shutsX l hW (R := R) (N := N) hO1 (nI t0) 0) (lw_V q1330 q1332 qs62 q70 q1333) nd_X3_shuts ⟨Nat.le_of_ble_eq_true rfl, Nat.le_of_ble_eq_true rfl⟩ (MW.recv hK hW) rfl hl.1 rfl (Nat.le_of_ble_eq_true rfl) dX3_stop_122 ⟨Nat.le_of_ble_eq_true rfl, Nat.le_of_ble_eq_true rfl⟩ hS (fun _ h => h) (fun H locs hW hS hz hk => ?_)
              rw [hbk] at hW
              refine lv_iload hx hb dX3_stop_125 (lv_at hl 1 rfl) ?_
              refine lv_if_eq (tgt := 170) hx hb dX3_stop_127 (by decide) (fun _ => ?_) (fun h => absurd (by decide) h)
              have hst : stB (f 0) N coin least (nI t0) (b1, b2) = (b1, b2) := by simp only [stB, if_neg c_134, if_pos c_140]
              refine lv_iload hx hb dX3_stop_170 (lv_at hl 2 rfl) ?_
              refine lv_iload_n hx hb dX3_stop_172 rfl (lv_at hl 7 rfl) ?_
              refine lv_icmp_eq (tgt := 180) hx hb dX3_stop_173 (by decide) (fun c_141 => ?_) (fun c_141 => ?_)
              · refine lv_iconst (v := 0) hx hb dX3_stop_180 (by decide) ?_
                refine lv_istore (lv' := [(8, .int 0), (10, .int (lostP (shN (f 0) (nI t0) 1 N))), (9, .int 0), (7, .int (nI t0)), (6, .int b2), (5, .int b1), (0, .ref (ad 23)), (1, .int (nI T)), (2, .int coin), (3, .int least), (4, .int w)]) hx hb dX3_stop_181 hl (by decide) rfl (fun ls hl => ?_)
                refine lv_iload hx hb dX3_stop_183 (lv_at hl 3 rfl) ?_
                refine lv_iload_n hx hb dX3_stop_185 rfl (lv_at hl 7 rfl) ?_
                refine lv_isub hx hb dX3_stop_186 ?_
                refine lv_iload_n hx hb dX3_stop_187 rfl (lv_at hl 7 rfl) ?_
                refine lv_iand hx hb dX3_stop_188 ?_
                refine lv_istore (lv' := [(7, .int (((nI t0) - (nI T)) &&& (nI T))), (8, .int 0), (10, .int (lostP (shN (f 0) (nI t0) 1 N))), (9, .int 0), (6, .int b2), (5, .int b1), (0, .ref (ad 23)), (1, .int (nI T)), (2, .int coin), (3, .int least), (4, .int w)]) hx hb dX3_stop_189 hl (by decide) rfl (fun ls hl => ?_)
                refine lv_goto (tgt := 64) hx hb dX3_stop_191 (by decide) ?_
                refine lv_iload hx hb dX3_stop_64 (lv_at hl 1 rfl) ?_
                refine lv_if_eq (tgt := 194) hx hb dX3_stop_66 (by decide) (fun _ => ?_) (fun h => absurd (by decide) h)
                have hfin : stP (f 0) N coin least (nI T) = (b1, b2) := by rw [← hrun, stR, if_pos c_141, hst]
                refine lv_iload hx hb dX3_stop_194 (lv_at hl 5 rfl) ?_
                refine lv_if_ge (tgt := 208) hx hb dX3_stop_196 (by decide) (fun c_142 => ?_) (fun c_142 => ?_)
                · refine lv_iload hx hb dX3_stop_208 (lv_at hl 10 rfl) ?_
                  refine lv_if_ne (tgt := 218) hx hb dX3_stop_210 (by decide) (fun c_143 => ?_) (fun c_143 => ?_)
                  · refine lv_iload hx hb dX3_stop_218 (lv_at hl 10 rfl) ?_
                    refine lv_iconst (v := 1) hx hb dX3_stop_220 (by decide) ?_
                    refine lv_icmp_ne (tgt := 229) hx hb dX3_stop_221 (by decide) (fun c_144 => ?_) (fun c_144 => ?_)
                    · refine lv_aload_n hx hb dX3_stop_229 rfl (lv_at hl 6 rfl) ?_
                      refine lv_iload hx hb dX3_stop_230 (lv_at hl 5 rfl) ?_
                      refine cv_R1 (rest := []) hc (M_costs l hW (R := R) (N := N) hO b1) (lw_V q1326 q1328 qs61 q70 q1329) nd_X3_costs ⟨Nat.le_of_ble_eq_true rfl, Nat.le_of_ble_eq_true rfl⟩ (MW.recv hK hW) rfl hl.1 rfl (Nat.le_of_ble_eq_true rfl) dX3_stop_232 ⟨Nat.le_of_ble_eq_true rfl, Nat.le_of_ble_eq_true rfl⟩ ?_
                      refine sm_topi (v := costN (f 0) b1 N) rfl ?_
                      exact ri_W hx hb hr hlk hS (by simp only [stopM, hO.cl1, hfin, if_pos c_130, if_pos c_131, if_pos c_132, if_pos c_133, if_pos c_142, if_neg c_143, if_neg c_144]) (by simp only [stopM, hO.cl1, hfin, if_pos c_130, if_pos c_131, if_pos c_132, if_pos c_133, if_pos c_142, if_neg c_143, if_neg c_144]; exact AX.mp ⟨_, _, _, _, by rw [upA_self] at hW; exact hW⟩) dX3_stop_235
                    · refine lv_iload hx hb dX3_stop_224 (lv_at hl 4 rfl) ?_
                      refine lv_goto (tgt := 235) hx hb dX3_stop_226 (by decide) ?_
                      exact ri_W hx hb hr hlk hS (by simp only [stopM, hO.cl1, hfin, if_pos c_130, if_pos c_131, if_pos c_132, if_pos c_133, if_pos c_142, if_neg c_143, if_pos c_144]) (by simp only [stopM, hO.cl1, hfin, if_pos c_130, if_pos c_131, if_pos c_132, if_pos c_133, if_pos c_142, if_neg c_143, if_pos c_144]; exact AX.mp ⟨_, _, _, _, by rw [upA_self] at hW; exact hW⟩) dX3_stop_235
                  · refine lv_iload hx hb dX3_stop_213 (lv_at hl 5 rfl) ?_
                    refine lv_goto (tgt := 235) hx hb dX3_stop_215 (by decide) ?_
                    exact ri_W hx hb hr hlk hS (by simp only [stopM, hO.cl1, hfin, if_pos c_130, if_pos c_131, if_pos c_132, if_pos c_133, if_pos c_142, if_pos c_143]) (by simp only [stopM, hO.cl1, hfin, if_pos c_130, if_pos c_131, if_pos c_132, if_pos c_133, if_pos c_142, if_pos c_143]; exact AX.mp ⟨_, _, _, _, by rw [upA_self] at hW; exact hW⟩) dX3_stop_235
                · refine lv_aload_n hx hb dX3_stop_199 rfl (lv_at hl 6 rfl) ?_
                  refine lv_ldc (v := (-1000000004)) hx hb hown (hts _ q1308) dX3_stop_200 ?_
                  rw [upA_self] at hW
                  refine cv_W1 (rest := []) hc (M_finds l hW (-1000000004) 3 (ix_eq (k := 3) (by decide) (by decide) (by decide))) (lw_V q1075 q1077 qs28 q70 q1078) nd_X3_finds ⟨Nat.le_of_ble_eq_true rfl, Nat.le_of_ble_eq_true rfl⟩ (MW.recv hK hW) rfl hl.1 rfl (Nat.le_of_ble_eq_true rfl) dX3_stop_202 ⟨Nat.le_of_ble_eq_true rfl, Nat.le_of_ble_eq_true rfl⟩ hS (fun _ h => h) (fun H locs hW hS hz hk => ?_)
                  rw [cntP, airF_up (by decide)] at hW
                  refine lv_goto (tgt := 235) hx hb dX3_stop_205 (by decide) ?_
                  exact ri_W hx hb hr hlk hS (by simp only [stopM, hO.cl1, hfin, if_pos c_130, if_pos c_131, if_pos c_132, if_pos c_133, if_neg c_142]) (by simp only [stopM, hO.cl1, hfin, if_pos c_130, if_pos c_131, if_pos c_132, if_pos c_133, if_neg c_142]; exact AX.mp ⟨_, _, _, _, hW⟩) dX3_stop_235
              · refine lv_iconst (v := 1) hx hb dX3_stop_176 (by decide) ?_
                refine lv_goto (tgt := 181) hx hb dX3_stop_177 (by decide) ?_
                refine lv_istore (lv' := [(8, .int 1), (10, .int (lostP (shN (f 0) (nI t0) 1 N))), (9, .int 0), (7, .int (nI t0)), (6, .int b2), (5, .int b1), (0, .ref (ad 23)), (1, .int (nI T)), (2, .int coin), (3, .int least), (4, .int w)]) hx hb dX3_stop_181 hl (by decide) rfl (fun ls hl => ?_)
                refine lv_iload hx hb dX3_stop_183 (lv_at hl 3 rfl) ?_
                refine lv_iload_n hx hb dX3_stop_185 rfl (lv_at hl 7 rfl) ?_
                refine lv_isub hx hb dX3_stop_186 ?_
                refine lv_iload_n hx hb dX3_stop_187 rfl (lv_at hl 7 rfl) ?_
                refine lv_iand hx hb dX3_stop_188 ?_
                refine lv_istore (lv' := [(7, .int (((nI t0) - (nI T)) &&& (nI T))), (8, .int 1), (10, .int (lostP (shN (f 0) (nI t0) 1 N))), (9, .int 0), (6, .int b2), (5, .int b1), (0, .ref (ad 23)), (1, .int (nI T)), (2, .int coin), (3, .int least), (4, .int w)]) hx hb dX3_stop_189 hl (by decide) rfl (fun ls hl => ?_)
                refine lv_goto (tgt := 64) hx hb dX3_stop_191 (by decide) ?_
                refine lv_iload hx hb dX3_stop_64 (lv_at hl 1 rfl) ?_
                refine lv_if_eq (tgt := 194) hx hb dX3_stop_66 (by decide) (fun h => absurd h (by decide)) (fun _ => ?_)
                obtain ⟨t1, e1, h1, h2, h3⟩ := nx_gt (by omega) hsub (fun e => c_141 (by rw [e]))
                refine ih (t1, b1, b2) _ _ _ _ _ ⟨rfl, rfl, ⟨ls, rfl, ?_⟩, hS, h3, ⟨k, by omega, ?_⟩, _, _, _, _, hW⟩ (by show T - t1 < T - t0; omega)
                · show lv_has ls 11 [(7, .int (nI t1)), (8, .int 1), (6, .int b2), (5, .int b1), (0, .ref (ad 23)), (1, .int (nI T)), (2, .int coin), (3, .int least), (4, .int w)]
                  rw [← e1]
                  exact lv_sub hl [0, 1, 4, 5, 6, 7, 8, 9, 10] rfl
                · rw [← hrun, stR, if_neg c_141, e1, hst]
            · refine lv_aload_n hx hb dX3_stop_98 rfl (lv_at hl 4 rfl) ?_
              refine cv_R1 (rest := []) hc (M_smokes l hW (R := R) (N := N) hO1) (lw_V q1285 q1287 qs58 q70 q1288) nd_X3_smokes ⟨Nat.le_of_ble_eq_true rfl, Nat.le_of_ble_eq_true rfl⟩ (MW.recv hK hW) rfl hl.1 rfl (Nat.le_of_ble_eq_true rfl) dX3_stop_99 ⟨Nat.le_of_ble_eq_true rfl, Nat.le_of_ble_eq_true rfl⟩ ?_
              refine sm_topi (v := b2i (smkN (shN (f 0) (nI t0) 1 N) (prP (shN (f 0) (nI t0) 1 N)) N = true)) rfl ?_
              refine sm_topi (v := b2i (smokesP (shN (f 0) (nI t0) 1 N) = true)) (by rw [smokesP, hO1.cl1]) ?_
              refine bi_ne (tgt := 109) hx hb dX3_stop_102 (by decide) (fun c_145 => ?_) (fun c_145 => ?_)
              · refine lv_iconst (v := 0) hx hb dX3_stop_109 (by decide) ?_
                refine lv_istore (lv' := [(9, .int 0), (7, .int (nI t0)), (8, .int 1), (6, .int b2), (5, .int b1), (0, .ref (ad 23)), (1, .int (nI T)), (2, .int coin), (3, .int least), (4, .int w)]) hx hb dX3_stop_110 hl (by decide) rfl (fun ls hl => ?_)
                refine lv_aload_n hx hb dX3_stop_112 rfl (lv_at hl 5 rfl) ?_
                refine cv_R1 (rest := []) hc (M_lost l hW (R := R) (N := N) hO1) (lw_V q1281 q1283 qs57 q70 q1284) nd_X3_lost ⟨Nat.le_of_ble_eq_true rfl, Nat.le_of_ble_eq_true rfl⟩ (MW.recv hK hW) rfl hl.1 rfl (Nat.le_of_ble_eq_true rfl) dX3_stop_113 ⟨Nat.le_of_ble_eq_true rfl, Nat.le_of_ble_eq_true rfl⟩ ?_
                refine sm_topi (v := freshN (shN (f 0) (nI t0) 1 N) (prP (shN (f 0) (nI t0) 1 N)) N * (shN (f 0) (nI t0) 1 N) 2) rfl ?_
                refine sm_topi (v := lostP (shN (f 0) (nI t0) 1 N)) (by rw [lostP, freshP, hO1.cl1]) ?_
                refine lv_istore (lv' := [(10, .int (lostP (shN (f 0) (nI t0) 1 N))), (9, .int 0), (7, .int (nI t0)), (8, .int 1), (6, .int b2), (5, .int b1), (0, .ref (ad 23)), (1, .int (nI T)), (2, .int coin), (3, .int least), (4, .int w)]) hx hb dX3_stop_116 hl (by decide) rfl (fun ls hl => ?_)
                refine lv_aload_n hx hb dX3_stop_118 rfl (lv_at hl 6 rfl) ?_
                refine lv_iload hx hb dX3_stop_119 (lv_at hl 2 rfl) ?_
                refine lv_iconst (v := 0) hx hb dX3_stop_121 (by decide) ?_
                refine cv_W0 (rest := []) hc (M_shutsX l hW (R := R) (N := N) hO1 (nI t0) 0) (lw_V q1330 q1332 qs62 q70 q1333) nd_X3_shuts ⟨Nat.le_of_ble_eq_true rfl, Nat.le_of_ble_eq_true rfl⟩ (MW.recv hK hW) rfl hl.1 rfl (Nat.le_of_ble_eq_true rfl) dX3_stop_122 ⟨Nat.le_of_ble_eq_true rfl, Nat.le_of_ble_eq_true rfl⟩ hS (fun _ h => h) (fun H locs hW hS hz hk => ?_)
                rw [hbk] at hW
                refine lv_iload hx hb dX3_stop_125 (lv_at hl 1 rfl) ?_
                refine lv_if_eq (tgt := 170) hx hb dX3_stop_127 (by decide) (fun _ => ?_) (fun h => absurd (by decide) h)
                have hst : stB (f 0) N coin least (nI t0) (b1, b2) = (b1, b2) := by simp only [stB, if_neg c_134, if_neg c_140, if_pos c_145]
                refine lv_iload hx hb dX3_stop_170 (lv_at hl 2 rfl) ?_
                refine lv_iload_n hx hb dX3_stop_172 rfl (lv_at hl 7 rfl) ?_
                refine lv_icmp_eq (tgt := 180) hx hb dX3_stop_173 (by decide) (fun c_146 => ?_) (fun c_146 => ?_)
                · refine lv_iconst (v := 0) hx hb dX3_stop_180 (by decide) ?_
                  refine lv_istore (lv' := [(8, .int 0), (10, .int (lostP (shN (f 0) (nI t0) 1 N))), (9, .int 0), (7, .int (nI t0)), (6, .int b2), (5, .int b1), (0, .ref (ad 23)), (1, .int (nI T)), (2, .int coin), (3, .int least), (4, .int w)]) hx hb dX3_stop_181 hl (by decide) rfl (fun ls hl => ?_)
                  refine lv_iload hx hb dX3_stop_183 (lv_at hl 3 rfl) ?_
                  refine lv_iload_n hx hb dX3_stop_185 rfl (lv_at hl 7 rfl) ?_
                  refine lv_isub hx hb dX3_stop_186 ?_
                  refine lv_iload_n hx hb dX3_stop_187 rfl (lv_at hl 7 rfl) ?_
                  refine lv_iand hx hb dX3_stop_188 ?_
                  refine lv_istore (lv' := [(7, .int (((nI t0) - (nI T)) &&& (nI T))), (8, .int 0), (10, .int (lostP (shN (f 0) (nI t0) 1 N))), (9, .int 0), (6, .int b2), (5, .int b1), (0, .ref (ad 23)), (1, .int (nI T)), (2, .int coin), (3, .int least), (4, .int w)]) hx hb dX3_stop_189 hl (by decide) rfl (fun ls hl => ?_)
                  refine lv_goto (tgt := 64) hx hb dX3_stop_191 (by decide) ?_
                  refine lv_iload hx hb dX3_stop_64 (lv_at hl 1 rfl) ?_
                  refine lv_if_eq (tgt := 194) hx hb dX3_stop_66 (by decide) (fun _ => ?_) (fun h => absurd (by decide) h)
                  have hfin : stP (f 0) N coin least (nI T) = (b1, b2) := by rw [← hrun, stR, if_pos c_146, hst]
                  refine lv_iload hx hb dX3_stop_194 (lv_at hl 5 rfl) ?_
                  refine lv_if_ge (tgt := 208) hx hb dX3_stop_196 (by decide) (fun c_147 => ?_) (fun c_147 => ?_)
                  · refine lv_iload hx hb dX3_stop_208 (lv_at hl 10 rfl) ?_
                    refine lv_if_ne (tgt := 218) hx hb dX3_stop_210 (by decide) (fun c_148 => ?_) (fun c_148 => ?_)
                    · refine lv_iload hx hb dX3_stop_218 (lv_at hl 10 rfl) ?_
                      refine lv_iconst (v := 1) hx hb dX3_stop_220 (by decide) ?_
                      refine lv_icmp_ne (tgt := 229) hx hb dX3_stop_221 (by decide) (fun c_149 => ?_) (fun c_149 => ?_)
                      · refine lv_aload_n hx hb dX3_stop_229 rfl (lv_at hl 6 rfl) ?_
                        refine lv_iload hx hb dX3_stop_230 (lv_at hl 5 rfl) ?_
                        refine cv_R1 (rest := []) hc (M_costs l hW (R := R) (N := N) hO b1) (lw_V q1326 q1328 qs61 q70 q1329) nd_X3_costs ⟨Nat.le_of_ble_eq_true rfl, Nat.le_of_ble_eq_true rfl⟩ (MW.recv hK hW) rfl hl.1 rfl (Nat.le_of_ble_eq_true rfl) dX3_stop_232 ⟨Nat.le_of_ble_eq_true rfl, Nat.le_of_ble_eq_true rfl⟩ ?_
                        refine sm_topi (v := costN (f 0) b1 N) rfl ?_
                        exact ri_W hx hb hr hlk hS (by simp only [stopM, hO.cl1, hfin, if_pos c_130, if_pos c_131, if_pos c_132, if_pos c_133, if_pos c_147, if_neg c_148, if_neg c_149]) (by simp only [stopM, hO.cl1, hfin, if_pos c_130, if_pos c_131, if_pos c_132, if_pos c_133, if_pos c_147, if_neg c_148, if_neg c_149]; exact AX.mp ⟨_, _, _, _, by rw [upA_self] at hW; exact hW⟩) dX3_stop_235
                      · refine lv_iload hx hb dX3_stop_224 (lv_at hl 4 rfl) ?_
                        refine lv_goto (tgt := 235) hx hb dX3_stop_226 (by decide) ?_
                        exact ri_W hx hb hr hlk hS (by simp only [stopM, hO.cl1, hfin, if_pos c_130, if_pos c_131, if_pos c_132, if_pos c_133, if_pos c_147, if_neg c_148, if_pos c_149]) (by simp only [stopM, hO.cl1, hfin, if_pos c_130, if_pos c_131, if_pos c_132, if_pos c_133, if_pos c_147, if_neg c_148, if_pos c_149]; exact AX.mp ⟨_, _, _, _, by rw [upA_self] at hW; exact hW⟩) dX3_stop_235
                    · refine lv_iload hx hb dX3_stop_213 (lv_at hl 5 rfl) ?_
                      refine lv_goto (tgt := 235) hx hb dX3_stop_215 (by decide) ?_
                      exact ri_W hx hb hr hlk hS (by simp only [stopM, hO.cl1, hfin, if_pos c_130, if_pos c_131, if_pos c_132, if_pos c_133, if_pos c_147, if_pos c_148]) (by simp only [stopM, hO.cl1, hfin, if_pos c_130, if_pos c_131, if_pos c_132, if_pos c_133, if_pos c_147, if_pos c_148]; exact AX.mp ⟨_, _, _, _, by rw [upA_self] at hW; exact hW⟩) dX3_stop_235
                  · refine lv_aload_n hx hb dX3_stop_199 rfl (lv_at hl 6 rfl) ?_
                    refine lv_ldc (v := (-1000000004)) hx hb hown (hts _ q1308) dX3_stop_200 ?_
                    rw [upA_self] at hW
                    refine cv_W1 (rest := []) hc (M_finds l hW (-1000000004) 3 (ix_eq (k := 3) (by decide) (by decide) (by decide))) (lw_V q1075 q1077 qs28 q70 q1078) nd_X3_finds ⟨Nat.le_of_ble_eq_true rfl, Nat.le_of_ble_eq_true rfl⟩ (MW.recv hK hW) rfl hl.1 rfl (Nat.le_of_ble_eq_true rfl) dX3_stop_202 ⟨Nat.le_of_ble_eq_true rfl, Nat.le_of_ble_eq_true rfl⟩ hS (fun _ h => h) (fun H locs hW hS hz hk => ?_)
                    rw [cntP, airF_up (by decide)] at hW
                    refine lv_goto (tgt := 235) hx hb dX3_stop_205 (by decide) ?_
                    exact ri_W hx hb hr hlk hS (by simp only [stopM, hO.cl1, hfin, if_pos c_130, if_pos c_131, if_pos c_132, if_pos c_133, if_neg c_147]) (by simp only [stopM, hO.cl1, hfin, if_pos c_130, if_pos c_131, if_pos c_132, if_pos c_133, if_neg c_147]; exact AX.mp ⟨_, _, _, _, hW⟩) dX3_stop_235
                · refine lv_iconst (v := 1) hx hb dX3_stop_176 (by decide) ?_
                  refine lv_goto (tgt := 181) hx hb dX3_stop_177 (by decide) ?_
                  refine lv_istore (lv' := [(8, .int 1), (10, .int (lostP (shN (f 0) (nI t0) 1 N))), (9, .int 0), (7, .int (nI t0)), (6, .int b2), (5, .int b1), (0, .ref (ad 23)), (1, .int (nI T)), (2, .int coin), (3, .int least), (4, .int w)]) hx hb dX3_stop_181 hl (by decide) rfl (fun ls hl => ?_)
                  refine lv_iload hx hb dX3_stop_183 (lv_at hl 3 rfl) ?_
                  refine lv_iload_n hx hb dX3_stop_185 rfl (lv_at hl 7 rfl) ?_
                  refine lv_isub hx hb dX3_stop_186 ?_
                  refine lv_iload_n hx hb dX3_stop_187 rfl (lv_at hl 7 rfl) ?_
                  refine lv_iand hx hb dX3_stop_188 ?_
                  refine lv_istore (lv' := [(7, .int (((nI t0) - (nI T)) &&& (nI T))), (8, .int 1), (10, .int (lostP (shN (f 0) (nI t0) 1 N))), (9, .int 0), (6, .int b2), (5, .int b1), (0, .ref (ad 23)), (1, .int (nI T)), (2, .int coin), (3, .int least), (4, .int w)]) hx hb dX3_stop_189 hl (by decide) rfl (fun ls hl => ?_)
                  refine lv_goto (tgt := 64) hx hb dX3_stop_191 (by decide) ?_
                  refine lv_iload hx hb dX3_stop_64 (lv_at hl 1 rfl) ?_
                  refine lv_if_eq (tgt := 194) hx hb dX3_stop_66 (by decide) (fun h => absurd h (by decide)) (fun _ => ?_)
                  obtain ⟨t1, e1, h1, h2, h3⟩ := nx_gt (by omega) hsub (fun e => c_146 (by rw [e]))
                  refine ih (t1, b1, b2) _ _ _ _ _ ⟨rfl, rfl, ⟨ls, rfl, ?_⟩, hS, h3, ⟨k, by omega, ?_⟩, _, _, _, _, hW⟩ (by show T - t1 < T - t0; omega)
                  · show lv_has ls 11 [(7, .int (nI t1)), (8, .int 1), (6, .int b2), (5, .int b1), (0, .ref (ad 23)), (1, .int (nI T)), (2, .int coin), (3, .int least), (4, .int w)]
                    rw [← e1]
                    exact lv_sub hl [0, 1, 4, 5, 6, 7, 8, 9, 10] rfl
                  · rw [← hrun, stR, if_neg c_146, e1, hst]
              · refine lv_iconst (v := 1) hx hb dX3_stop_105 (by decide) ?_
                refine lv_goto (tgt := 110) hx hb dX3_stop_106 (by decide) ?_
                refine lv_istore (lv' := [(9, .int 1), (7, .int (nI t0)), (8, .int 1), (6, .int b2), (5, .int b1), (0, .ref (ad 23)), (1, .int (nI T)), (2, .int coin), (3, .int least), (4, .int w)]) hx hb dX3_stop_110 hl (by decide) rfl (fun ls hl => ?_)
                refine lv_aload_n hx hb dX3_stop_112 rfl (lv_at hl 5 rfl) ?_
                refine cv_R1 (rest := []) hc (M_lost l hW (R := R) (N := N) hO1) (lw_V q1281 q1283 qs57 q70 q1284) nd_X3_lost ⟨Nat.le_of_ble_eq_true rfl, Nat.le_of_ble_eq_true rfl⟩ (MW.recv hK hW) rfl hl.1 rfl (Nat.le_of_ble_eq_true rfl) dX3_stop_113 ⟨Nat.le_of_ble_eq_true rfl, Nat.le_of_ble_eq_true rfl⟩ ?_
                refine sm_topi (v := freshN (shN (f 0) (nI t0) 1 N) (prP (shN (f 0) (nI t0) 1 N)) N * (shN (f 0) (nI t0) 1 N) 2) rfl ?_
                refine sm_topi (v := lostP (shN (f 0) (nI t0) 1 N)) (by rw [lostP, freshP, hO1.cl1]) ?_
                refine lv_istore (lv' := [(10, .int (lostP (shN (f 0) (nI t0) 1 N))), (9, .int 1), (7, .int (nI t0)), (8, .int 1), (6, .int b2), (5, .int b1), (0, .ref (ad 23)), (1, .int (nI T)), (2, .int coin), (3, .int least), (4, .int w)]) hx hb dX3_stop_116 hl (by decide) rfl (fun ls hl => ?_)
                refine lv_aload_n hx hb dX3_stop_118 rfl (lv_at hl 6 rfl) ?_
                refine lv_iload hx hb dX3_stop_119 (lv_at hl 2 rfl) ?_
                refine lv_iconst (v := 0) hx hb dX3_stop_121 (by decide) ?_
                refine cv_W0 (rest := []) hc (M_shutsX l hW (R := R) (N := N) hO1 (nI t0) 0) (lw_V q1330 q1332 qs62 q70 q1333) nd_X3_shuts ⟨Nat.le_of_ble_eq_true rfl, Nat.le_of_ble_eq_true rfl⟩ (MW.recv hK hW) rfl hl.1 rfl (Nat.le_of_ble_eq_true rfl) dX3_stop_122 ⟨Nat.le_of_ble_eq_true rfl, Nat.le_of_ble_eq_true rfl⟩ hS (fun _ h => h) (fun H locs hW hS hz hk => ?_)
                rw [hbk] at hW
                refine lv_iload hx hb dX3_stop_125 (lv_at hl 1 rfl) ?_
                refine lv_if_eq (tgt := 170) hx hb dX3_stop_127 (by decide) (fun h => absurd h (by decide)) (fun _ => ?_)
                refine lv_iload hx hb dX3_stop_130 (lv_at hl 5 rfl) ?_
                refine lv_if_lt (tgt := 162) hx hb dX3_stop_132 (by decide) (fun c_150 => ?_) (fun c_150 => ?_)
                · refine lv_iload hx hb dX3_stop_162 (lv_at hl 2 rfl) ?_
                  refine lv_istore (lv' := [(5, .int (nI t0)), (10, .int (lostP (shN (f 0) (nI t0) 1 N))), (9, .int 1), (7, .int (nI t0)), (8, .int 1), (6, .int b2), (0, .ref (ad 23)), (1, .int (nI T)), (2, .int coin), (3, .int least), (4, .int w)]) hx hb dX3_stop_164 hl (by decide) rfl (fun ls hl => ?_)
                  refine lv_iload hx hb dX3_stop_166 (lv_at hl 1 rfl) ?_
                  refine lv_istore (lv' := [(6, .int (lostP (shN (f 0) (nI t0) 1 N))), (5, .int (nI t0)), (10, .int (lostP (shN (f 0) (nI t0) 1 N))), (9, .int 1), (7, .int (nI t0)), (8, .int 1), (0, .ref (ad 23)), (1, .int (nI T)), (2, .int coin), (3, .int least), (4, .int w)]) hx hb dX3_stop_168 hl (by decide) rfl (fun ls hl => ?_)
                  have hst : stB (f 0) N coin least (nI t0) (b1, b2) = (nI t0, lostP (shN (f 0) (nI t0) 1 N)) := by simp only [stB, if_neg c_134, if_neg c_140, if_neg c_145, if_pos c_150]
                  refine lv_iload hx hb dX3_stop_170 (lv_at hl 4 rfl) ?_
                  refine lv_iload_n hx hb dX3_stop_172 rfl (lv_at hl 7 rfl) ?_
                  refine lv_icmp_eq (tgt := 180) hx hb dX3_stop_173 (by decide) (fun c_151 => ?_) (fun c_151 => ?_)
                  · refine lv_iconst (v := 0) hx hb dX3_stop_180 (by decide) ?_
                    refine lv_istore (lv' := [(8, .int 0), (6, .int (lostP (shN (f 0) (nI t0) 1 N))), (5, .int (nI t0)), (10, .int (lostP (shN (f 0) (nI t0) 1 N))), (9, .int 1), (7, .int (nI t0)), (0, .ref (ad 23)), (1, .int (nI T)), (2, .int coin), (3, .int least), (4, .int w)]) hx hb dX3_stop_181 hl (by decide) rfl (fun ls hl => ?_)
                    refine lv_iload hx hb dX3_stop_183 (lv_at hl 5 rfl) ?_
                    refine lv_iload_n hx hb dX3_stop_185 rfl (lv_at hl 7 rfl) ?_
                    refine lv_isub hx hb dX3_stop_186 ?_
                    refine lv_iload_n hx hb dX3_stop_187 rfl (lv_at hl 7 rfl) ?_
                    refine lv_iand hx hb dX3_stop_188 ?_
                    refine lv_istore (lv' := [(7, .int (((nI t0) - (nI T)) &&& (nI T))), (8, .int 0), (6, .int (lostP (shN (f 0) (nI t0) 1 N))), (5, .int (nI t0)), (10, .int (lostP (shN (f 0) (nI t0) 1 N))), (9, .int 1), (0, .ref (ad 23)), (1, .int (nI T)), (2, .int coin), (3, .int least), (4, .int w)]) hx hb dX3_stop_189 hl (by decide) rfl (fun ls hl => ?_)
                    refine lv_goto (tgt := 64) hx hb dX3_stop_191 (by decide) ?_
                    refine lv_iload hx hb dX3_stop_64 (lv_at hl 1 rfl) ?_
                    refine lv_if_eq (tgt := 194) hx hb dX3_stop_66 (by decide) (fun _ => ?_) (fun h => absurd (by decide) h)
                    have hfin : stP (f 0) N coin least (nI T) = (nI t0, lostP (shN (f 0) (nI t0) 1 N)) := by rw [← hrun, stR, if_pos c_151, hst]
                    refine lv_iload hx hb dX3_stop_194 (lv_at hl 3 rfl) ?_
                    refine lv_if_ge (tgt := 208) hx hb dX3_stop_196 (by decide) (fun c_152 => ?_) (fun c_152 => ?_)
                    · refine lv_iload hx hb dX3_stop_208 (lv_at hl 10 rfl) ?_
                      refine lv_if_ne (tgt := 218) hx hb dX3_stop_210 (by decide) (fun c_153 => ?_) (fun c_153 => ?_)
                      · refine lv_iload hx hb dX3_stop_218 (lv_at hl 10 rfl) ?_
                        refine lv_iconst (v := 1) hx hb dX3_stop_220 (by decide) ?_
                        refine lv_icmp_ne (tgt := 229) hx hb dX3_stop_221 (by decide) (fun c_154 => ?_) (fun c_154 => ?_)
                        · refine lv_aload_n hx hb dX3_stop_229 rfl (lv_at hl 6 rfl) ?_
                          refine lv_iload hx hb dX3_stop_230 (lv_at hl 3 rfl) ?_
                          refine cv_R1 (rest := []) hc (M_costs l hW (R := R) (N := N) hO (nI t0)) (lw_V q1326 q1328 qs61 q70 q1329) nd_X3_costs ⟨Nat.le_of_ble_eq_true rfl, Nat.le_of_ble_eq_true rfl⟩ (MW.recv hK hW) rfl hl.1 rfl (Nat.le_of_ble_eq_true rfl) dX3_stop_232 ⟨Nat.le_of_ble_eq_true rfl, Nat.le_of_ble_eq_true rfl⟩ ?_
                          refine sm_topi (v := costN (f 0) (nI t0) N) rfl ?_
                          exact ri_W hx hb hr hlk hS (by simp only [stopM, hO.cl1, hfin, if_pos c_130, if_pos c_131, if_pos c_132, if_pos c_133, if_pos c_152, if_neg c_153, if_neg c_154]) (by simp only [stopM, hO.cl1, hfin, if_pos c_130, if_pos c_131, if_pos c_132, if_pos c_133, if_pos c_152, if_neg c_153, if_neg c_154]; exact AX.mp ⟨_, _, _, _, by rw [upA_self] at hW; exact hW⟩) dX3_stop_235
                        · refine lv_iload hx hb dX3_stop_224 (lv_at hl 2 rfl) ?_
                          refine lv_goto (tgt := 235) hx hb dX3_stop_226 (by decide) ?_
                          exact ri_W hx hb hr hlk hS (by simp only [stopM, hO.cl1, hfin, if_pos c_130, if_pos c_131, if_pos c_132, if_pos c_133, if_pos c_152, if_neg c_153, if_pos c_154]) (by simp only [stopM, hO.cl1, hfin, if_pos c_130, if_pos c_131, if_pos c_132, if_pos c_133, if_pos c_152, if_neg c_153, if_pos c_154]; exact AX.mp ⟨_, _, _, _, by rw [upA_self] at hW; exact hW⟩) dX3_stop_235
                      · refine lv_iload hx hb dX3_stop_213 (lv_at hl 3 rfl) ?_
                        refine lv_goto (tgt := 235) hx hb dX3_stop_215 (by decide) ?_
                        exact ri_W hx hb hr hlk hS (by simp only [stopM, hO.cl1, hfin, if_pos c_130, if_pos c_131, if_pos c_132, if_pos c_133, if_pos c_152, if_pos c_153]) (by simp only [stopM, hO.cl1, hfin, if_pos c_130, if_pos c_131, if_pos c_132, if_pos c_133, if_pos c_152, if_pos c_153]; exact AX.mp ⟨_, _, _, _, by rw [upA_self] at hW; exact hW⟩) dX3_stop_235
                    · refine lv_aload_n hx hb dX3_stop_199 rfl (lv_at hl 6 rfl) ?_
                      refine lv_ldc (v := (-1000000004)) hx hb hown (hts _ q1308) dX3_stop_200 ?_
                      rw [upA_self] at hW
                      refine cv_W1 (rest := []) hc (M_finds l hW (-1000000004) 3 (ix_eq (k := 3) (by decide) (by decide) (by decide))) (lw_V q1075 q1077 qs28 q70 q1078) nd_X3_finds ⟨Nat.le_of_ble_eq_true rfl, Nat.le_of_ble_eq_true rfl⟩ (MW.recv hK hW) rfl hl.1 rfl (Nat.le_of_ble_eq_true rfl) dX3_stop_202 ⟨Nat.le_of_ble_eq_true rfl, Nat.le_of_ble_eq_true rfl⟩ hS (fun _ h => h) (fun H locs hW hS hz hk => ?_)
                      rw [cntP, airF_up (by decide)] at hW
                      refine lv_goto (tgt := 235) hx hb dX3_stop_205 (by decide) ?_
                      exact ri_W hx hb hr hlk hS (by simp only [stopM, hO.cl1, hfin, if_pos c_130, if_pos c_131, if_pos c_132, if_pos c_133, if_neg c_152]) (by simp only [stopM, hO.cl1, hfin, if_pos c_130, if_pos c_131, if_pos c_132, if_pos c_133, if_neg c_152]; exact AX.mp ⟨_, _, _, _, hW⟩) dX3_stop_235
                  · refine lv_iconst (v := 1) hx hb dX3_stop_176 (by decide) ?_
                    refine lv_goto (tgt := 181) hx hb dX3_stop_177 (by decide) ?_
                    refine lv_istore (lv' := [(8, .int 1), (6, .int (lostP (shN (f 0) (nI t0) 1 N))), (5, .int (nI t0)), (10, .int (lostP (shN (f 0) (nI t0) 1 N))), (9, .int 1), (7, .int (nI t0)), (0, .ref (ad 23)), (1, .int (nI T)), (2, .int coin), (3, .int least), (4, .int w)]) hx hb dX3_stop_181 hl (by decide) rfl (fun ls hl => ?_)
                    refine lv_iload hx hb dX3_stop_183 (lv_at hl 5 rfl) ?_
                    refine lv_iload_n hx hb dX3_stop_185 rfl (lv_at hl 7 rfl) ?_
                    refine lv_isub hx hb dX3_stop_186 ?_
                    refine lv_iload_n hx hb dX3_stop_187 rfl (lv_at hl 7 rfl) ?_
                    refine lv_iand hx hb dX3_stop_188 ?_
                    refine lv_istore (lv' := [(7, .int (((nI t0) - (nI T)) &&& (nI T))), (8, .int 1), (6, .int (lostP (shN (f 0) (nI t0) 1 N))), (5, .int (nI t0)), (10, .int (lostP (shN (f 0) (nI t0) 1 N))), (9, .int 1), (0, .ref (ad 23)), (1, .int (nI T)), (2, .int coin), (3, .int least), (4, .int w)]) hx hb dX3_stop_189 hl (by decide) rfl (fun ls hl => ?_)
                    refine lv_goto (tgt := 64) hx hb dX3_stop_191 (by decide) ?_
                    refine lv_iload hx hb dX3_stop_64 (lv_at hl 1 rfl) ?_
                    refine lv_if_eq (tgt := 194) hx hb dX3_stop_66 (by decide) (fun h => absurd h (by decide)) (fun _ => ?_)
                    obtain ⟨t1, e1, h1, h2, h3⟩ := nx_gt (by omega) hsub (fun e => c_151 (by rw [e]))
                    refine ih (t1, nI t0, lostP (shN (f 0) (nI t0) 1 N)) _ _ _ _ _ ⟨rfl, rfl, ⟨ls, rfl, ?_⟩, hS, h3, ⟨k, by omega, ?_⟩, _, _, _, _, hW⟩ (by show T - t1 < T - t0; omega)
                    · show lv_has ls 11 [(7, .int (nI t1)), (8, .int 1), (6, .int (lostP (shN (f 0) (nI t0) 1 N))), (5, .int (nI t0)), (0, .ref (ad 23)), (1, .int (nI T)), (2, .int coin), (3, .int least), (4, .int w)]
                      rw [← e1]
                      exact lv_sub hl [0, 1, 2, 3, 6, 7, 8, 9, 10] rfl
                    · rw [← hrun, stR, if_neg c_151, e1, hst]
                · refine lv_iload hx hb dX3_stop_135 (lv_at hl 0 rfl) ?_
                  refine lv_iload hx hb dX3_stop_137 (lv_at hl 4 rfl) ?_
                  refine lv_icmp_lt (tgt := 162) hx hb dX3_stop_139 (by decide) (fun c_155 => ?_) (fun c_155 => ?_)
                  · refine lv_iload hx hb dX3_stop_162 (lv_at hl 2 rfl) ?_
                    refine lv_istore (lv' := [(5, .int (nI t0)), (10, .int (lostP (shN (f 0) (nI t0) 1 N))), (9, .int 1), (7, .int (nI t0)), (8, .int 1), (6, .int b2), (0, .ref (ad 23)), (1, .int (nI T)), (2, .int coin), (3, .int least), (4, .int w)]) hx hb dX3_stop_164 hl (by decide) rfl (fun ls hl => ?_)
                    refine lv_iload hx hb dX3_stop_166 (lv_at hl 1 rfl) ?_
                    refine lv_istore (lv' := [(6, .int (lostP (shN (f 0) (nI t0) 1 N))), (5, .int (nI t0)), (10, .int (lostP (shN (f 0) (nI t0) 1 N))), (9, .int 1), (7, .int (nI t0)), (8, .int 1), (0, .ref (ad 23)), (1, .int (nI T)), (2, .int coin), (3, .int least), (4, .int w)]) hx hb dX3_stop_168 hl (by decide) rfl (fun ls hl => ?_)
                    have hst : stB (f 0) N coin least (nI t0) (b1, b2) = (nI t0, lostP (shN (f 0) (nI t0) 1 N)) := by simp only [stB, if_neg c_134, if_neg c_140, if_neg c_145, if_neg c_150, if_pos c_155]
                    refine lv_iload hx hb dX3_stop_170 (lv_at hl 4 rfl) ?_
                    refine lv_iload_n hx hb dX3_stop_172 rfl (lv_at hl 7 rfl) ?_
                    refine lv_icmp_eq (tgt := 180) hx hb dX3_stop_173 (by decide) (fun c_156 => ?_) (fun c_156 => ?_)
                    · refine lv_iconst (v := 0) hx hb dX3_stop_180 (by decide) ?_
                      refine lv_istore (lv' := [(8, .int 0), (6, .int (lostP (shN (f 0) (nI t0) 1 N))), (5, .int (nI t0)), (10, .int (lostP (shN (f 0) (nI t0) 1 N))), (9, .int 1), (7, .int (nI t0)), (0, .ref (ad 23)), (1, .int (nI T)), (2, .int coin), (3, .int least), (4, .int w)]) hx hb dX3_stop_181 hl (by decide) rfl (fun ls hl => ?_)
                      refine lv_iload hx hb dX3_stop_183 (lv_at hl 5 rfl) ?_
                      refine lv_iload_n hx hb dX3_stop_185 rfl (lv_at hl 7 rfl) ?_
                      refine lv_isub hx hb dX3_stop_186 ?_
                      refine lv_iload_n hx hb dX3_stop_187 rfl (lv_at hl 7 rfl) ?_
                      refine lv_iand hx hb dX3_stop_188 ?_
                      refine lv_istore (lv' := [(7, .int (((nI t0) - (nI T)) &&& (nI T))), (8, .int 0), (6, .int (lostP (shN (f 0) (nI t0) 1 N))), (5, .int (nI t0)), (10, .int (lostP (shN (f 0) (nI t0) 1 N))), (9, .int 1), (0, .ref (ad 23)), (1, .int (nI T)), (2, .int coin), (3, .int least), (4, .int w)]) hx hb dX3_stop_189 hl (by decide) rfl (fun ls hl => ?_)
                      refine lv_goto (tgt := 64) hx hb dX3_stop_191 (by decide) ?_
                      refine lv_iload hx hb dX3_stop_64 (lv_at hl 1 rfl) ?_
                      refine lv_if_eq (tgt := 194) hx hb dX3_stop_66 (by decide) (fun _ => ?_) (fun h => absurd (by decide) h)
                      have hfin : stP (f 0) N coin least (nI T) = (nI t0, lostP (shN (f 0) (nI t0) 1 N)) := by rw [← hrun, stR, if_pos c_156, hst]
                      refine lv_iload hx hb dX3_stop_194 (lv_at hl 3 rfl) ?_
                      refine lv_if_ge (tgt := 208) hx hb dX3_stop_196 (by decide) (fun c_157 => ?_) (fun c_157 => ?_)
                      · refine lv_iload hx hb dX3_stop_208 (lv_at hl 10 rfl) ?_
                        refine lv_if_ne (tgt := 218) hx hb dX3_stop_210 (by decide) (fun c_158 => ?_) (fun c_158 => ?_)
                        · refine lv_iload hx hb dX3_stop_218 (lv_at hl 10 rfl) ?_
                          refine lv_iconst (v := 1) hx hb dX3_stop_220 (by decide) ?_
                          refine lv_icmp_ne (tgt := 229) hx hb dX3_stop_221 (by decide) (fun c_159 => ?_) (fun c_159 => ?_)
                          · refine lv_aload_n hx hb dX3_stop_229 rfl (lv_at hl 6 rfl) ?_
                            refine lv_iload hx hb dX3_stop_230 (lv_at hl 3 rfl) ?_
                            refine cv_R1 (rest := []) hc (M_costs l hW (R := R) (N := N) hO (nI t0)) (lw_V q1326 q1328 qs61 q70 q1329) nd_X3_costs ⟨Nat.le_of_ble_eq_true rfl, Nat.le_of_ble_eq_true rfl⟩ (MW.recv hK hW) rfl hl.1 rfl (Nat.le_of_ble_eq_true rfl) dX3_stop_232 ⟨Nat.le_of_ble_eq_true rfl, Nat.le_of_ble_eq_true rfl⟩ ?_
                            refine sm_topi (v := costN (f 0) (nI t0) N) rfl ?_
                            exact ri_W hx hb hr hlk hS (by simp only [stopM, hO.cl1, hfin, if_pos c_130, if_pos c_131, if_pos c_132, if_pos c_133, if_pos c_157, if_neg c_158, if_neg c_159]) (by simp only [stopM, hO.cl1, hfin, if_pos c_130, if_pos c_131, if_pos c_132, if_pos c_133, if_pos c_157, if_neg c_158, if_neg c_159]; exact AX.mp ⟨_, _, _, _, by rw [upA_self] at hW; exact hW⟩) dX3_stop_235
                          · refine lv_iload hx hb dX3_stop_224 (lv_at hl 2 rfl) ?_
                            refine lv_goto (tgt := 235) hx hb dX3_stop_226 (by decide) ?_
                            exact ri_W hx hb hr hlk hS (by simp only [stopM, hO.cl1, hfin, if_pos c_130, if_pos c_131, if_pos c_132, if_pos c_133, if_pos c_157, if_neg c_158, if_pos c_159]) (by simp only [stopM, hO.cl1, hfin, if_pos c_130, if_pos c_131, if_pos c_132, if_pos c_133, if_pos c_157, if_neg c_158, if_pos c_159]; exact AX.mp ⟨_, _, _, _, by rw [upA_self] at hW; exact hW⟩) dX3_stop_235
                        · refine lv_iload hx hb dX3_stop_213 (lv_at hl 3 rfl) ?_
                          refine lv_goto (tgt := 235) hx hb dX3_stop_215 (by decide) ?_
                          exact ri_W hx hb hr hlk hS (by simp only [stopM, hO.cl1, hfin, if_pos c_130, if_pos c_131, if_pos c_132, if_pos c_133, if_pos c_157, if_pos c_158]) (by simp only [stopM, hO.cl1, hfin, if_pos c_130, if_pos c_131, if_pos c_132, if_pos c_133, if_pos c_157, if_pos c_158]; exact AX.mp ⟨_, _, _, _, by rw [upA_self] at hW; exact hW⟩) dX3_stop_235
                      · refine lv_aload_n hx hb dX3_stop_199 rfl (lv_at hl 6 rfl) ?_
                        refine lv_ldc (v := (-1000000004)) hx hb hown (hts _ q1308) dX3_stop_200 ?_
                        rw [upA_self] at hW
                        refine cv_W1 (rest := []) hc (M_finds l hW (-1000000004) 3 (ix_eq (k := 3) (by decide) (by decide) (by decide))) (lw_V q1075 q1077 qs28 q70 q1078) nd_X3_finds ⟨Nat.le_of_ble_eq_true rfl, Nat.le_of_ble_eq_true rfl⟩ (MW.recv hK hW) rfl hl.1 rfl (Nat.le_of_ble_eq_true rfl) dX3_stop_202 ⟨Nat.le_of_ble_eq_true rfl, Nat.le_of_ble_eq_true rfl⟩ hS (fun _ h => h) (fun H locs hW hS hz hk => ?_)
                        rw [cntP, airF_up (by decide)] at hW
                        refine lv_goto (tgt := 235) hx hb dX3_stop_205 (by decide) ?_
                        exact ri_W hx hb hr hlk hS (by simp only [stopM, hO.cl1, hfin, if_pos c_130, if_pos c_131, if_pos c_132, if_pos c_133, if_neg c_157]) (by simp only [stopM, hO.cl1, hfin, if_pos c_130, if_pos c_131, if_pos c_132, if_pos c_133, if_neg c_157]; exact AX.mp ⟨_, _, _, _, hW⟩) dX3_stop_235
                    · refine lv_iconst (v := 1) hx hb dX3_stop_176 (by decide) ?_
                      refine lv_goto (tgt := 181) hx hb dX3_stop_177 (by decide) ?_
                      refine lv_istore (lv' := [(8, .int 1), (6, .int (lostP (shN (f 0) (nI t0) 1 N))), (5, .int (nI t0)), (10, .int (lostP (shN (f 0) (nI t0) 1 N))), (9, .int 1), (7, .int (nI t0)), (0, .ref (ad 23)), (1, .int (nI T)), (2, .int coin), (3, .int least), (4, .int w)]) hx hb dX3_stop_181 hl (by decide) rfl (fun ls hl => ?_)
                      refine lv_iload hx hb dX3_stop_183 (lv_at hl 5 rfl) ?_
                      refine lv_iload_n hx hb dX3_stop_185 rfl (lv_at hl 7 rfl) ?_
                      refine lv_isub hx hb dX3_stop_186 ?_
                      refine lv_iload_n hx hb dX3_stop_187 rfl (lv_at hl 7 rfl) ?_
                      refine lv_iand hx hb dX3_stop_188 ?_
                      refine lv_istore (lv' := [(7, .int (((nI t0) - (nI T)) &&& (nI T))), (8, .int 1), (6, .int (lostP (shN (f 0) (nI t0) 1 N))), (5, .int (nI t0)), (10, .int (lostP (shN (f 0) (nI t0) 1 N))), (9, .int 1), (0, .ref (ad 23)), (1, .int (nI T)), (2, .int coin), (3, .int least), (4, .int w)]) hx hb dX3_stop_189 hl (by decide) rfl (fun ls hl => ?_)
                      refine lv_goto (tgt := 64) hx hb dX3_stop_191 (by decide) ?_
                      refine lv_iload hx hb dX3_stop_64 (lv_at hl 1 rfl) ?_
                      refine lv_if_eq (tgt := 194) hx hb dX3_stop_66 (by decide) (fun h => absurd h (by decide)) (fun _ => ?_)
                      obtain ⟨t1, e1, h1, h2, h3⟩ := nx_gt (by omega) hsub (fun e => c_156 (by rw [e]))
                      refine ih (t1, nI t0, lostP (shN (f 0) (nI t0) 1 N)) _ _ _ _ _ ⟨rfl, rfl, ⟨ls, rfl, ?_⟩, hS, h3, ⟨k, by omega, ?_⟩, _, _, _, _, hW⟩ (by show T - t1 < T - t0; omega)
                      · show lv_has ls 11 [(7, .int (nI t1)), (8, .int 1), (6, .int (lostP (shN (f 0) (nI t0) 1 N))), (5, .int (nI t0)), (0, .ref (ad 23)), (1, .int (nI T)), (2, .int coin), (3, .int least), (4, .int w)]
                        rw [← e1]
                        exact lv_sub hl [0, 1, 2, 3, 6, 7, 8, 9, 10] rfl
                      · rw [← hrun, stR, if_neg c_156, e1, hst]
                  · refine lv_iload hx hb dX3_stop_142 (lv_at hl 0 rfl) ?_
                    refine lv_iload hx hb dX3_stop_144 (lv_at hl 4 rfl) ?_
                    refine lv_icmp_ne (tgt := 170) hx hb dX3_stop_146 (by decide) (fun c_160 => ?_) (fun c_160 => ?_)
                    · have hst : stB (f 0) N coin least (nI t0) (b1, b2) = (b1, b2) := by simp only [stB, if_neg c_134, if_neg c_140, if_neg c_145, if_neg c_150, if_neg c_155, if_neg c_160]
                      refine lv_iload hx hb dX3_stop_170 (lv_at hl 2 rfl) ?_
                      refine lv_iload_n hx hb dX3_stop_172 rfl (lv_at hl 7 rfl) ?_
                      refine lv_icmp_eq (tgt := 180) hx hb dX3_stop_173 (by decide) (fun c_161 => ?_) (fun c_161 => ?_)
                      · refine lv_iconst (v := 0) hx hb dX3_stop_180 (by decide) ?_
                        refine lv_istore (lv' := [(8, .int 0), (10, .int (lostP (shN (f 0) (nI t0) 1 N))), (9, .int 1), (7, .int (nI t0)), (6, .int b2), (5, .int b1), (0, .ref (ad 23)), (1, .int (nI T)), (2, .int coin), (3, .int least), (4, .int w)]) hx hb dX3_stop_181 hl (by decide) rfl (fun ls hl => ?_)
                        refine lv_iload hx hb dX3_stop_183 (lv_at hl 3 rfl) ?_
                        refine lv_iload_n hx hb dX3_stop_185 rfl (lv_at hl 7 rfl) ?_
                        refine lv_isub hx hb dX3_stop_186 ?_
                        refine lv_iload_n hx hb dX3_stop_187 rfl (lv_at hl 7 rfl) ?_
                        refine lv_iand hx hb dX3_stop_188 ?_
                        refine lv_istore (lv' := [(7, .int (((nI t0) - (nI T)) &&& (nI T))), (8, .int 0), (10, .int (lostP (shN (f 0) (nI t0) 1 N))), (9, .int 1), (6, .int b2), (5, .int b1), (0, .ref (ad 23)), (1, .int (nI T)), (2, .int coin), (3, .int least), (4, .int w)]) hx hb dX3_stop_189 hl (by decide) rfl (fun ls hl => ?_)
                        refine lv_goto (tgt := 64) hx hb dX3_stop_191 (by decide) ?_
                        refine lv_iload hx hb dX3_stop_64 (lv_at hl 1 rfl) ?_
                        refine lv_if_eq (tgt := 194) hx hb dX3_stop_66 (by decide) (fun _ => ?_) (fun h => absurd (by decide) h)
                        have hfin : stP (f 0) N coin least (nI T) = (b1, b2) := by rw [← hrun, stR, if_pos c_161, hst]
                        refine lv_iload hx hb dX3_stop_194 (lv_at hl 5 rfl) ?_
                        refine lv_if_ge (tgt := 208) hx hb dX3_stop_196 (by decide) (fun c_162 => ?_) (fun c_162 => ?_)
                        · refine lv_iload hx hb dX3_stop_208 (lv_at hl 10 rfl) ?_
                          refine lv_if_ne (tgt := 218) hx hb dX3_stop_210 (by decide) (fun c_163 => ?_) (fun c_163 => ?_)
                          · refine lv_iload hx hb dX3_stop_218 (lv_at hl 10 rfl) ?_
                            refine lv_iconst (v := 1) hx hb dX3_stop_220 (by decide) ?_
                            refine lv_icmp_ne (tgt := 229) hx hb dX3_stop_221 (by decide) (fun c_164 => ?_) (fun c_164 => ?_)
                            · refine lv_aload_n hx hb dX3_stop_229 rfl (lv_at hl 6 rfl) ?_
                              refine lv_iload hx hb dX3_stop_230 (lv_at hl 5 rfl) ?_
                              refine cv_R1 (rest := []) hc (M_costs l hW (R := R) (N := N) hO b1) (lw_V q1326 q1328 qs61 q70 q1329) nd_X3_costs ⟨Nat.le_of_ble_eq_true rfl, Nat.le_of_ble_eq_true rfl⟩ (MW.recv hK hW) rfl hl.1 rfl (Nat.le_of_ble_eq_true rfl) dX3_stop_232 ⟨Nat.le_of_ble_eq_true rfl, Nat.le_of_ble_eq_true rfl⟩ ?_
                              refine sm_topi (v := costN (f 0) b1 N) rfl ?_
                              exact ri_W hx hb hr hlk hS (by simp only [stopM, hO.cl1, hfin, if_pos c_130, if_pos c_131, if_pos c_132, if_pos c_133, if_pos c_162, if_neg c_163, if_neg c_164]) (by simp only [stopM, hO.cl1, hfin, if_pos c_130, if_pos c_131, if_pos c_132, if_pos c_133, if_pos c_162, if_neg c_163, if_neg c_164]; exact AX.mp ⟨_, _, _, _, by rw [upA_self] at hW; exact hW⟩) dX3_stop_235
                            · refine lv_iload hx hb dX3_stop_224 (lv_at hl 4 rfl) ?_
                              refine lv_goto (tgt := 235) hx hb dX3_stop_226 (by decide) ?_
                              exact ri_W hx hb hr hlk hS (by simp only [stopM, hO.cl1, hfin, if_pos c_130, if_pos c_131, if_pos c_132, if_pos c_133, if_pos c_162, if_neg c_163, if_pos c_164]) (by simp only [stopM, hO.cl1, hfin, if_pos c_130, if_pos c_131, if_pos c_132, if_pos c_133, if_pos c_162, if_neg c_163, if_pos c_164]; exact AX.mp ⟨_, _, _, _, by rw [upA_self] at hW; exact hW⟩) dX3_stop_235
                          · refine lv_iload hx hb dX3_stop_213 (lv_at hl 5 rfl) ?_
                            refine lv_goto (tgt := 235) hx hb dX3_stop_215 (by decide) ?_
                            exact ri_W hx hb hr hlk hS (by simp only [stopM, hO.cl1, hfin, if_pos c_130, if_pos c_131, if_pos c_132, if_pos c_133, if_pos c_162, if_pos c_163]) (by simp only [stopM, hO.cl1, hfin, if_pos c_130, if_pos c_131, if_pos c_132, if_pos c_133, if_pos c_162, if_pos c_163]; exact AX.mp ⟨_, _, _, _, by rw [upA_self] at hW; exact hW⟩) dX3_stop_235
                        · refine lv_aload_n hx hb dX3_stop_199 rfl (lv_at hl 6 rfl) ?_
                          refine lv_ldc (v := (-1000000004)) hx hb hown (hts _ q1308) dX3_stop_200 ?_
                          rw [upA_self] at hW
                          refine cv_W1 (rest := []) hc (M_finds l hW (-1000000004) 3 (ix_eq (k := 3) (by decide) (by decide) (by decide))) (lw_V q1075 q1077 qs28 q70 q1078) nd_X3_finds ⟨Nat.le_of_ble_eq_true rfl, Nat.le_of_ble_eq_true rfl⟩ (MW.recv hK hW) rfl hl.1 rfl (Nat.le_of_ble_eq_true rfl) dX3_stop_202 ⟨Nat.le_of_ble_eq_true rfl, Nat.le_of_ble_eq_true rfl⟩ hS (fun _ h => h) (fun H locs hW hS hz hk => ?_)
                          rw [cntP, airF_up (by decide)] at hW
                          refine lv_goto (tgt := 235) hx hb dX3_stop_205 (by decide) ?_
                          exact ri_W hx hb hr hlk hS (by simp only [stopM, hO.cl1, hfin, if_pos c_130, if_pos c_131, if_pos c_132, if_pos c_133, if_neg c_162]) (by simp only [stopM, hO.cl1, hfin, if_pos c_130, if_pos c_131, if_pos c_132, if_pos c_133, if_neg c_162]; exact AX.mp ⟨_, _, _, _, hW⟩) dX3_stop_235
                      · refine lv_iconst (v := 1) hx hb dX3_stop_176 (by decide) ?_
                        refine lv_goto (tgt := 181) hx hb dX3_stop_177 (by decide) ?_
                        refine lv_istore (lv' := [(8, .int 1), (10, .int (lostP (shN (f 0) (nI t0) 1 N))), (9, .int 1), (7, .int (nI t0)), (6, .int b2), (5, .int b1), (0, .ref (ad 23)), (1, .int (nI T)), (2, .int coin), (3, .int least), (4, .int w)]) hx hb dX3_stop_181 hl (by decide) rfl (fun ls hl => ?_)
                        refine lv_iload hx hb dX3_stop_183 (lv_at hl 3 rfl) ?_
                        refine lv_iload_n hx hb dX3_stop_185 rfl (lv_at hl 7 rfl) ?_
                        refine lv_isub hx hb dX3_stop_186 ?_
                        refine lv_iload_n hx hb dX3_stop_187 rfl (lv_at hl 7 rfl) ?_
                        refine lv_iand hx hb dX3_stop_188 ?_
                        refine lv_istore (lv' := [(7, .int (((nI t0) - (nI T)) &&& (nI T))), (8, .int 1), (10, .int (lostP (shN (f 0) (nI t0) 1 N))), (9, .int 1), (6, .int b2), (5, .int b1), (0, .ref (ad 23)), (1, .int (nI T)), (2, .int coin), (3, .int least), (4, .int w)]) hx hb dX3_stop_189 hl (by decide) rfl (fun ls hl => ?_)
                        refine lv_goto (tgt := 64) hx hb dX3_stop_191 (by decide) ?_
                        refine lv_iload hx hb dX3_stop_64 (lv_at hl 1 rfl) ?_
                        refine lv_if_eq (tgt := 194) hx hb dX3_stop_66 (by decide) (fun h => absurd h (by decide)) (fun _ => ?_)
                        obtain ⟨t1, e1, h1, h2, h3⟩ := nx_gt (by omega) hsub (fun e => c_161 (by rw [e]))
                        refine ih (t1, b1, b2) _ _ _ _ _ ⟨rfl, rfl, ⟨ls, rfl, ?_⟩, hS, h3, ⟨k, by omega, ?_⟩, _, _, _, _, hW⟩ (by show T - t1 < T - t0; omega)
                        · show lv_has ls 11 [(7, .int (nI t1)), (8, .int 1), (6, .int b2), (5, .int b1), (0, .ref (ad 23)), (1, .int (nI T)), (2, .int coin), (3, .int least), (4, .int w)]
                          rw [← e1]
                          exact lv_sub hl [0, 1, 4, 5, 6, 7, 8, 9, 10] rfl
                        · rw [← hrun, stR, if_neg c_161, e1, hst]
                    · refine lv_iload hx hb dX3_stop_149 (lv_at hl 2 rfl) ?_
                      refine cs_R1 (rest := []) hc (M_ones l (nI t0)) (lw_S q1321 q1322 q70 q1323) nd_X3_ones ⟨Nat.le_of_ble_eq_true rfl, Nat.le_of_ble_eq_true rfl⟩ rfl hl.1 rfl (Nat.le_of_ble_eq_true rfl) dX3_stop_151 ⟨Nat.le_of_ble_eq_true rfl, Nat.le_of_ble_eq_true rfl⟩ ?_
                      refine lv_iload hx hb dX3_stop_154 (lv_at hl 5 rfl) ?_
                      refine cs_R1 (rest := [.int (onesP (nI t0))]) hc (M_ones l b1) (lw_S q1321 q1322 q70 q1323) nd_X3_ones ⟨Nat.le_of_ble_eq_true rfl, Nat.le_of_ble_eq_true rfl⟩ rfl hl.1 rfl (Nat.le_of_ble_eq_true rfl) dX3_stop_156 ⟨Nat.le_of_ble_eq_true rfl, Nat.le_of_ble_eq_true rfl⟩ ?_
                      refine lv_icmp_ge (tgt := 170) hx hb dX3_stop_159 (by decide) (fun c_165 => ?_) (fun c_165 => ?_)
                      · have hst : stB (f 0) N coin least (nI t0) (b1, b2) = (b1, b2) := by simp only [stB, if_neg c_134, if_neg c_140, if_neg c_145, if_neg c_150, if_neg c_155, if_pos c_160, if_pos c_165]
                        refine lv_iload hx hb dX3_stop_170 (lv_at hl 2 rfl) ?_
                        refine lv_iload_n hx hb dX3_stop_172 rfl (lv_at hl 7 rfl) ?_
                        refine lv_icmp_eq (tgt := 180) hx hb dX3_stop_173 (by decide) (fun c_166 => ?_) (fun c_166 => ?_)
                        · refine lv_iconst (v := 0) hx hb dX3_stop_180 (by decide) ?_
                          refine lv_istore (lv' := [(8, .int 0), (10, .int (lostP (shN (f 0) (nI t0) 1 N))), (9, .int 1), (7, .int (nI t0)), (6, .int b2), (5, .int b1), (0, .ref (ad 23)), (1, .int (nI T)), (2, .int coin), (3, .int least), (4, .int w)]) hx hb dX3_stop_181 hl (by decide) rfl (fun ls hl => ?_)
                          refine lv_iload hx hb dX3_stop_183 (lv_at hl 3 rfl) ?_
                          refine lv_iload_n hx hb dX3_stop_185 rfl (lv_at hl 7 rfl) ?_
                          refine lv_isub hx hb dX3_stop_186 ?_
                          refine lv_iload_n hx hb dX3_stop_187 rfl (lv_at hl 7 rfl) ?_
                          refine lv_iand hx hb dX3_stop_188 ?_
                          refine lv_istore (lv' := [(7, .int (((nI t0) - (nI T)) &&& (nI T))), (8, .int 0), (10, .int (lostP (shN (f 0) (nI t0) 1 N))), (9, .int 1), (6, .int b2), (5, .int b1), (0, .ref (ad 23)), (1, .int (nI T)), (2, .int coin), (3, .int least), (4, .int w)]) hx hb dX3_stop_189 hl (by decide) rfl (fun ls hl => ?_)
                          refine lv_goto (tgt := 64) hx hb dX3_stop_191 (by decide) ?_
                          refine lv_iload hx hb dX3_stop_64 (lv_at hl 1 rfl) ?_
                          refine lv_if_eq (tgt := 194) hx hb dX3_stop_66 (by decide) (fun _ => ?_) (fun h => absurd (by decide) h)
                          have hfin : stP (f 0) N coin least (nI T) = (b1, b2) := by rw [← hrun, stR, if_pos c_166, hst]
                          refine lv_iload hx hb dX3_stop_194 (lv_at hl 5 rfl) ?_
                          refine lv_if_ge (tgt := 208) hx hb dX3_stop_196 (by decide) (fun c_167 => ?_) (fun c_167 => ?_)
                          · refine lv_iload hx hb dX3_stop_208 (lv_at hl 10 rfl) ?_
                            refine lv_if_ne (tgt := 218) hx hb dX3_stop_210 (by decide) (fun c_168 => ?_) (fun c_168 => ?_)
                            · refine lv_iload hx hb dX3_stop_218 (lv_at hl 10 rfl) ?_
                              refine lv_iconst (v := 1) hx hb dX3_stop_220 (by decide) ?_
                              refine lv_icmp_ne (tgt := 229) hx hb dX3_stop_221 (by decide) (fun c_169 => ?_) (fun c_169 => ?_)
                              · refine lv_aload_n hx hb dX3_stop_229 rfl (lv_at hl 6 rfl) ?_
                                refine lv_iload hx hb dX3_stop_230 (lv_at hl 5 rfl) ?_
                                refine cv_R1 (rest := []) hc (M_costs l hW (R := R) (N := N) hO b1) (lw_V q1326 q1328 qs61 q70 q1329) nd_X3_costs ⟨Nat.le_of_ble_eq_true rfl, Nat.le_of_ble_eq_true rfl⟩ (MW.recv hK hW) rfl hl.1 rfl (Nat.le_of_ble_eq_true rfl) dX3_stop_232 ⟨Nat.le_of_ble_eq_true rfl, Nat.le_of_ble_eq_true rfl⟩ ?_
                                refine sm_topi (v := costN (f 0) b1 N) rfl ?_
                                exact ri_W hx hb hr hlk hS (by simp only [stopM, hO.cl1, hfin, if_pos c_130, if_pos c_131, if_pos c_132, if_pos c_133, if_pos c_167, if_neg c_168, if_neg c_169]) (by simp only [stopM, hO.cl1, hfin, if_pos c_130, if_pos c_131, if_pos c_132, if_pos c_133, if_pos c_167, if_neg c_168, if_neg c_169]; exact AX.mp ⟨_, _, _, _, by rw [upA_self] at hW; exact hW⟩) dX3_stop_235
                              · refine lv_iload hx hb dX3_stop_224 (lv_at hl 4 rfl) ?_
                                refine lv_goto (tgt := 235) hx hb dX3_stop_226 (by decide) ?_
                                exact ri_W hx hb hr hlk hS (by simp only [stopM, hO.cl1, hfin, if_pos c_130, if_pos c_131, if_pos c_132, if_pos c_133, if_pos c_167, if_neg c_168, if_pos c_169]) (by simp only [stopM, hO.cl1, hfin, if_pos c_130, if_pos c_131, if_pos c_132, if_pos c_133, if_pos c_167, if_neg c_168, if_pos c_169]; exact AX.mp ⟨_, _, _, _, by rw [upA_self] at hW; exact hW⟩) dX3_stop_235
                            · refine lv_iload hx hb dX3_stop_213 (lv_at hl 5 rfl) ?_
                              refine lv_goto (tgt := 235) hx hb dX3_stop_215 (by decide) ?_
                              exact ri_W hx hb hr hlk hS (by simp only [stopM, hO.cl1, hfin, if_pos c_130, if_pos c_131, if_pos c_132, if_pos c_133, if_pos c_167, if_pos c_168]) (by simp only [stopM, hO.cl1, hfin, if_pos c_130, if_pos c_131, if_pos c_132, if_pos c_133, if_pos c_167, if_pos c_168]; exact AX.mp ⟨_, _, _, _, by rw [upA_self] at hW; exact hW⟩) dX3_stop_235
                          · refine lv_aload_n hx hb dX3_stop_199 rfl (lv_at hl 6 rfl) ?_
                            refine lv_ldc (v := (-1000000004)) hx hb hown (hts _ q1308) dX3_stop_200 ?_
                            rw [upA_self] at hW
                            refine cv_W1 (rest := []) hc (M_finds l hW (-1000000004) 3 (ix_eq (k := 3) (by decide) (by decide) (by decide))) (lw_V q1075 q1077 qs28 q70 q1078) nd_X3_finds ⟨Nat.le_of_ble_eq_true rfl, Nat.le_of_ble_eq_true rfl⟩ (MW.recv hK hW) rfl hl.1 rfl (Nat.le_of_ble_eq_true rfl) dX3_stop_202 ⟨Nat.le_of_ble_eq_true rfl, Nat.le_of_ble_eq_true rfl⟩ hS (fun _ h => h) (fun H locs hW hS hz hk => ?_)
                            rw [cntP, airF_up (by decide)] at hW
                            refine lv_goto (tgt := 235) hx hb dX3_stop_205 (by decide) ?_
                            exact ri_W hx hb hr hlk hS (by simp only [stopM, hO.cl1, hfin, if_pos c_130, if_pos c_131, if_pos c_132, if_pos c_133, if_neg c_167]) (by simp only [stopM, hO.cl1, hfin, if_pos c_130, if_pos c_131, if_pos c_132, if_pos c_133, if_neg c_167]; exact AX.mp ⟨_, _, _, _, hW⟩) dX3_stop_235
                        · refine lv_iconst (v := 1) hx hb dX3_stop_176 (by decide) ?_
                          refine lv_goto (tgt := 181) hx hb dX3_stop_177 (by decide) ?_
                          refine lv_istore (lv' := [(8, .int 1), (10, .int (lostP (shN (f 0) (nI t0) 1 N))), (9, .int 1), (7, .int (nI t0)), (6, .int b2), (5, .int b1), (0, .ref (ad 23)), (1, .int (nI T)), (2, .int coin), (3, .int least), (4, .int w)]) hx hb dX3_stop_181 hl (by decide) rfl (fun ls hl => ?_)
                          refine lv_iload hx hb dX3_stop_183 (lv_at hl 3 rfl) ?_
                          refine lv_iload_n hx hb dX3_stop_185 rfl (lv_at hl 7 rfl) ?_
                          refine lv_isub hx hb dX3_stop_186 ?_
                          refine lv_iload_n hx hb dX3_stop_187 rfl (lv_at hl 7 rfl) ?_
                          refine lv_iand hx hb dX3_stop_188 ?_
                          refine lv_istore (lv' := [(7, .int (((nI t0) - (nI T)) &&& (nI T))), (8, .int 1), (10, .int (lostP (shN (f 0) (nI t0) 1 N))), (9, .int 1), (6, .int b2), (5, .int b1), (0, .ref (ad 23)), (1, .int (nI T)), (2, .int coin), (3, .int least), (4, .int w)]) hx hb dX3_stop_189 hl (by decide) rfl (fun ls hl => ?_)
                          refine lv_goto (tgt := 64) hx hb dX3_stop_191 (by decide) ?_
                          refine lv_iload hx hb dX3_stop_64 (lv_at hl 1 rfl) ?_
                          refine lv_if_eq (tgt := 194) hx hb dX3_stop_66 (by decide) (fun h => absurd h (by decide)) (fun _ => ?_)
                          obtain ⟨t1, e1, h1, h2, h3⟩ := nx_gt (by omega) hsub (fun e => c_166 (by rw [e]))
                          refine ih (t1, b1, b2) _ _ _ _ _ ⟨rfl, rfl, ⟨ls, rfl, ?_⟩, hS, h3, ⟨k, by omega, ?_⟩, _, _, _, _, hW⟩ (by show T - t1 < T - t0; omega)
                          · show lv_has ls 11 [(7, .int (nI t1)), (8, .int 1), (6, .int b2), (5, .int b1), (0, .ref (ad 23)), (1, .int (nI T)), (2, .int coin), (3, .int least), (4, .int w)]
                            rw [← e1]
                            exact lv_sub hl [0, 1, 4, 5, 6, 7, 8, 9, 10] rfl
                          · rw [← hrun, stR, if_neg c_166, e1, hst]
                      · refine lv_iload hx hb dX3_stop_162 (lv_at hl 2 rfl) ?_
                        refine lv_istore (lv' := [(5, .int (nI t0)), (10, .int (lostP (shN (f 0) (nI t0) 1 N))), (9, .int 1), (7, .int (nI t0)), (8, .int 1), (6, .int b2), (0, .ref (ad 23)), (1, .int (nI T)), (2, .int coin), (3, .int least), (4, .int w)]) hx hb dX3_stop_164 hl (by decide) rfl (fun ls hl => ?_)
                        refine lv_iload hx hb dX3_stop_166 (lv_at hl 1 rfl) ?_
                        refine lv_istore (lv' := [(6, .int (lostP (shN (f 0) (nI t0) 1 N))), (5, .int (nI t0)), (10, .int (lostP (shN (f 0) (nI t0) 1 N))), (9, .int 1), (7, .int (nI t0)), (8, .int 1), (0, .ref (ad 23)), (1, .int (nI T)), (2, .int coin), (3, .int least), (4, .int w)]) hx hb dX3_stop_168 hl (by decide) rfl (fun ls hl => ?_)
                        have hst : stB (f 0) N coin least (nI t0) (b1, b2) = (nI t0, lostP (shN (f 0) (nI t0) 1 N)) := by simp only [stB, if_neg c_134, if_neg c_140, if_neg c_145, if_neg c_150, if_neg c_155, if_pos c_160, if_neg c_165]
                        refine lv_iload hx hb dX3_stop_170 (lv_at hl 4 rfl) ?_
                        refine lv_iload_n hx hb dX3_stop_172 rfl (lv_at hl 7 rfl) ?_
                        refine lv_icmp_eq (tgt := 180) hx hb dX3_stop_173 (by decide) (fun c_170 => ?_) (fun c_170 => ?_)
                        · refine lv_iconst (v := 0) hx hb dX3_stop_180 (by decide) ?_
                          refine lv_istore (lv' := [(8, .int 0), (6, .int (lostP (shN (f 0) (nI t0) 1 N))), (5, .int (nI t0)), (10, .int (lostP (shN (f 0) (nI t0) 1 N))), (9, .int 1), (7, .int (nI t0)), (0, .ref (ad 23)), (1, .int (nI T)), (2, .int coin), (3, .int least), (4, .int w)]) hx hb dX3_stop_181 hl (by decide) rfl (fun ls hl => ?_)
                          refine lv_iload hx hb dX3_stop_183 (lv_at hl 5 rfl) ?_
                          refine lv_iload_n hx hb dX3_stop_185 rfl (lv_at hl 7 rfl) ?_
                          refine lv_isub hx hb dX3_stop_186 ?_
                          refine lv_iload_n hx hb dX3_stop_187 rfl (lv_at hl 7 rfl) ?_
                          refine lv_iand hx hb dX3_stop_188 ?_
                          refine lv_istore (lv' := [(7, .int (((nI t0) - (nI T)) &&& (nI T))), (8, .int 0), (6, .int (lostP (shN (f 0) (nI t0) 1 N))), (5, .int (nI t0)), (10, .int (lostP (shN (f 0) (nI t0) 1 N))), (9, .int 1), (0, .ref (ad 23)), (1, .int (nI T)), (2, .int coin), (3, .int least), (4, .int w)]) hx hb dX3_stop_189 hl (by decide) rfl (fun ls hl => ?_)
                          refine lv_goto (tgt := 64) hx hb dX3_stop_191 (by decide) ?_
                          refine lv_iload hx hb dX3_stop_64 (lv_at hl 1 rfl) ?_
                          refine lv_if_eq (tgt := 194) hx hb dX3_stop_66 (by decide) (fun _ => ?_) (fun h => absurd (by decide) h)
                          have hfin : stP (f 0) N coin least (nI T) = (nI t0, lostP (shN (f 0) (nI t0) 1 N)) := by rw [← hrun, stR, if_pos c_170, hst]
                          refine lv_iload hx hb dX3_stop_194 (lv_at hl 3 rfl) ?_
                          refine lv_if_ge (tgt := 208) hx hb dX3_stop_196 (by decide) (fun c_171 => ?_) (fun c_171 => ?_)
                          · refine lv_iload hx hb dX3_stop_208 (lv_at hl 10 rfl) ?_
                            refine lv_if_ne (tgt := 218) hx hb dX3_stop_210 (by decide) (fun c_172 => ?_) (fun c_172 => ?_)
                            · refine lv_iload hx hb dX3_stop_218 (lv_at hl 10 rfl) ?_
                              refine lv_iconst (v := 1) hx hb dX3_stop_220 (by decide) ?_
                              refine lv_icmp_ne (tgt := 229) hx hb dX3_stop_221 (by decide) (fun c_173 => ?_) (fun c_173 => ?_)
                              · refine lv_aload_n hx hb dX3_stop_229 rfl (lv_at hl 6 rfl) ?_
                                refine lv_iload hx hb dX3_stop_230 (lv_at hl 3 rfl) ?_
                                refine cv_R1 (rest := []) hc (M_costs l hW (R := R) (N := N) hO (nI t0)) (lw_V q1326 q1328 qs61 q70 q1329) nd_X3_costs ⟨Nat.le_of_ble_eq_true rfl, Nat.le_of_ble_eq_true rfl⟩ (MW.recv hK hW) rfl hl.1 rfl (Nat.le_of_ble_eq_true rfl) dX3_stop_232 ⟨Nat.le_of_ble_eq_true rfl, Nat.le_of_ble_eq_true rfl⟩ ?_
                                refine sm_topi (v := costN (f 0) (nI t0) N) rfl ?_
                                exact ri_W hx hb hr hlk hS (by simp only [stopM, hO.cl1, hfin, if_pos c_130, if_pos c_131, if_pos c_132, if_pos c_133, if_pos c_171, if_neg c_172, if_neg c_173]) (by simp only [stopM, hO.cl1, hfin, if_pos c_130, if_pos c_131, if_pos c_132, if_pos c_133, if_pos c_171, if_neg c_172, if_neg c_173]; exact AX.mp ⟨_, _, _, _, by rw [upA_self] at hW; exact hW⟩) dX3_stop_235
                              · refine lv_iload hx hb dX3_stop_224 (lv_at hl 2 rfl) ?_
                                refine lv_goto (tgt := 235) hx hb dX3_stop_226 (by decide) ?_
                                exact ri_W hx hb hr hlk hS (by simp only [stopM, hO.cl1, hfin, if_pos c_130, if_pos c_131, if_pos c_132, if_pos c_133, if_pos c_171, if_neg c_172, if_pos c_173]) (by simp only [stopM, hO.cl1, hfin, if_pos c_130, if_pos c_131, if_pos c_132, if_pos c_133, if_pos c_171, if_neg c_172, if_pos c_173]; exact AX.mp ⟨_, _, _, _, by rw [upA_self] at hW; exact hW⟩) dX3_stop_235
                            · refine lv_iload hx hb dX3_stop_213 (lv_at hl 3 rfl) ?_
                              refine lv_goto (tgt := 235) hx hb dX3_stop_215 (by decide) ?_
                              exact ri_W hx hb hr hlk hS (by simp only [stopM, hO.cl1, hfin, if_pos c_130, if_pos c_131, if_pos c_132, if_pos c_133, if_pos c_171, if_pos c_172]) (by simp only [stopM, hO.cl1, hfin, if_pos c_130, if_pos c_131, if_pos c_132, if_pos c_133, if_pos c_171, if_pos c_172]; exact AX.mp ⟨_, _, _, _, by rw [upA_self] at hW; exact hW⟩) dX3_stop_235
                          · refine lv_aload_n hx hb dX3_stop_199 rfl (lv_at hl 6 rfl) ?_
                            refine lv_ldc (v := (-1000000004)) hx hb hown (hts _ q1308) dX3_stop_200 ?_
                            rw [upA_self] at hW
                            refine cv_W1 (rest := []) hc (M_finds l hW (-1000000004) 3 (ix_eq (k := 3) (by decide) (by decide) (by decide))) (lw_V q1075 q1077 qs28 q70 q1078) nd_X3_finds ⟨Nat.le_of_ble_eq_true rfl, Nat.le_of_ble_eq_true rfl⟩ (MW.recv hK hW) rfl hl.1 rfl (Nat.le_of_ble_eq_true rfl) dX3_stop_202 ⟨Nat.le_of_ble_eq_true rfl, Nat.le_of_ble_eq_true rfl⟩ hS (fun _ h => h) (fun H locs hW hS hz hk => ?_)
                            rw [cntP, airF_up (by decide)] at hW
                            refine lv_goto (tgt := 235) hx hb dX3_stop_205 (by decide) ?_
                            exact ri_W hx hb hr hlk hS (by simp only [stopM, hO.cl1, hfin, if_pos c_130, if_pos c_131, if_pos c_132, if_pos c_133, if_neg c_171]) (by simp only [stopM, hO.cl1, hfin, if_pos c_130, if_pos c_131, if_pos c_132, if_pos c_133, if_neg c_171]; exact AX.mp ⟨_, _, _, _, hW⟩) dX3_stop_235
                        · refine lv_iconst (v := 1) hx hb dX3_stop_176 (by decide) ?_
                          refine lv_goto (tgt := 181) hx hb dX3_stop_177 (by decide) ?_
                          refine lv_istore (lv' := [(8, .int 1), (6, .int (lostP (shN (f 0) (nI t0) 1 N))), (5, .int (nI t0)), (10, .int (lostP (shN (f 0) (nI t0) 1 N))), (9, .int 1), (7, .int (nI t0)), (0, .ref (ad 23)), (1, .int (nI T)), (2, .int coin), (3, .int least), (4, .int w)]) hx hb dX3_stop_181 hl (by decide) rfl (fun ls hl => ?_)
                          refine lv_iload hx hb dX3_stop_183 (lv_at hl 5 rfl) ?_
                          refine lv_iload_n hx hb dX3_stop_185 rfl (lv_at hl 7 rfl) ?_
                          refine lv_isub hx hb dX3_stop_186 ?_
                          refine lv_iload_n hx hb dX3_stop_187 rfl (lv_at hl 7 rfl) ?_
                          refine lv_iand hx hb dX3_stop_188 ?_
                          refine lv_istore (lv' := [(7, .int (((nI t0) - (nI T)) &&& (nI T))), (8, .int 1), (6, .int (lostP (shN (f 0) (nI t0) 1 N))), (5, .int (nI t0)), (10, .int (lostP (shN (f 0) (nI t0) 1 N))), (9, .int 1), (0, .ref (ad 23)), (1, .int (nI T)), (2, .int coin), (3, .int least), (4, .int w)]) hx hb dX3_stop_189 hl (by decide) rfl (fun ls hl => ?_)
                          refine lv_goto (tgt := 64) hx hb dX3_stop_191 (by decide) ?_
                          refine lv_iload hx hb dX3_stop_64 (lv_at hl 1 rfl) ?_
                          refine lv_if_eq (tgt := 194) hx hb dX3_stop_66 (by decide) (fun h => absurd h (by decide)) (fun _ => ?_)
                          obtain ⟨t1, e1, h1, h2, h3⟩ := nx_gt (by omega) hsub (fun e => c_170 (by rw [e]))
                          refine ih (t1, nI t0, lostP (shN (f 0) (nI t0) 1 N)) _ _ _ _ _ ⟨rfl, rfl, ⟨ls, rfl, ?_⟩, hS, h3, ⟨k, by omega, ?_⟩, _, _, _, _, hW⟩ (by show T - t1 < T - t0; omega)
                          · show lv_has ls 11 [(7, .int (nI t1)), (8, .int 1), (6, .int (lostP (shN (f 0) (nI t0) 1 N))), (5, .int (nI t0)), (0, .ref (ad 23)), (1, .int (nI T)), (2, .int coin), (3, .int least), (4, .int w)]
                            rw [← e1]
                            exact lv_sub hl [0, 1, 2, 3, 6, 7, 8, 9, 10] rfl
                          · rw [← hrun, stR, if_neg c_170, e1, hst]
        · refine lv_aload_n hx hb dX3_stop_45 rfl (lv_at hl 0 rfl) ?_
          refine lv_ldc (v := (-1000000001)) hx hb hown (hts _ q1079) dX3_stop_46 ?_
          refine cv_W1 (rest := []) hc (M_finds l hW (-1000000001) 0 (ix_eq (k := 0) (by decide) (by decide) (by decide))) (lw_V q1075 q1077 qs28 q70 q1078) nd_X3_finds ⟨Nat.le_of_ble_eq_true rfl, Nat.le_of_ble_eq_true rfl⟩ (MW.recv hK hW) rfl hl.1 rfl (Nat.le_of_ble_eq_true rfl) dX3_stop_48 ⟨Nat.le_of_ble_eq_true rfl, Nat.le_of_ble_eq_true rfl⟩ hS (fun _ h => h) (fun H locs hW hS hz hk => ?_)
          exact ri_W hx hb hr hlk hS (by simp only [stopM, hO.cl1, if_pos c_130, if_pos c_131, if_pos c_132, if_neg c_133]) (by simp only [stopM, hO.cl1, if_pos c_130, if_pos c_131, if_pos c_132, if_neg c_133]; exact MW.mp hW) dX3_stop_51
