/-! the reference's methods, 3: rounds till the air rests -/
set_option maxRecDepth 100000

theorem nd_X3_round : yX3_round.cls = "SmokeLeansModel" ∧ yX3_round.cls ≠ "java/lang/invoke/MethodHandle" ∧ yX3_round.cls ≠ "java/lang/invoke/VarHandle" ∧ (parseMethodDescriptor yX3_round.desc).map (fun d => d.parameters.length) = some 0 := by decide +kernel
set_option maxHeartbeats 4000000 in
theorem M_round (l : Launch) {G : GD} {A : Nat → Prop} {f : Nat → Nat → Int32} {g : Nat → Nat → Int64} {ad : Nat → Nat} {H0 : Heap} (hW : MW G A f g ad H0) {R N : Nat} (hO : OkN (f 0) R N)  : MetW l G yX3_round cX3_round 3 (some .boolean) 3 0 0 A [.ref (ad 23)] H0 (some (.int (b2i (chgP (f 0) (f 11) = true)))) (fun H => ∃ b, MW G A (upA (upA f 11 (roundP (f 0) (f 11))) 12 b) g ad H) := by
  refine mx_of (by decide) (Nat.le_of_ble_eq_true rfl) ?_
  intro p e s m below meth c hx hb hr hc hlk hnm hs0 ls hl
  subst hs0
  have hown := hc.2.2.2.1
  have hts := hc.2.2.2.2.1
  have hK := hc.2.2.2.2.2
  have hl : lv_has ls 3 [(0, .ref (ad 23))] := hl
  have hS : va_S A s.heap s.heap [] := va_S.rf
  refine lv_iconst (v := 0) hx hb dX3_round_0 (by decide) ?_
  refine lv_istore_n (lv' := [(1, .int 0), (0, .ref (ad 23))]) hx hb dX3_round_1 rfl hl (by decide) rfl (fun ls hl => ?_)
  refine lv_iconst (v := 0) hx hb dX3_round_2 (by decide) ?_
  refine lv_istore_n (lv' := [(2, .int 0), (1, .int 0), (0, .ref (ad 23))]) hx hb dX3_round_3 rfl hl (by decide) rfl (fun ls hl => ?_)
  refine w_loopH (σ := Nat) (fun i H locs cells slots fr => cells = 0 ∧ slots = 0 ∧ (∃ ls, fr = F0 m 4 ls [] ∧ lv_has ls 3 [(2, .int (nI i)), (1, .int (b2i (chgN (f 0) (f 11) i = true))), (0, .ref (ad 23))]) ∧ va_S A s.heap H locs ∧ (i ≤ R ∧ ∃ b, (∀ r, r < i → b r = askedP (f 0) (f 11) (nI r)) ∧ MW G A (upA f 12 b) g ad H)) (fun i => R - i) 0 ⟨rfl, rfl, ⟨ls, rfl, lv_sub hl [0, 1, 2] rfl⟩, hS, ⟨Nat.zero_le _, f 12, fun _ h => absurd h (Nat.not_lt_zero _), by rw [show upA f 12 (f 12) = f from by funext k; unfold upA; split <;> simp_all]; exact hW⟩⟩ ?_
  intro i H locs cells slots fr hI ih
  obtain ⟨rfl, rfl, ⟨ls, rfl, hl⟩, hS, ⟨hle, b, hbq, hW⟩⟩ := hI
  by_cases hi : i < R
  · have hi6 : i < 6 := by have := hO.1; omega
    have hO2 : OkN (upA f 12 b 0) R N := hO
    refine lv_iload_n hx hb dX3_round_4 rfl (lv_at hl 0 rfl) ?_
    refine lv_aload_n hx hb dX3_round_5 rfl (lv_at hl 2 rfl) ?_
    refine m_get hc hW 0 (by decide) rfl q1000 rfl rfl dX3_round_6 ?_
    refine lv_iconst (v := 0) hx hb dX3_round_9 (by decide) ?_
    refine m_ild hc hW 0 rfl (n := 169) rfl (ix_eq (k := 0) rfl (by decide) (by decide)) dX3_round_10 ?_
    refine sm_topi (v := nI R) (hO.2.2.1) ?_
    refine lv_icmp_ge (tgt := 56) hx hb dX3_round_11 (by decide) (fun h => absurd h (nI_ge hi (by have := hO.1; omega))) (fun _ => ?_)
    refine lv_aload_n hx hb dX3_round_14 rfl (lv_at hl 2 rfl) ?_
    refine m_get hc hW 12 (by decide) rfl q1012 rfl rfl dX3_round_15 ?_
    refine lv_iload_n hx hb dX3_round_18 rfl (lv_at hl 0 rfl) ?_
    refine lv_aload_n hx hb dX3_round_19 rfl (lv_at hl 2 rfl) ?_
    refine lv_iload_n hx hb dX3_round_20 rfl (lv_at hl 0 rfl) ?_
    refine cv_R1 (rest := [.int (nI i), .ref (ad 12)]) hc (M_asked l hW (R := R) (N := N) hO2 (nI i)) (lw_V q1241 q1243 qs53 q70 q1244) nd_X3_asked ⟨Nat.le_of_ble_eq_true rfl, Nat.le_of_ble_eq_true rfl⟩ (MW.recv hK hW) rfl hl.1 rfl (Nat.le_of_ble_eq_true rfl) dX3_round_21 ⟨Nat.le_of_ble_eq_true rfl, Nat.le_of_ble_eq_true rfl⟩ ?_
    refine sm_topi (v := askedP (f 0) (f 11) (nI i)) rfl ?_
    refine m_ist hc hW hS 12 rfl (n := 6) rfl (ix_nI (by omega) (by decide)) dX3_round_24 (fun H locs hW hS hz => ?_)
    rw [up2_upA] at hW
    refine lv_iload_n hx hb dX3_round_25 rfl (lv_at hl 1 rfl) ?_
    refine bi_ne (tgt := 44) hx hb dX3_round_26 (by decide) (fun c_72 => ?_) (fun c_72 => ?_)
    · refine lv_iconst (v := 1) hx hb dX3_round_44 (by decide) ?_
      refine lv_goto (tgt := 49) hx hb dX3_round_45 (by decide) ?_
      refine lv_istore_n (lv' := [(1, .int 1), (2, .int (nI i)), (0, .ref (ad 23))]) hx hb dX3_round_49 rfl hl (by decide) rfl (fun ls hl => ?_)
      refine lv_iinc (v := nI (i + 1)) (lv' := [(2, .int (nI (i + 1))), (1, .int 1), (0, .ref (ad 23))]) hx hb dX3_round_50 hl (k := 1) rfl (nI_1 _) (by decide) rfl (fun ls hl => ?_)
      refine lv_goto (tgt := 4) hx hb dX3_round_53 (by decide) ?_
      refine ih (i + 1) _ _ _ _ _ ⟨rfl, rfl, ⟨ls, rfl, ?_⟩, hS, hi, _, ?_, hW⟩ (by omega)
      · rw [show b2i (chgN (f 0) (f 11) (i + 1) = true) = 1 from b2i_t (by rw [chgN, c_72]; rfl)]
        exact lv_sub hl [0, 1, 2] rfl
      · intro r hr
        by_cases q : r = i
        · subst q; simp [upd]
        · rw [show upd b i (askedP (f 0) (f 11) (nI i)) r = b r from by simp [upd, q]]; exact hbq r (by omega)
    · refine lv_aload_n hx hb dX3_round_29 rfl (lv_at hl 2 rfl) ?_
      refine m_get hc hW 12 (by decide) rfl q1012 rfl rfl dX3_round_30 ?_
      refine lv_iload_n hx hb dX3_round_33 rfl (lv_at hl 0 rfl) ?_
      refine m_ild hc hW 12 rfl (n := 6) rfl (ix_nI (by omega) (by decide)) dX3_round_34 ?_
      refine sm_topi (v := askedP (f 0) (f 11) (nI i)) (by simp [upA, upd]) ?_
      refine lv_aload_n hx hb dX3_round_35 rfl (lv_at hl 2 rfl) ?_
      refine m_get hc hW 11 (by decide) rfl q1011 rfl rfl dX3_round_36 ?_
      refine lv_iload_n hx hb dX3_round_39 rfl (lv_at hl 0 rfl) ?_
      refine m_ild hc hW 11 rfl (n := 6) rfl (ix_nI (by omega) (by decide)) dX3_round_40 ?_
      refine sm_topi (v := f 11 i) (rfl) ?_
      refine lv_icmp_eq (tgt := 48) hx hb dX3_round_41 (by decide) (fun c_73 => ?_) (fun c_73 => ?_)
      · refine lv_iconst (v := 0) hx hb dX3_round_48 (by decide) ?_
        refine lv_istore_n (lv' := [(1, .int 0), (2, .int (nI i)), (0, .ref (ad 23))]) hx hb dX3_round_49 rfl hl (by decide) rfl (fun ls hl => ?_)
        refine lv_iinc (v := nI (i + 1)) (lv' := [(2, .int (nI (i + 1))), (1, .int 0), (0, .ref (ad 23))]) hx hb dX3_round_50 hl (k := 1) rfl (nI_1 _) (by decide) rfl (fun ls hl => ?_)
        refine lv_goto (tgt := 4) hx hb dX3_round_53 (by decide) ?_
        refine ih (i + 1) _ _ _ _ _ ⟨rfl, rfl, ⟨ls, rfl, ?_⟩, hS, hi, _, ?_, hW⟩ (by omega)
        · rw [show b2i (chgN (f 0) (f 11) (i + 1) = true) = 0 from b2i_f (by rw [chgN, decide_eq_false (show ¬ askedP (f 0) (f 11) (nI i) ≠ f 11 i from fun h => h c_73), Bool.or_false]; exact c_72)]
          exact lv_sub hl [0, 1, 2] rfl
        · intro r hr
          by_cases q : r = i
          · subst q; simp [upd]
          · rw [show upd b i (askedP (f 0) (f 11) (nI i)) r = b r from by simp [upd, q]]; exact hbq r (by omega)
      · refine lv_iconst (v := 1) hx hb dX3_round_44 (by decide) ?_
        refine lv_goto (tgt := 49) hx hb dX3_round_45 (by decide) ?_
        refine lv_istore_n (lv' := [(1, .int 1), (2, .int (nI i)), (0, .ref (ad 23))]) hx hb dX3_round_49 rfl hl (by decide) rfl (fun ls hl => ?_)
        refine lv_iinc (v := nI (i + 1)) (lv' := [(2, .int (nI (i + 1))), (1, .int 1), (0, .ref (ad 23))]) hx hb dX3_round_50 hl (k := 1) rfl (nI_1 _) (by decide) rfl (fun ls hl => ?_)
        refine lv_goto (tgt := 4) hx hb dX3_round_53 (by decide) ?_
        refine ih (i + 1) _ _ _ _ _ ⟨rfl, rfl, ⟨ls, rfl, ?_⟩, hS, hi, _, ?_, hW⟩ (by omega)
        · rw [show b2i (chgN (f 0) (f 11) (i + 1) = true) = 1 from b2i_t (by rw [chgN, decide_eq_true (show askedP (f 0) (f 11) (nI i) ≠ f 11 i from c_73), Bool.or_true])]
          exact lv_sub hl [0, 1, 2] rfl
        · intro r hr
          by_cases q : r = i
          · subst q; simp [upd]
          · rw [show upd b i (askedP (f 0) (f 11) (nI i)) r = b r from by simp [upd, q]]; exact hbq r (by omega)
  · have hiR : i = R := by omega
    subst hiR
    refine lv_iload_n hx hb dX3_round_4 rfl (lv_at hl 0 rfl) ?_
    refine lv_aload_n hx hb dX3_round_5 rfl (lv_at hl 2 rfl) ?_
    refine m_get hc hW 0 (by decide) rfl q1000 rfl rfl dX3_round_6 ?_
    refine lv_iconst (v := 0) hx hb dX3_round_9 (by decide) ?_
    refine m_ild hc hW 0 rfl (n := 169) rfl (ix_eq (k := 0) rfl (by decide) (by decide)) dX3_round_10 ?_
    refine sm_topi (v := nI i) (hO.2.2.1) ?_
    refine lv_icmp_ge (tgt := 56) hx hb dX3_round_11 (by decide) (fun _ => ?_) (fun h => absurd (nI_le (by omega) (by have := hO.1; omega)) h)
    refine lv_iconst (v := 0) hx hb dX3_round_56 (by decide) ?_
    refine lv_istore_n (lv' := [(2, .int 0), (1, .int (b2i (chgN (f 0) (f 11) i = true))), (0, .ref (ad 23))]) hx hb dX3_round_57 rfl hl (by decide) rfl (fun ls hl => ?_)
    refine w_loopH (σ := Nat) (fun j H locs cells slots fr => cells = 0 ∧ slots = 0 ∧ (∃ ls, fr = F0 m 58 ls [] ∧ lv_has ls 3 [(2, .int (nI j)), (1, .int (b2i (chgN (f 0) (f 11) i = true))), (0, .ref (ad 23))]) ∧ va_S A s.heap H locs ∧ (j ≤ i ∧ MW G A (upA (upA f 11 (fun r => if r < j then askedP (f 0) (f 11) (nI r) else f 11 r)) 12 b) g ad H)) (fun j => i - j) 0 ⟨rfl, rfl, ⟨ls, rfl, lv_sub hl [0, 1, 2] rfl⟩, hS, ⟨Nat.zero_le _, by rw [show upA (upA f 11 (fun r => if r < 0 then askedP (f 0) (f 11) (nI r) else f 11 r)) 12 b = upA f 12 b from by funext k; unfold upA; split; rfl; split; (rename_i q; rw [q]; funext r; simp); rfl]; exact hW⟩⟩ ?_
    intro j H locs cells slots fr hI ih
    obtain ⟨rfl, rfl, ⟨ls, rfl, hl⟩, hS, ⟨hjl, hW⟩⟩ := hI
    by_cases hj : j < i
    · have hj6 : j < 6 := by have := hO.1; omega
      refine lv_iload_n hx hb dX3_round_58 rfl (lv_at hl 0 rfl) ?_
      refine lv_aload_n hx hb dX3_round_59 rfl (lv_at hl 2 rfl) ?_
      refine m_get hc hW 0 (by decide) rfl q1000 rfl rfl dX3_round_60 ?_
      refine lv_iconst (v := 0) hx hb dX3_round_63 (by decide) ?_
      refine m_ild hc hW 0 rfl (n := 169) rfl (ix_eq (k := 0) rfl (by decide) (by decide)) dX3_round_64 ?_
      refine sm_topi (v := nI i) (hO.2.2.1) ?_
      refine lv_icmp_ge (tgt := 86) hx hb dX3_round_65 (by decide) (fun h => absurd h (nI_ge hj (by have := hO.1; omega))) (fun _ => ?_)
      refine lv_aload_n hx hb dX3_round_68 rfl (lv_at hl 2 rfl) ?_
      refine m_get hc hW 11 (by decide) rfl q1011 rfl rfl dX3_round_69 ?_
      refine lv_iload_n hx hb dX3_round_72 rfl (lv_at hl 0 rfl) ?_
      refine lv_aload_n hx hb dX3_round_73 rfl (lv_at hl 2 rfl) ?_
      refine m_get hc hW 12 (by decide) rfl q1012 rfl rfl dX3_round_74 ?_
      refine lv_iload_n hx hb dX3_round_77 rfl (lv_at hl 0 rfl) ?_
      refine m_ild hc hW 12 rfl (n := 6) rfl (ix_nI (by omega) (by decide)) dX3_round_78 ?_
      refine sm_topi (v := askedP (f 0) (f 11) (nI j)) (hbq j hj) ?_
      refine m_ist hc hW hS 11 rfl (n := 6) rfl (ix_nI (by omega) (by decide)) dX3_round_79 (fun H locs hW hS hz => ?_)
      refine lv_iinc (v := nI (j + 1)) (lv' := [(2, .int (nI (j + 1))), (1, .int (b2i (chgN (f 0) (f 11) i = true))), (0, .ref (ad 23))]) hx hb dX3_round_80 hl (k := 0) rfl (nI_1 _) (by decide) rfl (fun ls hl => ?_)
      refine lv_goto (tgt := 58) hx hb dX3_round_83 (by decide) ?_
      refine ih (j + 1) _ _ _ _ _ ⟨rfl, rfl, ⟨ls, rfl, lv_sub hl [0, 1, 2] rfl⟩, hS, hj, ?_⟩ (by omega)
      rw [show upA (upA f 11 (fun r => if r < j + 1 then askedP (f 0) (f 11) (nI r) else f 11 r)) 12 b = up2 (upA (upA f 11 (fun r => if r < j then askedP (f 0) (f 11) (nI r) else f 11 r)) 12 b) 11 j (askedP (f 0) (f 11) (nI j)) from ?_]
      · exact hW
      · funext k r
        by_cases q : k = 12
        · subst q; simp [upA, up2]
        · by_cases q2 : k = 11
          · subst q2
            by_cases q3 : r = j
            · subst q3; simp [upA, up2]
            · have : r < j + 1 ↔ r < j := by omega
              simp [upA, up2, q3, this]
          · simp [upA, up2, q, q2]
    · have hji : j = i := by omega
      subst hji
      refine lv_iload_n hx hb dX3_round_58 rfl (lv_at hl 0 rfl) ?_
      refine lv_aload_n hx hb dX3_round_59 rfl (lv_at hl 2 rfl) ?_
      refine m_get hc hW 0 (by decide) rfl q1000 rfl rfl dX3_round_60 ?_
      refine lv_iconst (v := 0) hx hb dX3_round_63 (by decide) ?_
      refine m_ild hc hW 0 rfl (n := 169) rfl (ix_eq (k := 0) rfl (by decide) (by decide)) dX3_round_64 ?_
      refine sm_topi (v := nI j) (hO.2.2.1) ?_
      refine lv_icmp_ge (tgt := 86) hx hb dX3_round_65 (by decide) (fun _ => ?_) (fun h => absurd (nI_le (by omega) (by have := hO.1; omega)) h)
      refine lv_iload_n hx hb dX3_round_86 rfl (lv_at hl 1 rfl) ?_
      exact rz_W hx hb hr hlk hS (b2i_congr (by rw [chgP, hO.cl0])) (⟨b, by rw [show roundP (f 0) (f 11) = fun r => if r < j then askedP (f 0) (f 11) (nI r) else f 11 r from by funext r; rw [roundP, hO.cl0]]; exact hW⟩) dX3_round_87
theorem airF_ext {f : Nat → Nat → Int32} {a a' b b' : Nat → Int32} {n z : Int32} {G : GD} {A : Nat → Prop} {g : Nat → Nat → Int64} {ad : Nat → Nat} {H : Heap} (h : MW G A (airF f a b n z) g ad H) (ha : ∀ r, r < 6 → a' r = a r) (hb : ∀ r, r < 6 → b' r = b r) : MW G A (airF f a' b' n z) g ad H := by
  refine h.ext (fun k hk => ?_) (fun k j hk hj => ?_) (fun _ _ _ _ => rfl)
  · unfold airF
    split
    · exact absurd hk (by decide)
    · exact absurd hk (by decide)
    · rfl
    · rfl
    · rfl
  · unfold airF
    split
    · exact ha j hj
    · exact hb j hj
    · rfl
    · rfl
    · rfl
theorem airF_self {f : Nat → Nat → Int32} {G : GD} {A : Nat → Prop} {g : Nat → Nat → Int64} {ad : Nat → Nat} {H : Heap} (h : MW G A f g ad H) : MW G A (airF f (f 11) (f 12) (f 13 0) (f 14 0)) g ad H := by
  refine h.ext (fun k hk => ?_) (fun k j hk hj => ?_) (fun _ _ _ _ => rfl)
  · unfold airF
    split <;> rfl
  · unfold airF
    split
    · rfl
    · rfl
    · exact absurd hk (by decide)
    · exact absurd hk (by decide)
    · rfl
theorem airF_11 {f : Nat → Nat → Int32} {a b : Nat → Int32} {n z x : Int32} {j : Nat} : up2 (airF f a b n z) 11 j x = airF f (upd a j x) b n z := by
  funext k r
  unfold up2 airF
  split
  · rename_i q; obtain ⟨rfl, rfl⟩ := q; simp [upd]
  · rename_i q
    split
    · by_cases q2 : r = j
      · exact absurd ⟨rfl, q2⟩ q
      · simp [upd, q2]
    · rfl
    · rfl
    · rfl
    · rfl
theorem airF_r {f : Nat → Nat → Int32} {a b a' b' : Nat → Int32} {n z : Int32} : upA (upA (airF f a b n z) 11 a') 12 b' = airF f a' b' n z := by
  funext k
  unfold upA
  split
  · rename_i q; subst q; rfl
  · split
    · rename_i q; subst q; rfl
    · unfold airF
      split <;> first | rfl | (exact absurd rfl ‹_›)
theorem airF_13 {f : Nat → Nat → Int32} {a b : Nat → Int32} {n z x : Int32} {G : GD} {A : Nat → Prop} {g : Nat → Nat → Int64} {ad : Nat → Nat} {H : Heap} (h : MW G A (up2 (airF f a b n z) 13 0 x) g ad H) : MW G A (airF f a b x z) g ad H := by
  refine h.ext (fun k hk => ?_) (fun k j hk hj => ?_) (fun _ _ _ _ => rfl)
  · by_cases q : k = 13
    · subst q; rfl
    · rw [up2_ne q]; unfold airF; split <;> first | rfl | exact absurd rfl q
  · have q : k ≠ 13 := fun e => by rw [e] at hk; exact absurd hk (by decide)
    rw [up2_ne q]; unfold airF; split <;> first | rfl | exact absurd rfl q
theorem airF_14 {f : Nat → Nat → Int32} {a b : Nat → Int32} {n z x : Int32} {G : GD} {A : Nat → Prop} {g : Nat → Nat → Int64} {ad : Nat → Nat} {H : Heap} (h : MW G A (up2 (airF f a b n z) 14 0 x) g ad H) : MW G A (airF f a b n x) g ad H := by
  refine h.ext (fun k hk => ?_) (fun k j hk hj => ?_) (fun _ _ _ _ => rfl)
  · by_cases q : k = 14
    · subst q; rfl
    · rw [up2_ne q]; unfold airF; split <;> first | rfl | exact absurd rfl q
  · have q : k ≠ 14 := fun e => by rw [e] at hk; exact absurd hk (by decide)
    rw [up2_ne q]; unfold airF; split <;> first | rfl | exact absurd rfl q
/-- how many rounds: behind n that changed something, what is left to be gone -/
theorem rdN_step {s : Nat → Int32} {n : Nat} (hn : n < 60) (h : chgP s (prN s n) = true) : rdN s (60 - n) n = rdN s (60 - (n + 1)) (n + 1) := by
  rw [show 60 - n = (60 - (n + 1)) + 1 by omega, rdN, if_pos h]
theorem rdN_stop {s : Nat → Int32} {n : Nat} (hn : n < 60) (h : ¬ chgP s (prN s n) = true) : rdN s (60 - n) n = n := by
  rw [show 60 - n = (60 - (n + 1)) + 1 by omega, rdN, if_neg h]
/-- the world behind rests(): the air of the row s in rest -/
abbrev arF (f : Nat → Nat → Int32) (b : Nat → Int32) : Nat → Nat → Int32 := airF f (prP (f 0)) b (nI (rdP (f 0))) (b2i (rdP (f 0) = 60))
abbrev AR (G : GD) (A : Nat → Prop) (f : Nat → Nat → Int32) (g : Nat → Nat → Int64) (ad : Nat → Nat) (b : Nat → Int32) (H : Heap) : Prop := MW G A (arF f b) g ad H
theorem airF_airF {f : Nat → Nat → Int32} {a b a' b' : Nat → Int32} {n z n' z' : Int32} : airF (airF f a b n z) a' b' n' z' = airF f a' b' n' z' := by
  funext k
  by_cases h1 : k = 11
  · subst h1; rfl
  by_cases h2 : k = 12
  · subst h2; rfl
  by_cases h3 : k = 13
  · subst h3; rfl
  by_cases h4 : k = 14
  · subst h4; rfl
  simp [airF]
/-- a row but the air's is written -/
theorem airF_up {f : Nat → Nat → Int32} {a b : Nat → Int32} {n z x : Int32} {k j : Nat} (hk : k < 11) : up2 (airF f a b n z) k j x = airF (up2 f k j x) a b n z := by
  funext q r
  unfold up2 airF
  split
  · rename_i h
    obtain ⟨rfl, rfl⟩ := h
    split
    · exact absurd hk (by decide)
    · exact absurd hk (by decide)
    · exact absurd hk (by decide)
    · exact absurd hk (by decide)
    · simp
  · rename_i h
    split
    · rfl
    · rfl
    · rfl
    · rfl
    · exact (if_neg h).symm
theorem up2_up2 {f : Nat → Nat → Int32} {k j : Nat} {x y : Int32} : up2 (up2 f k j x) k j y = up2 f k j y := by
  funext q r
  unfold up2
  split <;> rfl
theorem up2_self {f : Nat → Nat → Int32} {k j : Nat} : up2 f k j (f k j) = f := by
  funext q r
  unfold up2
  split
  · rename_i h; rw [h.1, h.2]
  · rfl
/-- the world, whatever the air's rows hold -/
def AX (G : GD) (A : Nat → Prop) (f : Nat → Nat → Int32) (g : Nat → Nat → Int64) (ad : Nat → Nat) (H : Heap) : Prop := ∃ a b n z, MW G A (airF f a b n z) g ad H
theorem AX.of {G : GD} {A : Nat → Prop} {f : Nat → Nat → Int32} {g : Nat → Nat → Int64} {ad : Nat → Nat} {H : Heap} (h : MW G A f g ad H) : AX G A f g ad H := ⟨_, _, _, _, airF_self h⟩
theorem AR.ax {G : GD} {A : Nat → Prop} {f : Nat → Nat → Int32} {g : Nat → Nat → Int64} {ad : Nat → Nat} {b : Nat → Int32} {H : Heap} (h : AR G A f g ad b H) : AX G A f g ad H := ⟨_, _, _, _, h⟩
theorem AX.mp {G : GD} {A : Nat → Prop} {f : Nat → Nat → Int32} {g : Nat → Nat → Int64} {ad : Nat → Nat} {H : Heap} (h : AX G A f g ad H) : MP G A f g ad H := by
  obtain ⟨a, b, n, z, h⟩ := h
  exact ⟨airF f a b n z, g, ⟨rfl, rfl, rfl, rfl, rfl, rfl, rfl, rfl⟩, rfl, h⟩
theorem nd_X3_rests : yX3_rests.cls = "SmokeLeansModel" ∧ yX3_rests.cls ≠ "java/lang/invoke/MethodHandle" ∧ yX3_rests.cls ≠ "java/lang/invoke/VarHandle" ∧ (parseMethodDescriptor yX3_rests.desc).map (fun d => d.parameters.length) = some 0 := by decide +kernel
set_option maxHeartbeats 4000000 in
theorem M_rests (l : Launch) {G : GD} {A : Nat → Prop} {f : Nat → Nat → Int32} {g : Nat → Nat → Int64} {ad : Nat → Nat} {H0 : Heap} (hW : MW G A f g ad H0) {R N : Nat} (hO : OkN (f 0) R N)  : MetW l G yX3_rests cX3_rests 2 none 4 0 0 A [.ref (ad 23)] H0 none (fun H => ∃ b, AR G A f g ad b H) := by
  refine mx_of (by decide) (Nat.le_of_ble_eq_true rfl) ?_
  intro p e s m below meth c hx hb hr hc hlk hnm hs0 ls hl
  subst hs0
  have hown := hc.2.2.2.1
  have hts := hc.2.2.2.2.1
  have hK := hc.2.2.2.2.2
  have hl : lv_has ls 2 [(0, .ref (ad 23))] := hl
  have hS : va_S A s.heap s.heap [] := va_S.rf
  have hW := airF_self hW
  refine lv_iconst (v := 0) hx hb dX3_rests_0 (by decide) ?_
  refine lv_istore_n (lv' := [(1, .int 0), (0, .ref (ad 23))]) hx hb dX3_rests_1 rfl hl (by decide) rfl (fun ls hl => ?_)
  refine w_loopH (σ := Nat) (fun i H locs cells slots fr => cells = 0 ∧ slots = 0 ∧ (∃ ls, fr = F0 m 2 ls [] ∧ lv_has ls 2 [(1, .int (nI i)), (0, .ref (ad 23))]) ∧ va_S A s.heap H locs ∧ (i ≤ 6 ∧ ∃ a, (∀ r, r < i → a r = 0) ∧ MW G A (airF f a (f 12) (f 13 0) (f 14 0)) g ad H)) (fun i => 6 - i) 0 ⟨rfl, rfl, ⟨ls, rfl, lv_sub hl [0, 1] rfl⟩, hS, ⟨Nat.zero_le _, f 11, fun _ h => absurd h (Nat.not_lt_zero _), hW⟩⟩ ?_
  intro i H locs cells slots fr hI ih
  obtain ⟨rfl, rfl, ⟨ls, rfl, hl⟩, hS, ⟨hle, a, ha, hW⟩⟩ := hI
  by_cases hi : i < 6
  · refine lv_iload_n hx hb dX3_rests_2 rfl (lv_at hl 0 rfl) ?_
    refine lv_bipush (v := 6) hx hb dX3_rests_3 (by decide) ?_
    refine lv_icmp_ge (tgt := 21) hx hb dX3_rests_5 (by decide) (fun h => absurd h (nI_ge (b := 6) hi (by decide))) (fun _ => ?_)
    refine lv_aload_n hx hb dX3_rests_8 rfl (lv_at hl 1 rfl) ?_
    refine m_get hc hW 11 (by decide) rfl q1011 rfl rfl dX3_rests_9 ?_
    refine lv_iload_n hx hb dX3_rests_12 rfl (lv_at hl 0 rfl) ?_
    refine lv_iconst (v := 0) hx hb dX3_rests_13 (by decide) ?_
    refine m_ist hc hW hS 11 rfl (n := 6) rfl (ix_nI (by omega) (by decide)) dX3_rests_14 (fun H locs hW hS hz => ?_)
    refine lv_iinc (v := nI (i + 1)) (lv' := [(1, .int (nI (i + 1))), (0, .ref (ad 23))]) hx hb dX3_rests_15 hl (k := 0) rfl (nI_1 _) (by decide) rfl (fun ls hl => ?_)
    refine lv_goto (tgt := 2) hx hb dX3_rests_18 (by decide) ?_
    rw [airF_11] at hW
    refine ih (i + 1) _ _ _ _ _ ⟨rfl, rfl, ⟨ls, rfl, lv_sub hl [0, 1] rfl⟩, hS, hi, _, ?_, hW⟩ (by omega)
    intro r hr
    by_cases q : r = i
    · subst q; simp [upd]
    · rw [show upd a i 0 r = a r from by simp [upd, q]]; exact ha r (by omega)
  · have hW := airF_ext (a' := prN (f 0) 0) (b' := f 12) hW (fun r hr => (ha r (by omega)).symm) (fun _ _ => rfl)
    refine lv_iload_n hx hb dX3_rests_2 rfl (lv_at hl 0 rfl) ?_
    refine lv_bipush (v := 6) hx hb dX3_rests_3 (by decide) ?_
    refine lv_icmp_ge (tgt := 21) hx hb dX3_rests_5 (by decide) (fun _ => ?_) (fun h => absurd (nI_le (a := 6) (by omega) (by omega)) h)
    refine lv_aload_n hx hb dX3_rests_21 rfl (lv_at hl 1 rfl) ?_
    refine lv_iconst (v := 0) hx hb dX3_rests_22 (by decide) ?_
    refine m_putS hc hW hS 13 (by decide) rfl rfl q1013 rfl rfl rfl rfl rfl rfl dX3_rests_23 (fun H locs hW hS hz => ?_)
    have hW := airF_13 hW
    refine w_loopH (σ := Nat) (fun n H locs cells slots fr => cells = 0 ∧ slots = 0 ∧ (∃ ls, fr = F0 m 26 ls [] ∧ lv_has ls 2 [(0, .ref (ad 23))]) ∧ va_S A s.heap H locs ∧ (n ≤ 60 ∧ rdN (f 0) (60 - n) n = rdP (f 0) ∧ ∃ b, MW G A (airF f (prN (f 0) n) b (nI n) (f 14 0)) g ad H)) (fun n => 60 - n) 0 ⟨rfl, rfl, ⟨ls, rfl, lv_sub hl [1] rfl⟩, hS, ⟨Nat.zero_le _, rfl, f 12, hW⟩⟩ ?_
    intro n H locs cells slots fr hI ih
    obtain ⟨rfl, rfl, ⟨ls, rfl, hl⟩, hS, ⟨hn, hrd, b, hW⟩⟩ := hI
    by_cases hn2 : n < 60
    · refine lv_aload_n hx hb dX3_rests_26 rfl (lv_at hl 0 rfl) ?_
      refine m_get hc hW 13 (by decide) rfl q1013 rfl rfl dX3_rests_27 ?_
      refine sm_topi (v := nI n) rfl ?_
      refine lv_bipush (v := 60) hx hb dX3_rests_30 (by decide) ?_
      refine lv_icmp_ge (tgt := 55) hx hb dX3_rests_32 (by decide) (fun h => absurd h (nI_ge (b := 60) hn2 (by decide))) (fun _ => ?_)
      refine lv_aload_n hx hb dX3_rests_35 rfl (lv_at hl 0 rfl) ?_
      have hO2 : OkN (airF f (prN (f 0) n) b (nI n) (f 14 0) 0) R N := hO
      refine cv_W1 (rest := []) hc (M_round l hW (R := R) (N := N) hO2) (lw_V q1237 q1239 qs52 q70 q1240) nd_X3_round ⟨Nat.le_of_ble_eq_true rfl, Nat.le_of_ble_eq_true rfl⟩ (MW.recv hK hW) rfl hl.1 rfl (Nat.le_of_ble_eq_true rfl) dX3_rests_36 ⟨Nat.le_of_ble_eq_true rfl, Nat.le_of_ble_eq_true rfl⟩ hS (fun _ h => h) (fun H locs hq hS hz hk => ?_)
      obtain ⟨b2, hW⟩ := hq
      rw [airF_r] at hW
      have hW : MW G A (airF f (prN (f 0) (n + 1)) b2 (nI n) (f 14 0)) g ad H := hW
      refine sm_topi (v := b2i (chgP (f 0) (prN (f 0) n) = true)) rfl ?_
      refine bi_eq (tgt := 55) hx hb dX3_rests_39 (by decide) (fun c_74 => ?_) (fun c_74 => ?_)
      · refine lv_aload_n hx hb dX3_rests_55 rfl (lv_at hl 0 rfl) ?_
        refine lv_aload_n hx hb dX3_rests_56 rfl (lv_at hl 0 rfl) ?_
        have hrs := roundP_same (s := f 0) (p := prN (f 0) n) (by simpa using c_74)
        have hrd2 := (rdN_stop hn2 c_74).symm.trans hrd
        refine m_get hc hW 13 (by decide) rfl q1013 rfl rfl dX3_rests_57 ?_
        refine sm_topi (v := nI n) rfl ?_
        refine lv_bipush (v := 60) hx hb dX3_rests_60 (by decide) ?_
        refine lv_icmp_ne (tgt := 69) hx hb dX3_rests_62 (by decide) (fun _ => ?_) (fun h => absurd h (fun h => absurd ((nI_eq (by omega) (by decide)).mp (show nI n = nI 60 from h)) (by omega)))
        refine lv_iconst (v := 0) hx hb dX3_rests_69 (by decide) ?_
        refine m_putS hc hW hS 14 (by decide) rfl rfl q1014 rfl rfl rfl rfl rfl rfl dX3_rests_70 (fun H locs hW hS hz => ?_)
        exact rv_W hx hb hr hlk hS (⟨b2, by have hW := airF_14 hW; rw [prN, hrs, hrd2] at hW; rw [AR, arF, b2i_f (show ¬ rdP (f 0) = 60 by omega)]; exact hW⟩) dX3_rests_73
      · refine lv_aload_n hx hb dX3_rests_42 rfl (lv_at hl 0 rfl) ?_
        refine lv_dup hx hb dX3_rests_43 rfl ?_
        refine m_get hc hW 13 (by decide) rfl q1013 rfl rfl dX3_rests_44 ?_
        refine sm_topi (v := nI n) rfl ?_
        refine lv_iconst (v := 1) hx hb dX3_rests_47 (by decide) ?_
        refine lv_iadd hx hb dX3_rests_48 (sm_topi (v := nI (n + 1)) (nI_add _ _) ?_)
        refine m_putS hc hW hS 13 (by decide) rfl rfl q1013 rfl rfl rfl rfl rfl rfl dX3_rests_49 (fun H locs hW hS hz => ?_)
        refine lv_goto (tgt := 26) hx hb dX3_rests_52 (by decide) ?_
        have hW := airF_13 hW
        refine ih (n + 1) _ _ _ _ _ ⟨rfl, rfl, ⟨ls, rfl, lv_sub hl [0] rfl⟩, hS, hn2, (rdN_step hn2 c_74).symm.trans hrd, b2, hW⟩ (by omega)
    · have hn60 : n = 60 := by omega
      have hrd2 : 60 = rdP (f 0) := by rw [hn60] at hrd; exact hrd
      refine lv_aload_n hx hb dX3_rests_26 rfl (lv_at hl 0 rfl) ?_
      refine m_get hc hW 13 (by decide) rfl q1013 rfl rfl dX3_rests_27 ?_
      refine sm_topi (v := nI n) rfl ?_
      refine lv_bipush (v := 60) hx hb dX3_rests_30 (by decide) ?_
      refine lv_icmp_ge (tgt := 55) hx hb dX3_rests_32 (by decide) (fun _ => ?_) (fun h => absurd (nI_le (a := 60) (by omega) (by omega)) h)
      refine lv_aload_n hx hb dX3_rests_55 rfl (lv_at hl 0 rfl) ?_
      refine lv_aload_n hx hb dX3_rests_56 rfl (lv_at hl 0 rfl) ?_
      refine m_get hc hW 13 (by decide) rfl q1013 rfl rfl dX3_rests_57 ?_
      refine sm_topi (v := nI n) rfl ?_
      refine lv_bipush (v := 60) hx hb dX3_rests_60 (by decide) ?_
      refine lv_icmp_ne (tgt := 69) hx hb dX3_rests_62 (by decide) (fun h => absurd (show nI n = 60 by rw [show n = 60 by omega]; rfl) h) (fun _ => ?_)
      refine lv_iconst (v := 1) hx hb dX3_rests_65 (by decide) ?_
      refine lv_goto (tgt := 70) hx hb dX3_rests_66 (by decide) ?_
      refine m_putS hc hW hS 14 (by decide) rfl rfl q1014 rfl rfl rfl rfl rfl rfl dX3_rests_70 (fun H locs hW hS hz => ?_)
      exact rv_W hx hb hr hlk hS (⟨b, by have hW := airF_14 hW; rw [hn60] at hW; rw [AR, arF, b2i_t hrd2.symm, prP, ← hrd2]; exact hW⟩) dX3_rests_73
set_option maxHeartbeats 4000000 in
/-- rests() from any air -/
theorem M_restsX (l : Launch) {G : GD} {A : Nat → Prop} {f : Nat → Nat → Int32} {g : Nat → Nat → Int64} {ad : Nat → Nat} {H0 : Heap} {a b : Nat → Int32} {n z : Int32} (hW : MW G A (airF f a b n z) g ad H0) {R N : Nat} (hO : OkN (f 0) R N) : MetW l G yX3_rests cX3_rests 2 none 4 0 0 A [.ref (ad 23)] H0 none (fun H => ∃ b, AR G A f g ad b H) := by
  have h := M_rests l hW (R := R) (N := N) hO
  have e : (fun H => ∃ b', AR G A (airF f a b n z) g ad b' H) = fun H => ∃ b', AR G A f g ad b' H := by
    funext H
    exact congrArg Exists (funext fun b' => by unfold AR arF; rw [airF_airF]; rfl)
  rw [e] at h
  exact h
