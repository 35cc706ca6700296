/-! the reference's methods, 8: the order of stopping -/
set_option maxRecDepth 100000
theorem MW.rowExt {G : GD} {A : Nat → Prop} {f : Nat → Nat → Int32} {g : Nat → Nat → Int64} {ad : Nat → Nat} {H : Heap} {k : Nat} {a a' : Nat → Int32} (hk : mKnd k = 1) (h : MW G A (upA f k a) g ad H) (he : ∀ j, j < mLen k → a' j = a j) : MW G A (upA f k a') g ad H := by
  refine h.ext (fun q hq => ?_) (fun q j hq hj => ?_) (fun _ _ _ _ => rfl)
  · have : q ≠ k := fun e => by rw [e, hk] at hq; exact absurd hq (by decide)
    simp [upA, this]
  · by_cases e : q = k
    · subst e; simp only [upA, if_pos]; exact he j hj
    · simp [upA, e]

theorem nd_X3_puts : yX3_puts.cls = "SmokeLeansModel" ∧ yX3_puts.cls ≠ "java/lang/invoke/MethodHandle" ∧ yX3_puts.cls ≠ "java/lang/invoke/VarHandle" ∧ (parseMethodDescriptor yX3_puts.desc).map (fun d => d.parameters.length) = some 0 := by decide +kernel
set_option maxHeartbeats 4000000 in
theorem M_puts (l : Launch) {G : GD} {A : Nat → Prop} {f : Nat → Nat → Int32} {g : Nat → Nat → Int64} {ad : Nat → Nat} {H0 : Heap} (hW : MW G A f g ad H0)  : MetW l G yX3_puts cX3_puts 2 none 0 0 0 A [.ref (ad 23)] H0 none (fun H => MW G A (upA f 2 (f 0)) g ad H) := by
  refine mx_of (by decide) (Nat.le_of_ble_eq_true rfl) ?_
  intro p e s m below meth c hx hb hr hc hlk hnm hs0 ls hl
  subst hs0
  have hown := hc.2.2.2.1
  have hts := hc.2.2.2.2.1
  have hK := hc.2.2.2.2.2
  have hl : lv_has ls 2 [(0, .ref (ad 23))] := hl
  have hS : va_S A s.heap s.heap [] := va_S.rf
  refine lv_iconst (v := 0) hx hb dX3_puts_0 (by decide) ?_
  refine lv_istore_n (lv' := [(1, .int 0), (0, .ref (ad 23))]) hx hb dX3_puts_1 rfl hl (by decide) rfl (fun ls hl => ?_)
  refine w_loopH (σ := Nat) (fun i H locs cells slots fr => cells = 0 ∧ slots = 0 ∧ (∃ ls, fr = F0 m 2 ls [] ∧ lv_has ls 2 [(1, .int (nI i)), (0, .ref (ad 23))]) ∧ va_S A s.heap H locs ∧ (i ≤ 169 ∧ ∃ a, (∀ r, r < i → a r = f 0 r) ∧ MW G A (upA f 2 a) g ad H)) (fun i => 169 - i) 0 ⟨rfl, rfl, ⟨ls, rfl, lv_sub hl [0, 1] rfl⟩, hS, ⟨Nat.zero_le _, f 2, fun _ h => absurd h (Nat.not_lt_zero _), by rw [upA_self]; exact hW⟩⟩ ?_
  intro i H locs cells slots fr hI ih
  obtain ⟨rfl, rfl, ⟨ls, rfl, hl⟩, hS, ⟨hle, a, ha, hW⟩⟩ := hI
  by_cases hi : i < 169
  · refine lv_iload_n hx hb dX3_puts_2 rfl (lv_at hl 0 rfl) ?_
    refine lv_sipush (v := 169) hx hb dX3_puts_3 (by decide) ?_
    refine lv_icmp_ge (tgt := 27) hx hb dX3_puts_6 (by decide) (fun h => absurd h (nI_ge (b := 169) hi (by decide))) (fun _ => ?_)
    refine lv_aload_n hx hb dX3_puts_9 rfl (lv_at hl 1 rfl) ?_
    refine m_get hc hW 2 (by decide) rfl q1002 rfl rfl dX3_puts_10 ?_
    refine lv_iload_n hx hb dX3_puts_13 rfl (lv_at hl 0 rfl) ?_
    refine lv_aload_n hx hb dX3_puts_14 rfl (lv_at hl 1 rfl) ?_
    refine m_get hc hW 0 (by decide) rfl q1000 rfl rfl dX3_puts_15 ?_
    refine lv_iload_n hx hb dX3_puts_18 rfl (lv_at hl 0 rfl) ?_
    refine m_ild hc hW 0 rfl (n := 169) rfl (ix_nI (by omega) (by decide)) dX3_puts_19 ?_
    refine sm_topi (v := f 0 i) (rfl) ?_
    refine m_ist hc hW hS 2 rfl (n := 169) rfl (ix_nI (by omega) (by decide)) dX3_puts_20 (fun H locs hW hS hz => ?_)
    refine lv_iinc (v := nI (i + 1)) (lv' := [(1, .int (nI (i + 1))), (0, .ref (ad 23))]) hx hb dX3_puts_21 hl (k := 0) rfl (nI_1 _) (by decide) rfl (fun ls hl => ?_)
    refine lv_goto (tgt := 2) hx hb dX3_puts_24 (by decide) ?_
    rw [up2_upA] at hW
    refine ih (i + 1) _ _ _ _ _ ⟨rfl, rfl, ⟨ls, rfl, lv_sub hl [0, 1] rfl⟩, hS, hi, _, ?_, hW⟩ (by omega)
    intro r hr
    by_cases q : r = i
    · subst q; exact upd_at
    · rw [pk_un q]; exact ha r (by omega)
  · refine lv_iload_n hx hb dX3_puts_2 rfl (lv_at hl 0 rfl) ?_
    refine lv_sipush (v := 169) hx hb dX3_puts_3 (by decide) ?_
    refine lv_icmp_ge (tgt := 27) hx hb dX3_puts_6 (by decide) (fun _ => ?_) (fun h => absurd (nI_le (a := 169) (by omega) (by omega)) h)
    exact rv_W hx hb hr hlk hS (hW.rowExt rfl (fun j hj => (ha j (Nat.lt_of_lt_of_le hj (show 169 ≤ i by omega))).symm)) dX3_puts_27
theorem nd_X3_putsBack : yX3_putsBack.cls = "SmokeLeansModel" ∧ yX3_putsBack.cls ≠ "java/lang/invoke/MethodHandle" ∧ yX3_putsBack.cls ≠ "java/lang/invoke/VarHandle" ∧ (parseMethodDescriptor yX3_putsBack.desc).map (fun d => d.parameters.length) = some 0 := by decide +kernel
set_option maxHeartbeats 4000000 in
theorem M_putsBack (l : Launch) {G : GD} {A : Nat → Prop} {f : Nat → Nat → Int32} {g : Nat → Nat → Int64} {ad : Nat → Nat} {H0 : Heap} (hW : MW G A f g ad H0)  : MetW l G yX3_putsBack cX3_putsBack 2 none 0 0 0 A [.ref (ad 23)] H0 none (fun H => MW G A (upA f 0 (f 2)) g ad H) := by
  refine mx_of (by decide) (Nat.le_of_ble_eq_true rfl) ?_
  intro p e s m below meth c hx hb hr hc hlk hnm hs0 ls hl
  subst hs0
  have hown := hc.2.2.2.1
  have hts := hc.2.2.2.2.1
  have hK := hc.2.2.2.2.2
  have hl : lv_has ls 2 [(0, .ref (ad 23))] := hl
  have hS : va_S A s.heap s.heap [] := va_S.rf
  refine lv_iconst (v := 0) hx hb dX3_putsBack_0 (by decide) ?_
  refine lv_istore_n (lv' := [(1, .int 0), (0, .ref (ad 23))]) hx hb dX3_putsBack_1 rfl hl (by decide) rfl (fun ls hl => ?_)
  refine w_loopH (σ := Nat) (fun i H locs cells slots fr => cells = 0 ∧ slots = 0 ∧ (∃ ls, fr = F0 m 2 ls [] ∧ lv_has ls 2 [(1, .int (nI i)), (0, .ref (ad 23))]) ∧ va_S A s.heap H locs ∧ (i ≤ 169 ∧ ∃ a, (∀ r, r < i → a r = f 2 r) ∧ MW G A (upA f 0 a) g ad H)) (fun i => 169 - i) 0 ⟨rfl, rfl, ⟨ls, rfl, lv_sub hl [0, 1] rfl⟩, hS, ⟨Nat.zero_le _, f 0, fun _ h => absurd h (Nat.not_lt_zero _), by rw [upA_self]; exact hW⟩⟩ ?_
  intro i H locs cells slots fr hI ih
  obtain ⟨rfl, rfl, ⟨ls, rfl, hl⟩, hS, ⟨hle, a, ha, hW⟩⟩ := hI
  by_cases hi : i < 169
  · refine lv_iload_n hx hb dX3_putsBack_2 rfl (lv_at hl 0 rfl) ?_
    refine lv_sipush (v := 169) hx hb dX3_putsBack_3 (by decide) ?_
    refine lv_icmp_ge (tgt := 27) hx hb dX3_putsBack_6 (by decide) (fun h => absurd h (nI_ge (b := 169) hi (by decide))) (fun _ => ?_)
    refine lv_aload_n hx hb dX3_putsBack_9 rfl (lv_at hl 1 rfl) ?_
    refine m_get hc hW 0 (by decide) rfl q1000 rfl rfl dX3_putsBack_10 ?_
    refine lv_iload_n hx hb dX3_putsBack_13 rfl (lv_at hl 0 rfl) ?_
    refine lv_aload_n hx hb dX3_putsBack_14 rfl (lv_at hl 1 rfl) ?_
    refine m_get hc hW 2 (by decide) rfl q1002 rfl rfl dX3_putsBack_15 ?_
    refine lv_iload_n hx hb dX3_putsBack_18 rfl (lv_at hl 0 rfl) ?_
    refine m_ild hc hW 2 rfl (n := 169) rfl (ix_nI (by omega) (by decide)) dX3_putsBack_19 ?_
    refine sm_topi (v := f 2 i) (rfl) ?_
    refine m_ist hc hW hS 0 rfl (n := 169) rfl (ix_nI (by omega) (by decide)) dX3_putsBack_20 (fun H locs hW hS hz => ?_)
    refine lv_iinc (v := nI (i + 1)) (lv' := [(1, .int (nI (i + 1))), (0, .ref (ad 23))]) hx hb dX3_putsBack_21 hl (k := 0) rfl (nI_1 _) (by decide) rfl (fun ls hl => ?_)
    refine lv_goto (tgt := 2) hx hb dX3_putsBack_24 (by decide) ?_
    rw [up2_upA] at hW
    refine ih (i + 1) _ _ _ _ _ ⟨rfl, rfl, ⟨ls, rfl, lv_sub hl [0, 1] rfl⟩, hS, hi, _, ?_, hW⟩ (by omega)
    intro r hr
    by_cases q : r = i
    · subst q; exact upd_at
    · rw [pk_un q]; exact ha r (by omega)
  · refine lv_iload_n hx hb dX3_putsBack_2 rfl (lv_at hl 0 rfl) ?_
    refine lv_sipush (v := 169) hx hb dX3_putsBack_3 (by decide) ?_
    refine lv_icmp_ge (tgt := 27) hx hb dX3_putsBack_6 (by decide) (fun _ => ?_) (fun h => absurd (nI_le (a := 169) (by omega) (by omega)) h)
    exact rv_W hx hb hr hlk hS (hW.rowExt rfl (fun j hj => (ha j (Nat.lt_of_lt_of_le hj (show 169 ≤ i by omega))).symm)) dX3_putsBack_27
/-- the gap, of the first n, that is shut next; what is lost then -/
def nsN (s : Nat → Int32) (had : Int32) : Nat → Int32 × Int32
  | 0 => (-1, had)
  | n + 1 =>
    if s (gp n 7) = 0 then
      if s (gp n 2) = -1 then
        if needP s n then nsN s had n
        else if (nsN s had n).2 ≤ lostP (upd s (gp n 7) 1) then nsN s had n
        else if smokesP (upd s (gp n 7) 1) = true then nsN s had n
        else (nI n, lostP (upd s (gp n 7) 1))
      else nsN s had n
    else nsN s had n
theorem nsN_c {s : Nat → Int32} {had : Int32} : ∀ n, (nsN s had n = (-1, had)) ∨ ∃ j, j < n ∧ s (gp j 7) = 0 ∧ nsN s had n = (nI j, lostP (upd s (gp j 7) 1))
  | 0 => Or.inl rfl
  | n + 1 => by
    have ih := nsN_c (s := s) (had := had) n
    have ih2 : (nsN s had n = (-1, had)) ∨ ∃ j, j < n + 1 ∧ s (gp j 7) = 0 ∧ nsN s had n = (nI j, lostP (upd s (gp j 7) 1)) := by
      rcases ih with h | ⟨j, h1, h2⟩
      · exact Or.inl h
      · exact Or.inr ⟨j, by omega, h2⟩
    unfold nsN
    split
    · rename_i h7
      split
      · split
        · exact ih2
        · split
          · exact ih2
          · split
            · exact ih2
            · exact Or.inr ⟨n, Nat.lt_succ_self n, h7, rfl⟩
      · exact ih2
    · exact ih2
/-- the row behind k steps, and what is lost then -/
def orS (s : Nat → Int32) (N : Nat) : Nat → (Nat → Int32) × Int32
  | 0 => (s, lostP s)
  | k + 1 =>
    (if (nsN (orS s N k).1 (orS s N k).2 N).1 < 0 then (orS s N k).1 else upd (orS s N k).1 (gp (nsN (orS s N k).1 (orS s N k).2 N).1.toNatClampNeg 7) 1,
     (nsN (orS s N k).1 (orS s N k).2 N).2)
/-- the gap of step k; less than 0: none -/
def orG (s : Nat → Int32) (N k : Nat) : Int32 := (nsN (orS s N k).1 (orS s N k).2 N).1
def okN (s : Nat → Int32) (N : Nat) : Nat → Nat → Nat
  | 0, k => k
  | q + 1, k => if orG s N k < 0 then k else okN s N q (k + 1)
/-- how many steps there are -/
def orK (s : Nat → Int32) (N : Nat) : Nat := okN s N 20 0
theorem orG_c {s : Nat → Int32} {N k : Nat} : orG s N k = -1 ∨ ∃ j, j < N ∧ (orS s N k).1 (gp j 7) = 0 ∧ orG s N k = nI j ∧ (orS s N (k + 1)).2 = lostP (upd (orS s N k).1 (gp j 7) 1) := by
  unfold orG
  rcases nsN_c (s := (orS s N k).1) (had := (orS s N k).2) N with h | ⟨j, h1, h2, h3⟩
  · exact Or.inl (by rw [h])
  · exact Or.inr ⟨j, h1, h2, by rw [h3], by show (nsN (orS s N k).1 (orS s N k).2 N).2 = _; rw [h3]⟩
theorem orG_ex {s : Nat → Int32} {N k : Nat} (hN : N ≤ 20) (h : ¬ orG s N k < 0) : ∃ j, j < N ∧ (orS s N k).1 (gp j 7) = 0 ∧ orG s N k = nI j ∧ (orS s N (k + 1)).1 = upd (orS s N k).1 (gp j 7) 1 ∧ (orS s N (k + 1)).2 = lostP (upd (orS s N k).1 (gp j 7) 1) := by
  rcases orG_c (s := s) (N := N) (k := k) with e | ⟨j, h1, h2, h3, h4⟩
  · rw [e] at h; exact absurd (by decide) h
  · refine ⟨j, h1, h2, h3, ?_, h4⟩
    have h3' : (nsN (orS s N k).1 (orS s N k).2 N).1 = nI j := h3
    show (if (nsN (orS s N k).1 (orS s N k).2 N).1 < 0 then _ else _) = _
    rw [if_neg (by rw [h3']; exact nI_pos (by omega)), h3', nI_clamp (by omega)]
theorem OkN_or {s : Nat → Int32} {R N : Nat} (hO : OkN s R N) : ∀ k, OkN (orS s N k).1 R N
  | 0 => hO
  | k + 1 => by
    show OkN (if (nsN (orS s N k).1 (orS s N k).2 N).1 < 0 then _ else _) R N
    split
    · exact OkN_or hO k
    · exact OkN_shut (OkN_or hO k) (Or.inr rfl)
theorem nd_X3_nextShut : yX3_nextShut.cls = "SmokeLeansModel" ∧ yX3_nextShut.cls ≠ "java/lang/invoke/MethodHandle" ∧ yX3_nextShut.cls ≠ "java/lang/invoke/VarHandle" ∧ (parseMethodDescriptor yX3_nextShut.desc).map (fun d => d.parameters.length) = some 1 := by decide +kernel
set_option maxHeartbeats 8000000 in
theorem M_nextShut (l : Launch) {G : GD} {A : Nat → Prop} {f : Nat → Nat → Int32} {g : Nat → Nat → Int64} {ad : Nat → Nat} {H0 : Heap} {S a0 b0 : Nat → Int32} {n0 z0 : Int32} (hW : MW G A (airF (upA f 0 S) a0 b0 n0 z0) g ad H0) {R N K : Nat} (hO : OkN S R N) (hK17 : f 17 0 = nI K) (hK20 : K < 20) (had : Int32) : MetW l G yX3_nextShut cX3_nextShut 7 (some .int) 5 0 0 A [.ref (ad 23), .int had] H0 (some (.int ((nsN S had N).1))) (fun H => ∃ a b n z, MW G A (airF (upA (up2 f 16 (K + 1) (nsN S had N).2) 0 S) a b n z) g ad H) := by
  refine mx_of (by decide) (Nat.le_of_ble_eq_true rfl) ?_
  intro p e s m below meth c hx hb hr hc hlk hnm hs0 ls hl
  subst hs0
  have hown := hc.2.2.2.1
  have hts := hc.2.2.2.2.1
  have hK := hc.2.2.2.2.2
  have hl : lv_has ls 7 [(0, .ref (ad 23)), (1, .int had)] := hl
  have hS : va_S A s.heap s.heap [] := va_S.rf
  refine lv_iconst (v := (-1)) hx hb dX3_nextShut_0 (by decide) ?_
  refine lv_istore_n (lv' := [(2, .int (-1)), (0, .ref (ad 23)), (1, .int had)]) hx hb dX3_nextShut_1 rfl hl (by decide) rfl (fun ls hl => ?_)
  refine lv_iload_n hx hb dX3_nextShut_2 rfl (lv_at hl 2 rfl) ?_
  refine lv_istore_n (lv' := [(3, .int had), (2, .int (-1)), (0, .ref (ad 23)), (1, .int had)]) hx hb dX3_nextShut_3 rfl hl (by decide) rfl (fun ls hl => ?_)
  refine lv_iconst (v := 0) hx hb dX3_nextShut_4 (by decide) ?_
  refine lv_istore (lv' := [(4, .int 0), (3, .int had), (2, .int (-1)), (0, .ref (ad 23)), (1, .int had)]) hx hb dX3_nextShut_5 hl (by decide) rfl (fun ls hl => ?_)
  refine w_loopH (σ := Nat) (fun i H locs cells slots fr => cells = 0 ∧ slots = 0 ∧ (∃ ls, fr = F0 m 7 ls [] ∧ lv_has ls 7 [(4, .int (nI i)), (3, .int ((nsN S had i).2)), (2, .int ((nsN S had i).1)), (0, .ref (ad 23)), (1, .int had)]) ∧ va_S A s.heap H locs ∧ (i ≤ N ∧ ∃ a b n z, MW G A (airF (upA f 0 S) a b n z) g ad H)) (fun i => N - i) 0 ⟨rfl, rfl, ⟨ls, rfl, lv_sub hl [0, 1, 2, 3, 4] rfl⟩, hS, ⟨Nat.zero_le _, _, _, _, _, hW⟩⟩ ?_
  intro i H locs cells slots fr hI ih
  obtain ⟨rfl, rfl, ⟨ls, rfl, hl⟩, hS, ⟨hle, a0, b0, n0, z0, hW⟩⟩ := hI
  by_cases hi : i < N
  · have hi20 : i < 20 := by have := hO.2.1; omega
    have hO1 : OkN (upd S (gp i 7) 1) R N := OkN_shut hO (Or.inr rfl)
    refine lv_iload hx hb dX3_nextShut_7 (lv_at hl 0 rfl) ?_
    refine lv_aload_n hx hb dX3_nextShut_9 rfl (lv_at hl 3 rfl) ?_
    refine m_get hc hW 0 (by decide) rfl q1000 rfl rfl dX3_nextShut_10 ?_
    refine lv_iconst (v := 1) hx hb dX3_nextShut_13 (by decide) ?_
    refine m_ild hc hW 0 rfl (n := 169) rfl (ix_eq (k := 1) rfl (by decide) (by decide)) dX3_nextShut_14 ?_
    refine sm_topi (v := S 1) rfl ?_
    refine sm_topi (v := nI N) (hO.2.2.2.1) ?_
    refine lv_icmp_ge (tgt := 114) hx hb dX3_nextShut_15 (by decide) (fun h => absurd h (nI_ge hi (by have := hO.2.1; omega))) (fun _ => ?_)
    refine lv_aload_n hx hb dX3_nextShut_18 rfl (lv_at hl 3 rfl) ?_
    refine lv_iload hx hb dX3_nextShut_19 (lv_at hl 0 rfl) ?_
    refine lv_bipush (v := 7) hx hb dX3_nextShut_21 (by decide) ?_
    refine cv_R1 (rest := []) hc (M_has l hW i 7 (by omega)) (lw_V q1110 q1112 qs33 q70 q1113) nd_X3_has ⟨Nat.le_of_ble_eq_true rfl, Nat.le_of_ble_eq_true rfl⟩ (MW.recv hK hW) rfl hl.1 rfl (Nat.le_of_ble_eq_true rfl) dX3_nextShut_23 ⟨Nat.le_of_ble_eq_true rfl, Nat.le_of_ble_eq_true rfl⟩ ?_
    refine sm_topi (v := S (gp i 7)) rfl ?_
    refine lv_if_ne (tgt := 108) hx hb dX3_nextShut_26 (by decide) (fun c_174 => ?_) (fun c_174 => ?_)
    · refine lv_iinc (v := nI (i + 1)) (lv' := [(4, .int (nI (i + 1))), (3, .int ((nsN S had i).2)), (2, .int ((nsN S had i).1)), (0, .ref (ad 23)), (1, .int had)]) hx hb dX3_nextShut_108 hl (k := 0) rfl (nI_1 _) (by decide) rfl (fun ls hl => ?_)
      refine lv_goto (tgt := 7) hx hb dX3_nextShut_111 (by decide) ?_
      refine ih (i + 1) _ _ _ _ _ ⟨rfl, rfl, ⟨ls, rfl, ?_⟩, hS, hi, _, _, _, _, hW⟩ (by omega)
      rw [show nsN S had (i + 1) = nsN S had i from by simp only [nsN, if_neg c_174]]
      exact lv_sub hl [0, 1, 2, 3, 4] rfl
    · refine lv_aload_n hx hb dX3_nextShut_29 rfl (lv_at hl 3 rfl) ?_
      refine lv_iload hx hb dX3_nextShut_30 (lv_at hl 0 rfl) ?_
      refine lv_iconst (v := 2) hx hb dX3_nextShut_32 (by decide) ?_
      refine cv_R1 (rest := []) hc (M_has l hW i 2 (by omega)) (lw_V q1110 q1112 qs33 q70 q1113) nd_X3_has ⟨Nat.le_of_ble_eq_true rfl, Nat.le_of_ble_eq_true rfl⟩ (MW.recv hK hW) rfl hl.1 rfl (Nat.le_of_ble_eq_true rfl) dX3_nextShut_33 ⟨Nat.le_of_ble_eq_true rfl, Nat.le_of_ble_eq_true rfl⟩ ?_
      refine sm_topi (v := S (gp i 2)) rfl ?_
      refine lv_iconst (v := (-1)) hx hb dX3_nextShut_36 (by decide) ?_
      refine lv_icmp_ne (tgt := 108) hx hb dX3_nextShut_37 (by decide) (fun c_175 => ?_) (fun c_175 => ?_)
      · refine lv_iinc (v := nI (i + 1)) (lv' := [(4, .int (nI (i + 1))), (3, .int ((nsN S had i).2)), (2, .int ((nsN S had i).1)), (0, .ref (ad 23)), (1, .int had)]) hx hb dX3_nextShut_108 hl (k := 0) rfl (nI_1 _) (by decide) rfl (fun ls hl => ?_)
        refine lv_goto (tgt := 7) hx hb dX3_nextShut_111 (by decide) ?_
        refine ih (i + 1) _ _ _ _ _ ⟨rfl, rfl, ⟨ls, rfl, ?_⟩, hS, hi, _, _, _, _, hW⟩ (by omega)
        rw [show nsN S had (i + 1) = nsN S had i from by simp only [nsN, if_pos c_174, if_neg c_175]]
        exact lv_sub hl [0, 1, 2, 3, 4] rfl
      · refine lv_aload_n hx hb dX3_nextShut_40 rfl (lv_at hl 3 rfl) ?_
        refine lv_iload hx hb dX3_nextShut_41 (lv_at hl 0 rfl) ?_
        refine cv_R1 (rest := []) hc (M_isNeeded l hW i (by omega)) (lw_V q1135 q1137 qs36 q70 q1138) nd_X3_isNeeded ⟨Nat.le_of_ble_eq_true rfl, Nat.le_of_ble_eq_true rfl⟩ (MW.recv hK hW) rfl hl.1 rfl (Nat.le_of_ble_eq_true rfl) dX3_nextShut_43 ⟨Nat.le_of_ble_eq_true rfl, Nat.le_of_ble_eq_true rfl⟩ ?_
        refine sm_topi (v := b2i (needP (S) i)) rfl ?_
        refine bi_ne (tgt := 108) hx hb dX3_nextShut_46 (by decide) (fun c_176 => ?_) (fun c_176 => ?_)
        · refine lv_iinc (v := nI (i + 1)) (lv' := [(4, .int (nI (i + 1))), (3, .int ((nsN S had i).2)), (2, .int ((nsN S had i).1)), (0, .ref (ad 23)), (1, .int had)]) hx hb dX3_nextShut_108 hl (k := 0) rfl (nI_1 _) (by decide) rfl (fun ls hl => ?_)
          refine lv_goto (tgt := 7) hx hb dX3_nextShut_111 (by decide) ?_
          refine ih (i + 1) _ _ _ _ _ ⟨rfl, rfl, ⟨ls, rfl, ?_⟩, hS, hi, _, _, _, _, hW⟩ (by omega)
          rw [show nsN S had (i + 1) = nsN S had i from by simp only [nsN, if_pos c_174, if_pos c_175, if_pos c_176]]
          exact lv_sub hl [0, 1, 2, 3, 4] rfl
        · refine lv_aload_n hx hb dX3_nextShut_49 rfl (lv_at hl 3 rfl) ?_
          refine lv_iconst (v := 1) hx hb dX3_nextShut_50 (by decide) ?_
          refine lv_iload hx hb dX3_nextShut_51 (lv_at hl 0 rfl) ?_
          refine lv_ishl hx hb dX3_nextShut_53 ?_
          refine lv_iconst (v := 1) hx hb dX3_nextShut_54 (by decide) ?_
          refine cv_W0 (rest := []) hc (M_shutsX l hW (R := R) (N := N) hO (1 <<< ((nI i) &&& 31)) 1) (lw_V q1330 q1332 qs62 q70 q1333) nd_X3_shuts ⟨Nat.le_of_ble_eq_true rfl, Nat.le_of_ble_eq_true rfl⟩ (MW.recv hK hW) rfl hl.1 rfl (Nat.le_of_ble_eq_true rfl) dX3_nextShut_55 ⟨Nat.le_of_ble_eq_true rfl, Nat.le_of_ble_eq_true rfl⟩ hS (fun _ h => h) (fun H locs hW hS hz hk => ?_)
          rw [shN_one hi hO.2.1] at hW
          refine lv_aload_n hx hb dX3_nextShut_58 rfl (lv_at hl 3 rfl) ?_
          refine cv_W0 (rest := []) hc (M_restsX l hW (R := R) (N := N) hO1) (lw_V q1233 q1235 qs51 q70 q1236) nd_X3_rests ⟨Nat.le_of_ble_eq_true rfl, Nat.le_of_ble_eq_true rfl⟩ (MW.recv hK hW) rfl hl.1 rfl (Nat.le_of_ble_eq_true rfl) dX3_nextShut_59 ⟨Nat.le_of_ble_eq_true rfl, Nat.le_of_ble_eq_true rfl⟩ hS (fun _ h => h) (fun H locs hq hS hz hk => ?_)
          obtain ⟨b_177, hW⟩ := hq
          have hW : AR G A (upA f 0 (upd S (gp i 7) 1)) g ad b_177 H := hW
          refine lv_aload_n hx hb dX3_nextShut_62 rfl (lv_at hl 3 rfl) ?_
          refine cv_R1 (rest := []) hc (M_lost l hW (R := R) (N := N) hO1) (lw_V q1281 q1283 qs57 q70 q1284) nd_X3_lost ⟨Nat.le_of_ble_eq_true rfl, Nat.le_of_ble_eq_true rfl⟩ (MW.recv hK hW) rfl hl.1 rfl (Nat.le_of_ble_eq_true rfl) dX3_nextShut_63 ⟨Nat.le_of_ble_eq_true rfl, Nat.le_of_ble_eq_true rfl⟩ ?_
          refine sm_topi (v := freshN (upd S (gp i 7) 1) (prP (upd S (gp i 7) 1)) N * (upd S (gp i 7) 1) 2) rfl ?_
          refine sm_topi (v := lostP (upd S (gp i 7) 1)) (by rw [lostP, freshP, hO1.cl1]) ?_
          refine lv_istore (lv' := [(5, .int (lostP (upd S (gp i 7) 1))), (4, .int (nI i)), (3, .int ((nsN S had i).2)), (2, .int ((nsN S had i).1)), (0, .ref (ad 23)), (1, .int had)]) hx hb dX3_nextShut_66 hl (by decide) rfl (fun ls hl => ?_)
          refine lv_iload hx hb dX3_nextShut_68 (lv_at hl 0 rfl) ?_
          refine lv_iload_n hx hb dX3_nextShut_70 rfl (lv_at hl 2 rfl) ?_
          refine lv_icmp_ge (tgt := 85) hx hb dX3_nextShut_71 (by decide) (fun c_178 => ?_) (fun c_178 => ?_)
          · refine lv_iconst (v := 0) hx hb dX3_nextShut_85 (by decide) ?_
            refine lv_istore (lv' := [(6, .int 0), (5, .int (lostP (upd S (gp i 7) 1))), (4, .int (nI i)), (3, .int ((nsN S had i).2)), (2, .int ((nsN S had i).1)), (0, .ref (ad 23)), (1, .int had)]) hx hb dX3_nextShut_86 hl (by decide) rfl (fun ls hl => ?_)
            refine lv_aload_n hx hb dX3_nextShut_88 rfl (lv_at hl 5 rfl) ?_
            refine lv_iconst (v := 1) hx hb dX3_nextShut_89 (by decide) ?_
            refine lv_iload hx hb dX3_nextShut_90 (lv_at hl 2 rfl) ?_
            refine lv_ishl hx hb dX3_nextShut_92 ?_
            refine lv_iconst (v := 0) hx hb dX3_nextShut_93 (by decide) ?_
            refine cv_W0 (rest := []) hc (M_shutsX l hW (R := R) (N := N) hO1 (1 <<< ((nI i) &&& 31)) 0) (lw_V q1330 q1332 qs62 q70 q1333) nd_X3_shuts ⟨Nat.le_of_ble_eq_true rfl, Nat.le_of_ble_eq_true rfl⟩ (MW.recv hK hW) rfl hl.1 rfl (Nat.le_of_ble_eq_true rfl) dX3_nextShut_94 ⟨Nat.le_of_ble_eq_true rfl, Nat.le_of_ble_eq_true rfl⟩ hS (fun _ h => h) (fun H locs hW hS hz hk => ?_)
            rw [shN_one hi hO.2.1, upd_upd, upd_same c_174] at hW
            refine lv_iload hx hb dX3_nextShut_97 (lv_at hl 0 rfl) ?_
            refine lv_if_eq (tgt := 108) hx hb dX3_nextShut_99 (by decide) (fun _ => ?_) (fun h => absurd (by decide) h)
            refine lv_iinc (v := nI (i + 1)) (lv' := [(4, .int (nI (i + 1))), (6, .int 0), (5, .int (lostP (upd S (gp i 7) 1))), (3, .int ((nsN S had i).2)), (2, .int ((nsN S had i).1)), (0, .ref (ad 23)), (1, .int had)]) hx hb dX3_nextShut_108 hl (k := 2) rfl (nI_1 _) (by decide) rfl (fun ls hl => ?_)
            refine lv_goto (tgt := 7) hx hb dX3_nextShut_111 (by decide) ?_
            refine ih (i + 1) _ _ _ _ _ ⟨rfl, rfl, ⟨ls, rfl, ?_⟩, hS, hi, _, _, _, _, hW⟩ (by omega)
            rw [show nsN S had (i + 1) = nsN S had i from by simp only [nsN, if_pos c_174, if_pos c_175, if_neg c_176, if_pos c_178]]
            exact lv_sub hl [0, 3, 4, 5, 6] rfl
          · refine lv_aload_n hx hb dX3_nextShut_74 rfl (lv_at hl 4 rfl) ?_
            refine cv_R1 (rest := []) hc (M_smokes l hW (R := R) (N := N) hO1) (lw_V q1285 q1287 qs58 q70 q1288) nd_X3_smokes ⟨Nat.le_of_ble_eq_true rfl, Nat.le_of_ble_eq_true rfl⟩ (MW.recv hK hW) rfl hl.1 rfl (Nat.le_of_ble_eq_true rfl) dX3_nextShut_75 ⟨Nat.le_of_ble_eq_true rfl, Nat.le_of_ble_eq_true rfl⟩ ?_
            refine sm_topi (v := b2i (smkN (upd S (gp i 7) 1) (prP (upd S (gp i 7) 1)) N = true)) rfl ?_
            refine sm_topi (v := b2i (smokesP (upd S (gp i 7) 1) = true)) (by rw [smokesP, hO1.cl1]) ?_
            refine bi_ne (tgt := 85) hx hb dX3_nextShut_78 (by decide) (fun c_179 => ?_) (fun c_179 => ?_)
            · refine lv_iconst (v := 0) hx hb dX3_nextShut_85 (by decide) ?_
              refine lv_istore (lv' := [(6, .int 0), (5, .int (lostP (upd S (gp i 7) 1))), (4, .int (nI i)), (3, .int ((nsN S had i).2)), (2, .int ((nsN S had i).1)), (0, .ref (ad 23)), (1, .int had)]) hx hb dX3_nextShut_86 hl (by decide) rfl (fun ls hl => ?_)
              refine lv_aload_n hx hb dX3_nextShut_88 rfl (lv_at hl 5 rfl) ?_
              refine lv_iconst (v := 1) hx hb dX3_nextShut_89 (by decide) ?_
              refine lv_iload hx hb dX3_nextShut_90 (lv_at hl 2 rfl) ?_
              refine lv_ishl hx hb dX3_nextShut_92 ?_
              refine lv_iconst (v := 0) hx hb dX3_nextShut_93 (by decide) ?_
              refine cv_W0 (rest := []) hc (M_shutsX l hW (R := R) (N := N) hO1 (1 <<< ((nI i) &&& 31)) 0) (lw_V q1330 q1332 qs62 q70 q1333) nd_X3_shuts ⟨Nat.le_of_ble_eq_true rfl, Nat.le_of_ble_eq_true rfl⟩ (MW.recv hK hW) rfl hl.1 rfl (Nat.le_of_ble_eq_true rfl) dX3_nextShut_94 ⟨Nat.le_of_ble_eq_true rfl, Nat.le_of_ble_eq_true rfl⟩ hS (fun _ h => h) (fun H locs hW hS hz hk => ?_)
              rw [shN_one hi hO.2.1, upd_upd, upd_same c_174] at hW
              refine lv_iload hx hb dX3_nextShut_97 (lv_at hl 0 rfl) ?_
              refine lv_if_eq (tgt := 108) hx hb dX3_nextShut_99 (by decide) (fun _ => ?_) (fun h => absurd (by decide) h)
              refine lv_iinc (v := nI (i + 1)) (lv' := [(4, .int (nI (i + 1))), (6, .int 0), (5, .int (lostP (upd S (gp i 7) 1))), (3, .int ((nsN S had i).2)), (2, .int ((nsN S had i).1)), (0, .ref (ad 23)), (1, .int had)]) hx hb dX3_nextShut_108 hl (k := 2) rfl (nI_1 _) (by decide) rfl (fun ls hl => ?_)
              refine lv_goto (tgt := 7) hx hb dX3_nextShut_111 (by decide) ?_
              refine ih (i + 1) _ _ _ _ _ ⟨rfl, rfl, ⟨ls, rfl, ?_⟩, hS, hi, _, _, _, _, hW⟩ (by omega)
              rw [show nsN S had (i + 1) = nsN S had i from by simp only [nsN, if_pos c_174, if_pos c_175, if_neg c_176, if_neg c_178, if_pos c_179]]
              exact lv_sub hl [0, 3, 4, 5, 6] rfl
            · refine lv_iconst (v := 1) hx hb dX3_nextShut_81 (by decide) ?_
              refine lv_goto (tgt := 86) hx hb dX3_nextShut_82 (by decide) ?_
              refine lv_istore (lv' := [(6, .int 1), (5, .int (lostP (upd S (gp i 7) 1))), (4, .int (nI i)), (3, .int ((nsN S had i).2)), (2, .int ((nsN S had i).1)), (0, .ref (ad 23)), (1, .int had)]) hx hb dX3_nextShut_86 hl (by decide) rfl (fun ls hl => ?_)
              refine lv_aload_n hx hb dX3_nextShut_88 rfl (lv_at hl 5 rfl) ?_
              refine lv_iconst (v := 1) hx hb dX3_nextShut_89 (by decide) ?_
              refine lv_iload hx hb dX3_nextShut_90 (lv_at hl 2 rfl) ?_
              refine lv_ishl hx hb dX3_nextShut_92 ?_
              refine lv_iconst (v := 0) hx hb dX3_nextShut_93 (by decide) ?_
              refine cv_W0 (rest := []) hc (M_shutsX l hW (R := R) (N := N) hO1 (1 <<< ((nI i) &&& 31)) 0) (lw_V q1330 q1332 qs62 q70 q1333) nd_X3_shuts ⟨Nat.le_of_ble_eq_true rfl, Nat.le_of_ble_eq_true rfl⟩ (MW.recv hK hW) rfl hl.1 rfl (Nat.le_of_ble_eq_true rfl) dX3_nextShut_94 ⟨Nat.le_of_ble_eq_true rfl, Nat.le_of_ble_eq_true rfl⟩ hS (fun _ h => h) (fun H locs hW hS hz hk => ?_)
              rw [shN_one hi hO.2.1, upd_upd, upd_same c_174] at hW
              refine lv_iload hx hb dX3_nextShut_97 (lv_at hl 0 rfl) ?_
              refine lv_if_eq (tgt := 108) hx hb dX3_nextShut_99 (by decide) (fun h => absurd h (by decide)) (fun _ => ?_)
              refine lv_iload hx hb dX3_nextShut_102 (lv_at hl 2 rfl) ?_
              refine lv_istore_n (lv' := [(2, .int (nI i)), (6, .int 1), (5, .int (lostP (upd S (gp i 7) 1))), (4, .int (nI i)), (3, .int ((nsN S had i).2)), (0, .ref (ad 23)), (1, .int had)]) hx hb dX3_nextShut_104 rfl hl (by decide) rfl (fun ls hl => ?_)
              refine lv_iload hx hb dX3_nextShut_105 (lv_at hl 2 rfl) ?_
              refine lv_istore_n (lv' := [(3, .int (lostP (upd S (gp i 7) 1))), (2, .int (nI i)), (6, .int 1), (5, .int (lostP (upd S (gp i 7) 1))), (4, .int (nI i)), (0, .ref (ad 23)), (1, .int had)]) hx hb dX3_nextShut_107 rfl hl (by decide) rfl (fun ls hl => ?_)
              refine lv_iinc (v := nI (i + 1)) (lv' := [(4, .int (nI (i + 1))), (3, .int (lostP (upd S (gp i 7) 1))), (2, .int (nI i)), (6, .int 1), (5, .int (lostP (upd S (gp i 7) 1))), (0, .ref (ad 23)), (1, .int had)]) hx hb dX3_nextShut_108 hl (k := 4) rfl (nI_1 _) (by decide) rfl (fun ls hl => ?_)
              refine lv_goto (tgt := 7) hx hb dX3_nextShut_111 (by decide) ?_
              refine ih (i + 1) _ _ _ _ _ ⟨rfl, rfl, ⟨ls, rfl, ?_⟩, hS, hi, _, _, _, _, hW⟩ (by omega)
              rw [show nsN S had (i + 1) = (nI i, lostP (upd S (gp i 7) 1)) from by simp only [nsN, if_pos c_174, if_pos c_175, if_neg c_176, if_neg c_178, if_neg c_179]]
              exact lv_sub hl [0, 1, 2, 5, 6] rfl
  · have hiN : i = N := by omega
    subst hiN
    refine lv_iload hx hb dX3_nextShut_7 (lv_at hl 0 rfl) ?_
    refine lv_aload_n hx hb dX3_nextShut_9 rfl (lv_at hl 3 rfl) ?_
    refine m_get hc hW 0 (by decide) rfl q1000 rfl rfl dX3_nextShut_10 ?_
    refine lv_iconst (v := 1) hx hb dX3_nextShut_13 (by decide) ?_
    refine m_ild hc hW 0 rfl (n := 169) rfl (ix_eq (k := 1) rfl (by decide) (by decide)) dX3_nextShut_14 ?_
    refine sm_topi (v := S 1) rfl ?_
    refine sm_topi (v := nI i) (hO.2.2.2.1) ?_
    refine lv_icmp_ge (tgt := 114) hx hb dX3_nextShut_15 (by decide) (fun _ => ?_) (fun h => absurd (nI_le (by omega) (by have := hO.2.1; omega)) h)
    refine lv_aload_n hx hb dX3_nextShut_114 rfl (lv_at hl 3 rfl) ?_
    refine m_get hc hW 16 (by decide) rfl q1016 rfl rfl dX3_nextShut_115 ?_
    refine lv_aload_n hx hb dX3_nextShut_118 rfl (lv_at hl 3 rfl) ?_
    refine m_get hc hW 17 (by decide) rfl q1017 rfl rfl dX3_nextShut_119 ?_
    refine sm_topi (v := f 17 0) rfl ?_
    refine sm_topi (v := nI K) hK17 ?_
    refine lv_iconst (v := 1) hx hb dX3_nextShut_122 (by decide) ?_
    refine lv_iadd hx hb dX3_nextShut_123 (sm_topi (v := nI (K + 1)) (nI_add _ _) ?_)
    refine lv_iload_n hx hb dX3_nextShut_124 rfl (lv_at hl 1 rfl) ?_
    refine m_ist hc hW hS 16 rfl (n := 21) rfl (ix_nI (by omega) (by decide)) dX3_nextShut_125 (fun H locs hW hS hz => ?_)
    rw [airF_upJ (by decide), upA_up2 (by decide)] at hW
    refine lv_iload_n hx hb dX3_nextShut_126 rfl (lv_at hl 2 rfl) ?_
    exact ri_W hx hb hr hlk hS (rfl) (⟨_, _, _, _, hW⟩) dX3_nextShut_127
