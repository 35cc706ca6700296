/-! the reference's methods, 16: the items of a text -/
set_option maxRecDepth 100000
def ngR (s : Nat → Int32) (n : Nat) (a0 a1 a2 a3 a4 a5 a6 : Int32) : Nat → Int32 :=
  upd (upd (upd (upd (upd (upd (upd (upd (upd s (gp n 0) a0) (gp n 1) a1) (gp n 2) a2) (gp n 3) a3) (gp n 4) a4) (gp n 5) a5) (gp n 6) a6) (gp n 7) 0) 1 (nI (n + 1))
theorem ngP_ps {f : Nat → Nat → Int32} {p : PS} {n : Nat} {a0 a1 a2 a3 a4 a5 a6 : Int32} : ngP (psT f p) n a0 a1 a2 a3 a4 a5 a6 = psT f (p.1, p.2.1, p.2.2.1, p.2.2.2.1, ngR p.2.2.2.2 n a0 a1 a2 a3 a4 a5 a6) := by
  rw [ngP, psT_0, psT_0, psT_0, psT_0, psT_0, psT_0, psT_0, psT_0, psT_0]
  rfl
section ITEM
variable {t : Nat → Int32} {T : Nat} {q : Bool} {p : PS} {lo hi most : Int32}
theorem ndP_s : (ndP t T q p).2.2.2.2 = p.2.2.2.2 := by
  unfold ndP; split
  · rfl
  · split <;> rfl
theorem nmP_s : (nmP t T lo hi p).2.2.2.2 = p.2.2.2.2 := by
  unfold nmP; split
  · rfl
  · rw [ndP_s]
theorem phP_s : (phP t T q most p).2.2.2.2.2 = p.2.2.2.2 := by
  unfold phP; split
  · rfl
  · split
    · rw [nmP_s, ndP_s]
    · rfl
theorem ndP_nw (h : ¬ (ndP t T q p).2.2.2.1 = true) : ¬ p.2.2.2.1 = true ∧ q = true := by
  unfold ndP at h
  split at h
  · exact absurd (by assumption) h
  · split at h
    · exact ⟨by assumption, by assumption⟩
    · exact absurd rfl h
theorem nmP_nw (h : ¬ (nmP t T lo hi p).2.2.2.1 = true) : ¬ p.2.2.2.1 = true := by
  unfold nmP at h
  split at h
  · exact h
  · exact (ndP_nw h).1
theorem phP_nw (h : ¬ (phP t T q most p).2.2.2.2.1 = true) : ¬ p.2.2.2.1 = true := by
  unfold phP at h
  split at h
  · exact h
  · split at h
    · exact (ndP_nw (nmP_nw h)).1
    · exact h
end ITEM
def giT5 (k r o w h sd c : Int32) (p : PS) : PS := if p.2.2.2.1 = true then p else (p.1, p.2.1, p.2.2.1, p.2.2.2.1, ngR p.2.2.2.2 (p.2.2.2.2 1).toNatClampNeg k r o w h sd c)
def giT4 (t : Nat → Int32) (T : Nat) (k r o w h sd : Int32) (p : PS) : PS := giT5 k r o w h sd (phP t T (wdB t T p [99, 111, 115, 116]) 99 p).1 (phP t T (wdB t T p [99, 111, 115, 116]) 99 p).2
def giT3 (t : Nat → Int32) (T : Nat) (k r o w h : Int32) (p : PS) : PS := giT4 t T k r o w h (phP t T (wdB t T p [115, 105, 100, 101]) 3 p).1 (phP t T (wdB t T p [115, 105, 100, 101]) 3 p).2
def giT2 (t : Nat → Int32) (T : Nat) (k r o w : Int32) (p : PS) : PS := giT3 t T k r o w (phP t T (wdB t T p [104, 105, 103, 104]) 9 p).1 (phP t T (wdB t T p [104, 105, 103, 104]) 9 p).2
def giT0 (t : Nat → Int32) (T : Nat) (k r o : Int32) (p : PS) : PS := giT2 t T k r o p.2.2.1 p
def giT1 (t : Nat → Int32) (T : Nat) (k r o : Int32) (p : PS) : PS := giT0 t T k r o (nmP t T 0 99 p)
abbrev giQ (t : Nat → Int32) (T : Nat) (p : PS) : Prop := ¬ p.2.2.2.1 = true ∧ isD (bA t T p.1) ∧ nuV t p.1 p.2.1 = p.2.2.1
def giS (t : Nat → Int32) (T : Nat) (p : PS) : PS := if decide (giQ t T p) = true then (p.1, p.2.1, p.2.2.1, true, p.2.2.2.2) else p
def giB (t : Nat → Int32) (T : Nat) (k r : Int32) (p : PS) : PS := giT1 t T k r p.2.2.1 p
def giA (t : Nat → Int32) (T : Nat) (k : Int32) (p : PS) : PS :=
  if wdB t T p [111, 117, 116] = true then giT1 t T k p.2.2.1 (-1) (ndP t T true p) else giB t T k p.2.2.1 (nmP t T 0 (p.2.2.2.2 0 - 1) (giS t T p))
def giC (t : Nat → Int32) (T : Nat) (k : Int32) (p : PS) : PS := giA t T k (nmP t T 0 (p.2.2.2.2 0 - 1) p)
/-- a gap's item -/
def giP (t : Nat → Int32) (T : Nat) (k : Int32) (p : PS) : PS := giC t T k (ndP t T (decide (p.2.2.2.2 1 < 20)) p)
theorem OkN.nLt {s : Nat → Int32} {R N : Nat} (h : OkN s R N) (hx : s 1 < 20) : N < 20 := h.nFull (fun e => by rw [e] at hx; exact absurd hx (by decide))
def ntW (t : Nat → Int32) (T : Nat) (p : PS) : Int32 := if wdB t T p [99, 111, 108, 100] = true then 0 else if wdB t T p [119, 105, 110, 100] = true then 1 else if wdB t T p [116, 104, 117, 109, 98] = true then 4 else -1
theorem ntW_ix {t : Nat → Int32} {T : Nat} {p : PS} (h : 0 ≤ ntW t T p) : IdxOk (2 + ntW t T p) (2 + (ntW t T p).toNatClampNeg) 169 := by
  unfold ntW at h ⊢
  split
  · exact ix_eq (k := 2) rfl (by decide) (by decide)
  · split
    · exact ix_eq (k := 3) rfl (by decide) (by decide)
    · split
      · exact ix_eq (k := 6) rfl (by decide) (by decide)
      · rename_i a b c
        rw [if_neg a, if_neg b, if_neg c] at h
        exact absurd h (by decide)
def niB (w : Int32) (p : PS) : PS := if p.2.2.2.1 = true then p else (p.1, p.2.1, p.2.2.1, p.2.2.2.1, upd p.2.2.2.2 (2 + w.toNatClampNeg) p.2.2.1)
/-- a night's item -/
def niP (t : Nat → Int32) (T : Nat) (p : PS) : PS := niB (ntW t T p) (nmP t T 0 (mostP (ntW t T p)) (ndP t T (decide (0 ≤ ntW t T p)) p))
def rmB (p : PS) : PS := if p.2.2.2.1 = true then (p.1, p.2.1, p.2.2.1, p.2.2.2.1, upd p.2.2.2.2 0 (p.2.2.2.2 0 + 0)) else (p.1, p.2.1, p.2.2.1, p.2.2.2.1, upd p.2.2.2.2 0 (p.2.2.2.2 0 + 1))
/-- an item -/
def itP (t : Nat → Int32) (T : Nat) (p : PS) : PS :=
  if kdP t T p < 0 then (if wdB t T p [114, 111, 111, 109] = true then rmB (ndP t T (decide (p.2.2.2.2 0 < 6)) p) else niP t T p) else giP t T (kdP t T p) p

theorem nd_X3_gapItem : yX3_gapItem.cls = "SmokeLeansModel" ∧ yX3_gapItem.cls ≠ "java/lang/invoke/MethodHandle" ∧ yX3_gapItem.cls ≠ "java/lang/invoke/VarHandle" ∧ (parseMethodDescriptor yX3_gapItem.desc).map (fun d => d.parameters.length) = some 1 := by decide +kernel
set_option maxHeartbeats 8000000 in
theorem M_gapItem (l : Launch) {G : GD} {A : Nat → Prop} {f : Nat → Nat → Int32} {g : Nat → Nat → Int64} {ad : Nat → Nat} {H0 : Heap} {pp : PS} (hW : MW G A (psT f pp) g ad H0) {T : Nat} (hT : f 6 0 = nI T) (hT1 : T ≤ 120) (hB : PB T pp) {R N : Nat} (hO : OkN pp.2.2.2.2 R N) (kind : Int32) : MetW l G yX3_gapItem cX3_gapItem 8 none 6 0 0 A [.ref (ad 23), .int kind] H0 none (fun H => MW G A (psT f (giP (f 5) T kind pp)) g ad H) := by
  refine mx_of (by decide) (Nat.le_of_ble_eq_true rfl) ?_
  intro p e s m below meth c hx hb hr hc hlk hnm hs0 ls hl
  subst hs0
  have hown := hc.2.2.2.1
  have hts := hc.2.2.2.2.1
  have hK := hc.2.2.2.2.2
  have hl : lv_has ls 8 [(0, .ref (ad 23)), (1, .int kind)] := hl
  have hS : va_S A s.heap s.heap [] := va_S.rf
  refine lv_aload_n hx hb dX3_gapItem_0 rfl (lv_at hl 0 rfl) ?_
  refine lv_aload_n hx hb dX3_gapItem_1 rfl (lv_at hl 0 rfl) ?_
  refine m_get hc hW 0 (by decide) rfl q1000 rfl rfl dX3_gapItem_2 ?_
  refine lv_iconst (v := 1) hx hb dX3_gapItem_5 (by decide) ?_
  refine m_ild hc hW 0 rfl (n := 169) rfl (ix_eq (k := 1) rfl (by decide) (by decide)) dX3_gapItem_6 ?_
  refine sm_topi (v := pp.2.2.2.2 1) rfl ?_
  refine lv_bipush (v := 20) hx hb dX3_gapItem_7 (by decide) ?_
  refine w_join (fun y => y = b2i (decide (pp.2.2.2.2 1 < 20) = true)) 17 [.ref (ad 23)] (fun y hy => ?_) (fun jn => ?_)
  · subst hy
    refine cv_W0 (rest := []) hc (M_needs l hW (T := T) hT hT1 hB (decide (pp.2.2.2.2 1 < 20))) (lw_V q1205 q1207 qs45 q70 q1208) nd_X3_needs ⟨Nat.le_of_ble_eq_true rfl, Nat.le_of_ble_eq_true rfl⟩ (MW.recv hK hW) rfl hl.1 rfl (Nat.le_of_ble_eq_true rfl) dX3_gapItem_17 ⟨Nat.le_of_ble_eq_true rfl, Nat.le_of_ble_eq_true rfl⟩ hS (fun _ h => h) (fun H locs hW hS hz hk => ?_)
    obtain ⟨pq_348, epq_348⟩ : ∃ q, q = ndP (f 5) T (decide (pp.2.2.2.2 1 < 20)) pp := ⟨_, rfl⟩
    rw [← epq_348] at hW
    have hBpq_348 := ndP_B (t := f 5) (q := (decide (pp.2.2.2.2 1 < 20))) (p := pp) hB
    rw [← epq_348] at hBpq_348
    have hMpq_348 := hBpq_348.2
    have hBpq_348 := hBpq_348.1
    have hspq_348 : pq_348.2.2.2.2 = pp.2.2.2.2 := by rw [epq_348]; exact ndP_s
    have hnpq_348 := fun h : ¬ pq_348.2.2.2.1 = true => ndP_nw (epq_348 ▸ h)
    refine lv_aload_n hx hb dX3_gapItem_20 rfl (lv_at hl 0 rfl) ?_
    refine lv_iconst (v := 0) hx hb dX3_gapItem_21 (by decide) ?_
    refine lv_aload_n hx hb dX3_gapItem_22 rfl (lv_at hl 0 rfl) ?_
    refine m_get hc hW 0 (by decide) rfl q1000 rfl rfl dX3_gapItem_23 ?_
    refine lv_iconst (v := 0) hx hb dX3_gapItem_26 (by decide) ?_
    refine m_ild hc hW 0 rfl (n := 169) rfl (ix_eq (k := 0) rfl (by decide) (by decide)) dX3_gapItem_27 ?_
    refine sm_topi (v := pq_348.2.2.2.2 0) rfl ?_
    refine lv_iconst (v := 1) hx hb dX3_gapItem_28 (by decide) ?_
    refine lv_isub hx hb dX3_gapItem_29 ?_
    refine cv_W0 (rest := []) hc (M_number l hW (T := T) hT hT1 hBpq_348 0 ((pq_348.2.2.2.2 0) - 1)) (lw_V q1209 q1211 qs46 q70 q1212) nd_X3_number ⟨Nat.le_of_ble_eq_true rfl, Nat.le_of_ble_eq_true rfl⟩ (MW.recv hK hW) rfl hl.1 rfl (Nat.le_of_ble_eq_true rfl) dX3_gapItem_30 ⟨Nat.le_of_ble_eq_true rfl, Nat.le_of_ble_eq_true rfl⟩ hS (fun _ h => h) (fun H locs hW hS hz hk => ?_)
    obtain ⟨pq_349, epq_349⟩ : ∃ q, q = nmP (f 5) T 0 ((pq_348.2.2.2.2 0) - 1) pq_348 := ⟨_, rfl⟩
    rw [← epq_349] at hW
    have hBpq_349 := nmP_B (t := f 5) (lo := 0) (hi := ((pq_348.2.2.2.2 0) - 1)) (p := pq_348) hBpq_348
    rw [← epq_349] at hBpq_349
    have hMpq_349 := hBpq_349.2
    have hBpq_349 := hBpq_349.1
    have hspq_349 : pq_349.2.2.2.2 = pq_348.2.2.2.2 := by rw [epq_349]; exact nmP_s
    have hnpq_349 := fun h : ¬ pq_349.2.2.2.1 = true => nmP_nw (epq_349 ▸ h)
    refine lv_aload_n hx hb dX3_gapItem_33 rfl (lv_at hl 0 rfl) ?_
    refine m_get hc hW 9 (by decide) rfl q1009 rfl rfl dX3_gapItem_34 ?_
    refine sm_topi (v := pq_349.2.2.1) rfl ?_
    refine lv_istore_n (lv' := [(2, .int pq_349.2.2.1), (0, .ref (ad 23)), (1, .int kind)]) hx hb dX3_gapItem_37 rfl hl (by decide) rfl (fun ls hl => ?_)
    refine lv_iconst (v := (-1)) hx hb dX3_gapItem_38 (by decide) ?_
    refine lv_istore_n (lv' := [(3, .int (-1)), (2, .int pq_349.2.2.1), (0, .ref (ad 23)), (1, .int kind)]) hx hb dX3_gapItem_39 rfl hl (by decide) rfl (fun ls hl => ?_)
    have hs2 : pq_349.2.2.2.2 = pp.2.2.2.2 := hspq_349.trans hspq_348
    have hw2 : ¬ pq_349.2.2.2.1 = true → pp.2.2.2.2 1 < 20 := fun h => of_decide_eq_true (hnpq_348 (hnpq_349 h)).2
    refine w_tail (σ := PS × Int32) (fun x H locs fr => (∃ ls, fr = F0 m 129 ls [] ∧ lv_has ls 8 [(0, .ref (ad 23)), (1, .int kind), (2, .int pq_349.2.2.1), (3, .int x.2)]) ∧ va_S A s.heap H locs ∧ MW G A (psT f x.1) g ad H ∧ PB T x.1 ∧ x.1.2.2.2.2 = pp.2.2.2.2 ∧ (¬ x.1.2.2.2.1 = true → pp.2.2.2.2 1 < 20) ∧ giP (f 5) T kind pp = giT1 (f 5) T kind pq_349.2.2.1 x.2 x.1) ?_ (fun tl => ?_)
    · rintro ⟨p3, o⟩ H locs fr ⟨⟨ls, rfl, hl⟩, hS, hW, hB3, hs3, hw3, hg⟩
      have hl : lv_has ls 8 [(0, .ref (ad 23)), (1, .int kind), (2, .int pq_349.2.2.1), (3, .int o)] := hl
      have hW : MW G A (psT f p3) g ad H := hW
      have hB3 : PB T p3 := hB3
      have hs3 : p3.2.2.2.2 = pp.2.2.2.2 := hs3
      have hw3 : ¬ p3.2.2.2.1 = true → pp.2.2.2.2 1 < 20 := hw3
      have hg : giP (f 5) T kind pp = giT1 (f 5) T kind pq_349.2.2.1 o p3 := hg
      refine lv_aload_n hx hb dX3_gapItem_129 rfl (lv_at hl 0 rfl) ?_
      refine lv_iconst (v := 0) hx hb dX3_gapItem_130 (by decide) ?_
      refine lv_bipush (v := 99) hx hb dX3_gapItem_131 (by decide) ?_
      refine cv_W0 (rest := []) hc (M_number l hW (T := T) hT hT1 hB3 0 99) (lw_V q1209 q1211 qs46 q70 q1212) nd_X3_number ⟨Nat.le_of_ble_eq_true rfl, Nat.le_of_ble_eq_true rfl⟩ (MW.recv hK hW) rfl hl.1 rfl (Nat.le_of_ble_eq_true rfl) dX3_gapItem_133 ⟨Nat.le_of_ble_eq_true rfl, Nat.le_of_ble_eq_true rfl⟩ hS (fun _ h => h) (fun H locs hW hS hz hk => ?_)
      obtain ⟨pq_350, epq_350⟩ : ∃ q, q = nmP (f 5) T 0 99 p3 := ⟨_, rfl⟩
      rw [← epq_350] at hW
      have hBpq_350 := nmP_B (t := f 5) (lo := 0) (hi := 99) (p := p3) hB3
      rw [← epq_350] at hBpq_350
      have hMpq_350 := hBpq_350.2
      have hBpq_350 := hBpq_350.1
      have hspq_350 : pq_350.2.2.2.2 = p3.2.2.2.2 := by rw [epq_350]; exact nmP_s
      have hnpq_350 := fun h : ¬ pq_350.2.2.2.1 = true => nmP_nw (epq_350 ▸ h)
      refine lv_aload_n hx hb dX3_gapItem_136 rfl (lv_at hl 0 rfl) ?_
      refine m_get hc hW 9 (by decide) rfl q1009 rfl rfl dX3_gapItem_137 ?_
      refine sm_topi (v := pq_350.2.2.1) rfl ?_
      refine lv_istore (lv' := [(4, .int pq_350.2.2.1), (0, .ref (ad 23)), (1, .int kind), (2, .int pq_349.2.2.1), (3, .int o)]) hx hb dX3_gapItem_140 hl (by decide) rfl (fun ls hl => ?_)
      refine lv_aload_n hx hb dX3_gapItem_142 rfl (lv_at hl 1 rfl) ?_
      refine lv_aload_n hx hb dX3_gapItem_143 rfl (lv_at hl 1 rfl) ?_
      refine lv_bipush (v := 104) hx hb dX3_gapItem_144 (by decide) ?_
      refine lv_bipush (v := 105) hx hb dX3_gapItem_146 (by decide) ?_
      refine lv_bipush (v := 103) hx hb dX3_gapItem_148 (by decide) ?_
      refine lv_bipush (v := 104) hx hb dX3_gapItem_150 (by decide) ?_
      refine lv_iconst (v := 0) hx hb dX3_gapItem_152 (by decide) ?_
      refine lv_iconst (v := 0) hx hb dX3_gapItem_153 (by decide) ?_
      refine lv_iconst (v := 0) hx hb dX3_gapItem_154 (by decide) ?_
      refine cv_R1 (rest := [.ref (ad 23)]) hc (M_w_high l hW (T := T) hT hT1 hBpq_350) (lw_V q1193 q1195 qs42 q70 q1196) nd_X3_isWord ⟨Nat.le_of_ble_eq_true rfl, Nat.le_of_ble_eq_true rfl⟩ (MW.recv hK hW) rfl hl.1 rfl (Nat.le_of_ble_eq_true rfl) dX3_gapItem_155 ⟨Nat.le_of_ble_eq_true rfl, Nat.le_of_ble_eq_true rfl⟩ ?_
      refine lv_bipush (v := 9) hx hb dX3_gapItem_158 (by decide) ?_
      refine cv_W1 (rest := []) hc (M_perhaps l hW (T := T) hT hT1 hBpq_350 (wdB (f 5) T pq_350 [104, 105, 103, 104]) 9) (lw_V q1217 q1219 qs48 q70 q1220) nd_X3_perhaps ⟨Nat.le_of_ble_eq_true rfl, Nat.le_of_ble_eq_true rfl⟩ (MW.recv hK hW) rfl hl.1 rfl (Nat.le_of_ble_eq_true rfl) dX3_gapItem_160 ⟨Nat.le_of_ble_eq_true rfl, Nat.le_of_ble_eq_true rfl⟩ hS (fun _ h => h) (fun H locs hW hS hz hk => ?_)
      obtain ⟨pq_351, epq_351⟩ : ∃ q, q = (phP (f 5) T (wdB (f 5) T pq_350 [104, 105, 103, 104]) 9 pq_350).2 := ⟨_, rfl⟩
      rw [← epq_351] at hW
      have hBpq_351 := phP_B (t := f 5) (q := wdB (f 5) T pq_350 [104, 105, 103, 104]) (most := 9) hBpq_350
      rw [← epq_351] at hBpq_351
      have hBpq_351 := hBpq_351.1
      have hspq_351 : pq_351.2.2.2.2 = pq_350.2.2.2.2 := by rw [epq_351]; exact phP_s
      have hnpq_351 := fun h : ¬ pq_351.2.2.2.1 = true => phP_nw (epq_351 ▸ h)
      refine lv_istore (lv' := [(5, .int ((phP (f 5) T (wdB (f 5) T pq_350 [104, 105, 103, 104]) 9 pq_350).1)), (4, .int pq_350.2.2.1), (0, .ref (ad 23)), (1, .int kind), (2, .int pq_349.2.2.1), (3, .int o)]) hx hb dX3_gapItem_163 hl (by decide) rfl (fun ls hl => ?_)
      refine lv_aload_n hx hb dX3_gapItem_165 rfl (lv_at hl 2 rfl) ?_
      refine lv_aload_n hx hb dX3_gapItem_166 rfl (lv_at hl 2 rfl) ?_
      refine lv_bipush (v := 115) hx hb dX3_gapItem_167 (by decide) ?_
      refine lv_bipush (v := 105) hx hb dX3_gapItem_169 (by decide) ?_
      refine lv_bipush (v := 100) hx hb dX3_gapItem_171 (by decide) ?_
      refine lv_bipush (v := 101) hx hb dX3_gapItem_173 (by decide) ?_
      refine lv_iconst (v := 0) hx hb dX3_gapItem_175 (by decide) ?_
      refine lv_iconst (v := 0) hx hb dX3_gapItem_176 (by decide) ?_
      refine lv_iconst (v := 0) hx hb dX3_gapItem_177 (by decide) ?_
      refine cv_R1 (rest := [.ref (ad 23)]) hc (M_w_side l hW (T := T) hT hT1 hBpq_351) (lw_V q1193 q1195 qs42 q70 q1196) nd_X3_isWord ⟨Nat.le_of_ble_eq_true rfl, Nat.le_of_ble_eq_true rfl⟩ (MW.recv hK hW) rfl hl.1 rfl (Nat.le_of_ble_eq_true rfl) dX3_gapItem_178 ⟨Nat.le_of_ble_eq_true rfl, Nat.le_of_ble_eq_true rfl⟩ ?_
      refine lv_iconst (v := 3) hx hb dX3_gapItem_181 (by decide) ?_
      refine cv_W1 (rest := []) hc (M_perhaps l hW (T := T) hT hT1 hBpq_351 (wdB (f 5) T pq_351 [115, 105, 100, 101]) 3) (lw_V q1217 q1219 qs48 q70 q1220) nd_X3_perhaps ⟨Nat.le_of_ble_eq_true rfl, Nat.le_of_ble_eq_true rfl⟩ (MW.recv hK hW) rfl hl.1 rfl (Nat.le_of_ble_eq_true rfl) dX3_gapItem_182 ⟨Nat.le_of_ble_eq_true rfl, Nat.le_of_ble_eq_true rfl⟩ hS (fun _ h => h) (fun H locs hW hS hz hk => ?_)
      obtain ⟨pq_352, epq_352⟩ : ∃ q, q = (phP (f 5) T (wdB (f 5) T pq_351 [115, 105, 100, 101]) 3 pq_351).2 := ⟨_, rfl⟩
      rw [← epq_352] at hW
      have hBpq_352 := phP_B (t := f 5) (q := wdB (f 5) T pq_351 [115, 105, 100, 101]) (most := 3) hBpq_351
      rw [← epq_352] at hBpq_352
      have hBpq_352 := hBpq_352.1
      have hspq_352 : pq_352.2.2.2.2 = pq_351.2.2.2.2 := by rw [epq_352]; exact phP_s
      have hnpq_352 := fun h : ¬ pq_352.2.2.2.1 = true => phP_nw (epq_352 ▸ h)
      refine lv_istore (lv' := [(6, .int ((phP (f 5) T (wdB (f 5) T pq_351 [115, 105, 100, 101]) 3 pq_351).1)), (5, .int ((phP (f 5) T (wdB (f 5) T pq_350 [104, 105, 103, 104]) 9 pq_350).1)), (4, .int pq_350.2.2.1), (0, .ref (ad 23)), (1, .int kind), (2, .int pq_349.2.2.1), (3, .int o)]) hx hb dX3_gapItem_185 hl (by decide) rfl (fun ls hl => ?_)
      refine lv_aload_n hx hb dX3_gapItem_187 rfl (lv_at hl 3 rfl) ?_
      refine lv_aload_n hx hb dX3_gapItem_188 rfl (lv_at hl 3 rfl) ?_
      refine lv_bipush (v := 99) hx hb dX3_gapItem_189 (by decide) ?_
      refine lv_bipush (v := 111) hx hb dX3_gapItem_191 (by decide) ?_
      refine lv_bipush (v := 115) hx hb dX3_gapItem_193 (by decide) ?_
      refine lv_bipush (v := 116) hx hb dX3_gapItem_195 (by decide) ?_
      refine lv_iconst (v := 0) hx hb dX3_gapItem_197 (by decide) ?_
      refine lv_iconst (v := 0) hx hb dX3_gapItem_198 (by decide) ?_
      refine lv_iconst (v := 0) hx hb dX3_gapItem_199 (by decide) ?_
      refine cv_R1 (rest := [.ref (ad 23)]) hc (M_w_cost l hW (T := T) hT hT1 hBpq_352) (lw_V q1193 q1195 qs42 q70 q1196) nd_X3_isWord ⟨Nat.le_of_ble_eq_true rfl, Nat.le_of_ble_eq_true rfl⟩ (MW.recv hK hW) rfl hl.1 rfl (Nat.le_of_ble_eq_true rfl) dX3_gapItem_200 ⟨Nat.le_of_ble_eq_true rfl, Nat.le_of_ble_eq_true rfl⟩ ?_
      refine lv_bipush (v := 99) hx hb dX3_gapItem_203 (by decide) ?_
      refine cv_W1 (rest := []) hc (M_perhaps l hW (T := T) hT hT1 hBpq_352 (wdB (f 5) T pq_352 [99, 111, 115, 116]) 99) (lw_V q1217 q1219 qs48 q70 q1220) nd_X3_perhaps ⟨Nat.le_of_ble_eq_true rfl, Nat.le_of_ble_eq_true rfl⟩ (MW.recv hK hW) rfl hl.1 rfl (Nat.le_of_ble_eq_true rfl) dX3_gapItem_205 ⟨Nat.le_of_ble_eq_true rfl, Nat.le_of_ble_eq_true rfl⟩ hS (fun _ h => h) (fun H locs hW hS hz hk => ?_)
      obtain ⟨pq_353, epq_353⟩ : ∃ q, q = (phP (f 5) T (wdB (f 5) T pq_352 [99, 111, 115, 116]) 99 pq_352).2 := ⟨_, rfl⟩
      rw [← epq_353] at hW
      have hBpq_353 := phP_B (t := f 5) (q := wdB (f 5) T pq_352 [99, 111, 115, 116]) (most := 99) hBpq_352
      rw [← epq_353] at hBpq_353
      have hBpq_353 := hBpq_353.1
      have hspq_353 : pq_353.2.2.2.2 = pq_352.2.2.2.2 := by rw [epq_353]; exact phP_s
      have hnpq_353 := fun h : ¬ pq_353.2.2.2.1 = true => phP_nw (epq_353 ▸ h)
      refine lv_istore (lv' := [(7, .int ((phP (f 5) T (wdB (f 5) T pq_352 [99, 111, 115, 116]) 99 pq_352).1)), (6, .int ((phP (f 5) T (wdB (f 5) T pq_351 [115, 105, 100, 101]) 3 pq_351).1)), (5, .int ((phP (f 5) T (wdB (f 5) T pq_350 [104, 105, 103, 104]) 9 pq_350).1)), (4, .int pq_350.2.2.1), (0, .ref (ad 23)), (1, .int kind), (2, .int pq_349.2.2.1), (3, .int o)]) hx hb dX3_gapItem_208 hl (by decide) rfl (fun ls hl => ?_)
      refine lv_aload_n hx hb dX3_gapItem_210 rfl (lv_at hl 4 rfl) ?_
      refine m_get hc hW 10 (by decide) rfl q1010 rfl rfl dX3_gapItem_211 ?_
      refine sm_topi (v := b2i (pq_353.2.2.2.1 = true)) rfl ?_
      refine bi_ne (tgt := 233) hx hb dX3_gapItem_214 (by decide) (fun c_354 => ?_) (fun c_354 => ?_)
      · exact rv_W hx hb hr hlk hS (by rw [hg, giT1, ← epq_350, giT0, giT2, ← epq_351, giT3, ← epq_352, giT4, ← epq_353, giT5, if_pos c_354]; exact hW) dX3_gapItem_233
      · have hs7 : pq_353.2.2.2.2 = pp.2.2.2.2 := hspq_353.trans (hspq_352.trans (hspq_351.trans (hspq_350.trans hs3)))
        have h1N : pq_353.2.2.2.2 1 = nI N := by rw [hs7]; exact hO.2.2.2.1
        have hcl : (pq_353.2.2.2.2 1).toNatClampNeg = N := by rw [hs7]; exact hO.cl1
        have hN : N < 20 := hO.nLt (hw3 (hnpq_350 (hnpq_351 (hnpq_352 (hnpq_353 c_354)))))
        refine lv_aload_n hx hb dX3_gapItem_217 rfl (lv_at hl 4 rfl) ?_
        refine lv_iload_n hx hb dX3_gapItem_218 rfl (lv_at hl 5 rfl) ?_
        refine lv_iload_n hx hb dX3_gapItem_219 rfl (lv_at hl 6 rfl) ?_
        refine lv_iload_n hx hb dX3_gapItem_220 rfl (lv_at hl 7 rfl) ?_
        refine lv_iload hx hb dX3_gapItem_221 (lv_at hl 3 rfl) ?_
        refine lv_iload hx hb dX3_gapItem_223 (lv_at hl 2 rfl) ?_
        refine lv_iload hx hb dX3_gapItem_225 (lv_at hl 1 rfl) ?_
        refine lv_iload hx hb dX3_gapItem_227 (lv_at hl 0 rfl) ?_
        refine cv_W1 (rest := []) hc (M_newGap l hW N h1N hN kind pq_349.2.2.1 o pq_350.2.2.1 ((phP (f 5) T (wdB (f 5) T pq_350 [104, 105, 103, 104]) 9 pq_350).1) ((phP (f 5) T (wdB (f 5) T pq_351 [115, 105, 100, 101]) 3 pq_351).1) ((phP (f 5) T (wdB (f 5) T pq_352 [99, 111, 115, 116]) 99 pq_352).1)) (lw_V q1097 q1099 qs31 q70 q1100) nd_X3_newGap ⟨Nat.le_of_ble_eq_true rfl, Nat.le_of_ble_eq_true rfl⟩ (MW.recv hK hW) rfl hl.1 rfl (Nat.le_of_ble_eq_true rfl) dX3_gapItem_229 ⟨Nat.le_of_ble_eq_true rfl, Nat.le_of_ble_eq_true rfl⟩ hS (fun _ h => h) (fun H locs hW hS hz hk => ?_)
        rw [ngP_ps] at hW
        refine lv_pop hx hb dX3_gapItem_232 rfl ?_
        exact rv_W hx hb hr hlk hS (by rw [hg, giT1, ← epq_350, giT0, giT2, ← epq_351, giT3, ← epq_352, giT4, ← epq_353, giT5, if_neg c_354, hcl]; exact hW) dX3_gapItem_233
    · refine lv_aload_n hx hb dX3_gapItem_40 rfl (lv_at hl 2 rfl) ?_
      refine lv_bipush (v := 111) hx hb dX3_gapItem_41 (by decide) ?_
      refine lv_bipush (v := 117) hx hb dX3_gapItem_43 (by decide) ?_
      refine lv_bipush (v := 116) hx hb dX3_gapItem_45 (by decide) ?_
      refine lv_iconst (v := 0) hx hb dX3_gapItem_47 (by decide) ?_
      refine lv_iconst (v := 0) hx hb dX3_gapItem_48 (by decide) ?_
      refine lv_iconst (v := 0) hx hb dX3_gapItem_49 (by decide) ?_
      refine lv_iconst (v := 0) hx hb dX3_gapItem_50 (by decide) ?_
      refine cv_R1 (rest := []) hc (M_w_out l hW (T := T) hT hT1 hBpq_349) (lw_V q1193 q1195 qs42 q70 q1196) nd_X3_isWord ⟨Nat.le_of_ble_eq_true rfl, Nat.le_of_ble_eq_true rfl⟩ (MW.recv hK hW) rfl hl.1 rfl (Nat.le_of_ble_eq_true rfl) dX3_gapItem_51 ⟨Nat.le_of_ble_eq_true rfl, Nat.le_of_ble_eq_true rfl⟩ ?_
      refine bi_eq (tgt := 65) hx hb dX3_gapItem_54 (by decide) (fun c_355 => ?_) (fun c_355 => ?_)
      · refine lv_aload_n hx hb dX3_gapItem_65 rfl (lv_at hl 2 rfl) ?_
        refine m_get hc hW 10 (by decide) rfl q1010 rfl rfl dX3_gapItem_66 ?_
        refine sm_topi (v := b2i (pq_349.2.2.2.1 = true)) rfl ?_
        have hb1 := hBpq_349.1
        have hb2 := hBpq_349.2
        refine w_join (fun y => y = b2i (decide (giQ (f 5) T pq_349) = true)) 99 [] (fun y hy => ?_) (fun jn => ?_)
        · subst hy
          refine lv_istore (lv' := [(4, .int (b2i (decide (giQ (f 5) T pq_349) = true))), (3, .int (-1)), (2, .int pq_349.2.2.1), (0, .ref (ad 23)), (1, .int kind)]) hx hb dX3_gapItem_99 hl (by decide) rfl (fun ls hl => ?_)
          refine lv_iload hx hb dX3_gapItem_101 (lv_at hl 0 rfl) ?_
          refine bi_eq (tgt := 111) hx hb dX3_gapItem_103 (by decide) (fun c_356 => ?_) (fun c_356 => ?_)
          · refine lv_aload_n hx hb dX3_gapItem_111 rfl (lv_at hl 3 rfl) ?_
            refine lv_iconst (v := 0) hx hb dX3_gapItem_112 (by decide) ?_
            refine lv_aload_n hx hb dX3_gapItem_113 rfl (lv_at hl 3 rfl) ?_
            refine m_get hc hW 0 (by decide) rfl q1000 rfl rfl dX3_gapItem_114 ?_
            refine lv_iconst (v := 0) hx hb dX3_gapItem_117 (by decide) ?_
            refine m_ild hc hW 0 rfl (n := 169) rfl (ix_eq (k := 0) rfl (by decide) (by decide)) dX3_gapItem_118 ?_
            refine sm_topi (v := pq_349.2.2.2.2 0) rfl ?_
            refine lv_iconst (v := 1) hx hb dX3_gapItem_119 (by decide) ?_
            refine lv_isub hx hb dX3_gapItem_120 ?_
            refine cv_W0 (rest := []) hc (M_number l hW (T := T) hT hT1 hBpq_349 0 ((pq_349.2.2.2.2 0) - 1)) (lw_V q1209 q1211 qs46 q70 q1212) nd_X3_number ⟨Nat.le_of_ble_eq_true rfl, Nat.le_of_ble_eq_true rfl⟩ (MW.recv hK hW) rfl hl.1 rfl (Nat.le_of_ble_eq_true rfl) dX3_gapItem_121 ⟨Nat.le_of_ble_eq_true rfl, Nat.le_of_ble_eq_true rfl⟩ hS (fun _ h => h) (fun H locs hW hS hz hk => ?_)
            obtain ⟨pq_357, epq_357⟩ : ∃ q, q = nmP (f 5) T 0 ((pq_349.2.2.2.2 0) - 1) pq_349 := ⟨_, rfl⟩
            rw [← epq_357] at hW
            have hBpq_357 := nmP_B (t := f 5) (lo := 0) (hi := ((pq_349.2.2.2.2 0) - 1)) (p := pq_349) hBpq_349
            rw [← epq_357] at hBpq_357
            have hMpq_357 := hBpq_357.2
            have hBpq_357 := hBpq_357.1
            have hspq_357 : pq_357.2.2.2.2 = pq_349.2.2.2.2 := by rw [epq_357]; exact nmP_s
            have hnpq_357 := fun h : ¬ pq_357.2.2.2.1 = true => nmP_nw (epq_357 ▸ h)
            refine lv_aload_n hx hb dX3_gapItem_124 rfl (lv_at hl 3 rfl) ?_
            refine m_get hc hW 9 (by decide) rfl q1009 rfl rfl dX3_gapItem_125 ?_
            refine sm_topi (v := pq_357.2.2.1) rfl ?_
            refine lv_istore_n (lv' := [(3, .int pq_357.2.2.1), (4, .int (b2i (decide (giQ (f 5) T pq_349) = true))), (2, .int pq_349.2.2.1), (0, .ref (ad 23)), (1, .int kind)]) hx hb dX3_gapItem_128 rfl hl (by decide) rfl (fun ls hl => ?_)
            exact tl (pq_357, pq_357.2.2.1) _ _ _ ⟨⟨ls, rfl, lv_sub hl [3, 4, 2, 0] rfl⟩, hS, hW, hBpq_357, hspq_357.trans hs2, fun h => hw2 (hnpq_357 h), by rw [giP, ← epq_348, giC, ← epq_349, giA, if_neg c_355, giS, if_neg c_356, ← epq_357, giB]⟩
          · refine lv_aload_n hx hb dX3_gapItem_106 rfl (lv_at hl 3 rfl) ?_
            refine lv_iconst (v := 1) hx hb dX3_gapItem_107 (by decide) ?_
            refine m_putS hc hW hS 10 (by decide) rfl rfl q1010 rfl rfl rfl rfl rfl rfl dX3_gapItem_108 (fun H locs hW hS hz => ?_)
            have hW := psT_10 (w' := true) hW rfl
            refine lv_aload_n hx hb dX3_gapItem_111 rfl (lv_at hl 3 rfl) ?_
            refine lv_iconst (v := 0) hx hb dX3_gapItem_112 (by decide) ?_
            refine lv_aload_n hx hb dX3_gapItem_113 rfl (lv_at hl 3 rfl) ?_
            refine m_get hc hW 0 (by decide) rfl q1000 rfl rfl dX3_gapItem_114 ?_
            refine lv_iconst (v := 0) hx hb dX3_gapItem_117 (by decide) ?_
            refine m_ild hc hW 0 rfl (n := 169) rfl (ix_eq (k := 0) rfl (by decide) (by decide)) dX3_gapItem_118 ?_
            refine sm_topi (v := pq_349.2.2.2.2 0) rfl ?_
            refine lv_iconst (v := 1) hx hb dX3_gapItem_119 (by decide) ?_
            refine lv_isub hx hb dX3_gapItem_120 ?_
            refine cv_W0 (rest := []) hc (M_number l hW (T := T) hT hT1 hBpq_349 0 ((pq_349.2.2.2.2 0) - 1)) (lw_V q1209 q1211 qs46 q70 q1212) nd_X3_number ⟨Nat.le_of_ble_eq_true rfl, Nat.le_of_ble_eq_true rfl⟩ (MW.recv hK hW) rfl hl.1 rfl (Nat.le_of_ble_eq_true rfl) dX3_gapItem_121 ⟨Nat.le_of_ble_eq_true rfl, Nat.le_of_ble_eq_true rfl⟩ hS (fun _ h => h) (fun H locs hW hS hz hk => ?_)
            obtain ⟨pq_358, epq_358⟩ : ∃ q, q = nmP (f 5) T 0 ((pq_349.2.2.2.2 0) - 1) (pq_349.1, pq_349.2.1, pq_349.2.2.1, true, pq_349.2.2.2.2) := ⟨_, rfl⟩
            rw [← epq_358] at hW
            have hBpq_358 := nmP_B (t := f 5) (lo := 0) (hi := ((pq_349.2.2.2.2 0) - 1)) (p := (pq_349.1, pq_349.2.1, pq_349.2.2.1, true, pq_349.2.2.2.2)) hBpq_349
            rw [← epq_358] at hBpq_358
            have hMpq_358 := hBpq_358.2
            have hBpq_358 := hBpq_358.1
            have hspq_358 : pq_358.2.2.2.2 = (pq_349.1, pq_349.2.1, pq_349.2.2.1, true, pq_349.2.2.2.2).2.2.2.2 := by rw [epq_358]; exact nmP_s
            have hnpq_358 := fun h : ¬ pq_358.2.2.2.1 = true => nmP_nw (epq_358 ▸ h)
            refine lv_aload_n hx hb dX3_gapItem_124 rfl (lv_at hl 3 rfl) ?_
            refine m_get hc hW 9 (by decide) rfl q1009 rfl rfl dX3_gapItem_125 ?_
            refine sm_topi (v := pq_358.2.2.1) rfl ?_
            refine lv_istore_n (lv' := [(3, .int pq_358.2.2.1), (4, .int (b2i (decide (giQ (f 5) T pq_349) = true))), (2, .int pq_349.2.2.1), (0, .ref (ad 23)), (1, .int kind)]) hx hb dX3_gapItem_128 rfl hl (by decide) rfl (fun ls hl => ?_)
            exact tl (pq_358, pq_358.2.2.1) _ _ _ ⟨⟨ls, rfl, lv_sub hl [3, 4, 2, 0] rfl⟩, hS, hW, hBpq_358, hspq_358.trans hs2, fun h => absurd rfl (hnpq_358 h), by rw [giP, ← epq_348, giC, ← epq_349, giA, if_neg c_355, giS, if_pos c_356, ← epq_358, giB]⟩
        · refine bi_ne (tgt := 98) hx hb dX3_gapItem_69 (by decide) (fun c_359 => ?_) (fun c_359 => ?_)
          · refine lv_iconst (v := 0) hx hb dX3_gapItem_98 (by decide) ?_
            exact jn _ ((b2i_f (fun h => absurd c_359 (of_decide_eq_true h).1)).symm)
          · refine lv_aload_n hx hb dX3_gapItem_72 rfl (lv_at hl 2 rfl) ?_
            refine lv_aload_n hx hb dX3_gapItem_73 rfl (lv_at hl 2 rfl) ?_
            refine m_get hc hW 7 (by decide) rfl q1007 rfl rfl dX3_gapItem_74 ?_
            refine sm_topi (v := nI pq_349.1) rfl ?_
            refine cv_R1 (rest := []) hc (M_byteAt l hW (T := T) hT hT1 pq_349.1 (by omega)) (lw_V q1171 q1173 qs39 q70 q1174) nd_X3_byteAt ⟨Nat.le_of_ble_eq_true rfl, Nat.le_of_ble_eq_true rfl⟩ (MW.recv hK hW) rfl hl.1 rfl (Nat.le_of_ble_eq_true rfl) dX3_gapItem_77 ⟨Nat.le_of_ble_eq_true rfl, Nat.le_of_ble_eq_true rfl⟩ ?_
            refine sm_topi (v := bA (f 5) T pq_349.1) rfl ?_
            refine cs_R1 (rest := []) hc (M_isDigit l (bA (f 5) T pq_349.1)) (lw_S q1180 q1181 q70 q1182) nd_X3_isDigit ⟨Nat.le_of_ble_eq_true rfl, Nat.le_of_ble_eq_true rfl⟩ rfl hl.1 rfl (Nat.le_of_ble_eq_true rfl) dX3_gapItem_80 ⟨Nat.le_of_ble_eq_true rfl, Nat.le_of_ble_eq_true rfl⟩ ?_
            refine bi_eq (tgt := 98) hx hb dX3_gapItem_83 (by decide) (fun c_360 => ?_) (fun c_360 => ?_)
            · refine lv_iconst (v := 0) hx hb dX3_gapItem_98 (by decide) ?_
              exact jn _ ((b2i_f (fun h => absurd (of_decide_eq_true h).2.1 c_360)).symm)
            · refine lv_aload_n hx hb dX3_gapItem_86 rfl (lv_at hl 2 rfl) ?_
              refine lv_iload_n hx hb dX3_gapItem_87 rfl (lv_at hl 1 rfl) ?_
              refine cv_R1 (rest := []) hc (M_sameNumber l hW (T := T) hT hT1 hBpq_349 pq_349.2.2.1) (lw_V q1213 q1215 qs47 q70 q1216) nd_X3_sameNumber ⟨Nat.le_of_ble_eq_true rfl, Nat.le_of_ble_eq_true rfl⟩ (MW.recv hK hW) rfl hl.1 rfl (Nat.le_of_ble_eq_true rfl) dX3_gapItem_88 ⟨Nat.le_of_ble_eq_true rfl, Nat.le_of_ble_eq_true rfl⟩ ?_
              refine sm_topi (v := b2i (nuV (f 5) pq_349.1 pq_349.2.1 = pq_349.2.2.1)) rfl ?_
              refine bi_eq (tgt := 98) hx hb dX3_gapItem_91 (by decide) (fun c_361 => ?_) (fun c_361 => ?_)
              · refine lv_iconst (v := 0) hx hb dX3_gapItem_98 (by decide) ?_
                exact jn _ ((b2i_f (fun h => absurd (of_decide_eq_true h).2.2 c_361)).symm)
              · refine lv_iconst (v := 1) hx hb dX3_gapItem_94 (by decide) ?_
                refine lv_goto (tgt := 99) hx hb dX3_gapItem_95 (by decide) ?_
                exact jn _ ((b2i_t (decide_eq_true ⟨c_359, c_360, c_361⟩)).symm)
      · refine lv_aload_n hx hb dX3_gapItem_57 rfl (lv_at hl 2 rfl) ?_
        refine lv_iconst (v := 1) hx hb dX3_gapItem_58 (by decide) ?_
        refine cv_W0 (rest := []) hc (M_needs l hW (T := T) hT hT1 hBpq_349 true) (lw_V q1205 q1207 qs45 q70 q1208) nd_X3_needs ⟨Nat.le_of_ble_eq_true rfl, Nat.le_of_ble_eq_true rfl⟩ (MW.recv hK hW) rfl hl.1 rfl (Nat.le_of_ble_eq_true rfl) dX3_gapItem_59 ⟨Nat.le_of_ble_eq_true rfl, Nat.le_of_ble_eq_true rfl⟩ hS (fun _ h => h) (fun H locs hW hS hz hk => ?_)
        obtain ⟨pq_362, epq_362⟩ : ∃ q, q = ndP (f 5) T true pq_349 := ⟨_, rfl⟩
        rw [← epq_362] at hW
        have hBpq_362 := ndP_B (t := f 5) (q := true) (p := pq_349) hBpq_349
        rw [← epq_362] at hBpq_362
        have hMpq_362 := hBpq_362.2
        have hBpq_362 := hBpq_362.1
        have hspq_362 : pq_362.2.2.2.2 = pq_349.2.2.2.2 := by rw [epq_362]; exact ndP_s
        have hnpq_362 := fun h : ¬ pq_362.2.2.2.1 = true => ndP_nw (epq_362 ▸ h)
        refine lv_goto (tgt := 129) hx hb dX3_gapItem_62 (by decide) ?_
        exact tl (pq_362, (-1)) _ _ _ ⟨⟨ls, rfl, lv_sub hl [2, 3, 1, 0] rfl⟩, hS, hW, hBpq_362, hspq_362.trans hs2, fun h => hw2 (hnpq_362 h).1, by rw [giP, ← epq_348, giC, ← epq_349, giA, if_pos c_355, ← epq_362]⟩
  · refine lv_icmp_ge (tgt := 16) hx hb dX3_gapItem_9 (by decide) (fun c_363 => ?_) (fun c_363 => ?_)
    · refine lv_iconst (v := 0) hx hb dX3_gapItem_16 (by decide) ?_
      exact jn _ ((b2i_f (fun h => absurd (of_decide_eq_true h) (Int32.not_lt.mpr c_363))).symm)
    · refine lv_iconst (v := 1) hx hb dX3_gapItem_12 (by decide) ?_
      refine lv_goto (tgt := 17) hx hb dX3_gapItem_13 (by decide) ?_
      exact jn _ ((b2i_t (decide_eq_true (Int32.not_le.mp c_363))).symm)
theorem nd_X3_nightItem : yX3_nightItem.cls = "SmokeLeansModel" ∧ yX3_nightItem.cls ≠ "java/lang/invoke/MethodHandle" ∧ yX3_nightItem.cls ≠ "java/lang/invoke/VarHandle" ∧ (parseMethodDescriptor yX3_nightItem.desc).map (fun d => d.parameters.length) = some 0 := by decide +kernel
set_option maxHeartbeats 8000000 in
theorem M_nightItem (l : Launch) {G : GD} {A : Nat → Prop} {f : Nat → Nat → Int32} {g : Nat → Nat → Int64} {ad : Nat → Nat} {H0 : Heap} {pp : PS} (hW : MW G A (psT f pp) g ad H0) {T : Nat} (hT : f 6 0 = nI T) (hT1 : T ≤ 120) (hB : PB T pp)  : MetW l G yX3_nightItem cX3_nightItem 2 none 5 0 0 A [.ref (ad 23)] H0 none (fun H => MW G A (psT f (niP (f 5) T pp)) g ad H) := by
  refine mx_of (by decide) (Nat.le_of_ble_eq_true rfl) ?_
  intro p e s m below meth c hx hb hr hc hlk hnm hs0 ls hl
  subst hs0
  have hown := hc.2.2.2.1
  have hts := hc.2.2.2.2.1
  have hK := hc.2.2.2.2.2
  have hl : lv_has ls 2 [(0, .ref (ad 23))] := hl
  have hS : va_S A s.heap s.heap [] := va_S.rf
  refine lv_aload_n hx hb dX3_nightItem_0 rfl (lv_at hl 0 rfl) ?_
  refine lv_bipush (v := 99) hx hb dX3_nightItem_1 (by decide) ?_
  refine lv_bipush (v := 111) hx hb dX3_nightItem_3 (by decide) ?_
  refine lv_bipush (v := 108) hx hb dX3_nightItem_5 (by decide) ?_
  refine lv_bipush (v := 100) hx hb dX3_nightItem_7 (by decide) ?_
  refine lv_iconst (v := 0) hx hb dX3_nightItem_9 (by decide) ?_
  refine lv_iconst (v := 0) hx hb dX3_nightItem_10 (by decide) ?_
  refine lv_iconst (v := 0) hx hb dX3_nightItem_11 (by decide) ?_
  refine cv_R1 (rest := []) hc (M_w_cold l hW (T := T) hT hT1 hB) (lw_V q1193 q1195 qs42 q70 q1196) nd_X3_isWord ⟨Nat.le_of_ble_eq_true rfl, Nat.le_of_ble_eq_true rfl⟩ (MW.recv hK hW) rfl hl.1 rfl (Nat.le_of_ble_eq_true rfl) dX3_nightItem_12 ⟨Nat.le_of_ble_eq_true rfl, Nat.le_of_ble_eq_true rfl⟩ ?_
  refine w_join (fun y => y = ntW (f 5) T pp) 68 [] (fun y hy => ?_) (fun jn => ?_)
  · subst hy
    refine lv_istore_n (lv' := [(1, .int (ntW (f 5) T pp)), (0, .ref (ad 23))]) hx hb dX3_nightItem_68 rfl hl (by decide) rfl (fun ls hl => ?_)
    refine lv_aload_n hx hb dX3_nightItem_69 rfl (lv_at hl 1 rfl) ?_
    refine lv_iload_n hx hb dX3_nightItem_70 rfl (lv_at hl 0 rfl) ?_
    refine w_join (fun y => y = b2i (decide (0 ≤ ntW (f 5) T pp) = true)) 79 [.ref (ad 23)] (fun y hy => ?_) (fun jn => ?_)
    · subst hy
      refine cv_W0 (rest := []) hc (M_needs l hW (T := T) hT hT1 hB (decide (0 ≤ ntW (f 5) T pp))) (lw_V q1205 q1207 qs45 q70 q1208) nd_X3_needs ⟨Nat.le_of_ble_eq_true rfl, Nat.le_of_ble_eq_true rfl⟩ (MW.recv hK hW) rfl hl.1 rfl (Nat.le_of_ble_eq_true rfl) dX3_nightItem_79 ⟨Nat.le_of_ble_eq_true rfl, Nat.le_of_ble_eq_true rfl⟩ hS (fun _ h => h) (fun H locs hW hS hz hk => ?_)
      obtain ⟨pq_364, epq_364⟩ : ∃ q, q = ndP (f 5) T (decide (0 ≤ ntW (f 5) T pp)) pp := ⟨_, rfl⟩
      rw [← epq_364] at hW
      have hBpq_364 := ndP_B (t := f 5) (q := (decide (0 ≤ ntW (f 5) T pp))) (p := pp) hB
      rw [← epq_364] at hBpq_364
      have hMpq_364 := hBpq_364.2
      have hBpq_364 := hBpq_364.1
      have hspq_364 : pq_364.2.2.2.2 = pp.2.2.2.2 := by rw [epq_364]; exact ndP_s
      have hnpq_364 := fun h : ¬ pq_364.2.2.2.1 = true => ndP_nw (epq_364 ▸ h)
      refine lv_aload_n hx hb dX3_nightItem_82 rfl (lv_at hl 1 rfl) ?_
      refine lv_iconst (v := 0) hx hb dX3_nightItem_83 (by decide) ?_
      refine lv_iload_n hx hb dX3_nightItem_84 rfl (lv_at hl 0 rfl) ?_
      refine cs_R1 (rest := [.int 0, .ref (ad 23)]) hc (M_mostOf l (ntW (f 5) T pp)) (lw_S q1147 q1148 q70 q1149) nd_X3_mostOf ⟨Nat.le_of_ble_eq_true rfl, Nat.le_of_ble_eq_true rfl⟩ rfl hl.1 rfl (Nat.le_of_ble_eq_true rfl) dX3_nightItem_85 ⟨Nat.le_of_ble_eq_true rfl, Nat.le_of_ble_eq_true rfl⟩ ?_
      refine cv_W0 (rest := []) hc (M_number l hW (T := T) hT hT1 hBpq_364 0 (mostP (ntW (f 5) T pp))) (lw_V q1209 q1211 qs46 q70 q1212) nd_X3_number ⟨Nat.le_of_ble_eq_true rfl, Nat.le_of_ble_eq_true rfl⟩ (MW.recv hK hW) rfl hl.1 rfl (Nat.le_of_ble_eq_true rfl) dX3_nightItem_88 ⟨Nat.le_of_ble_eq_true rfl, Nat.le_of_ble_eq_true rfl⟩ hS (fun _ h => h) (fun H locs hW hS hz hk => ?_)
      obtain ⟨pq_365, epq_365⟩ : ∃ q, q = nmP (f 5) T 0 (mostP (ntW (f 5) T pp)) pq_364 := ⟨_, rfl⟩
      rw [← epq_365] at hW
      have hBpq_365 := nmP_B (t := f 5) (lo := 0) (hi := (mostP (ntW (f 5) T pp))) (p := pq_364) hBpq_364
      rw [← epq_365] at hBpq_365
      have hMpq_365 := hBpq_365.2
      have hBpq_365 := hBpq_365.1
      have hspq_365 : pq_365.2.2.2.2 = pq_364.2.2.2.2 := by rw [epq_365]; exact nmP_s
      have hnpq_365 := fun h : ¬ pq_365.2.2.2.1 = true => nmP_nw (epq_365 ▸ h)
      refine lv_aload_n hx hb dX3_nightItem_91 rfl (lv_at hl 1 rfl) ?_
      refine m_get hc hW 10 (by decide) rfl q1010 rfl rfl dX3_nightItem_92 ?_
      refine sm_topi (v := b2i (pq_365.2.2.2.1 = true)) rfl ?_
      refine bi_ne (tgt := 110) hx hb dX3_nightItem_95 (by decide) (fun c_366 => ?_) (fun c_366 => ?_)
      · exact rv_W hx hb hr hlk hS (by rw [niP, ← epq_364, ← epq_365, niB, if_pos c_366]; exact hW) dX3_nightItem_110
      · have hnt : 0 ≤ ntW (f 5) T pp := of_decide_eq_true (hnpq_364 (hnpq_365 c_366)).2
        refine lv_aload_n hx hb dX3_nightItem_98 rfl (lv_at hl 1 rfl) ?_
        refine m_get hc hW 0 (by decide) rfl q1000 rfl rfl dX3_nightItem_99 ?_
        refine lv_iconst (v := 2) hx hb dX3_nightItem_102 (by decide) ?_
        refine lv_iload_n hx hb dX3_nightItem_103 rfl (lv_at hl 0 rfl) ?_
        refine lv_iadd hx hb dX3_nightItem_104 ?_
        refine lv_aload_n hx hb dX3_nightItem_105 rfl (lv_at hl 1 rfl) ?_
        refine m_get hc hW 9 (by decide) rfl q1009 rfl rfl dX3_nightItem_106 ?_
        refine sm_topi (v := pq_365.2.2.1) rfl ?_
        refine m_ist hc hW hS 0 rfl (n := 169) rfl (ntW_ix hnt) dX3_nightItem_109 (fun H locs hW hS hz => ?_)
        rw [psT_0] at hW
        exact rv_W hx hb hr hlk hS (by rw [niP, ← epq_364, ← epq_365, niB, if_neg c_366]; exact hW) dX3_nightItem_110
    · refine lv_if_lt (tgt := 78) hx hb dX3_nightItem_71 (by decide) (fun c_367 => ?_) (fun c_367 => ?_)
      · refine lv_iconst (v := 0) hx hb dX3_nightItem_78 (by decide) ?_
        exact jn _ ((b2i_f (fun h => absurd (of_decide_eq_true h) (Int32.not_le.mpr c_367))).symm)
      · refine lv_iconst (v := 1) hx hb dX3_nightItem_74 (by decide) ?_
        refine lv_goto (tgt := 79) hx hb dX3_nightItem_75 (by decide) ?_
        exact jn _ ((b2i_t (decide_eq_true (Int32.not_lt.mp c_367))).symm)
  · refine bi_eq (tgt := 22) hx hb dX3_nightItem_15 (by decide) (fun c_368 => ?_) (fun c_368 => ?_)
    · refine lv_aload_n hx hb dX3_nightItem_22 rfl (lv_at hl 0 rfl) ?_
      refine lv_bipush (v := 119) hx hb dX3_nightItem_23 (by decide) ?_
      refine lv_bipush (v := 105) hx hb dX3_nightItem_25 (by decide) ?_
      refine lv_bipush (v := 110) hx hb dX3_nightItem_27 (by decide) ?_
      refine lv_bipush (v := 100) hx hb dX3_nightItem_29 (by decide) ?_
      refine lv_iconst (v := 0) hx hb dX3_nightItem_31 (by decide) ?_
      refine lv_iconst (v := 0) hx hb dX3_nightItem_32 (by decide) ?_
      refine lv_iconst (v := 0) hx hb dX3_nightItem_33 (by decide) ?_
      refine cv_R1 (rest := []) hc (M_w_wind l hW (T := T) hT hT1 hB) (lw_V q1193 q1195 qs42 q70 q1196) nd_X3_isWord ⟨Nat.le_of_ble_eq_true rfl, Nat.le_of_ble_eq_true rfl⟩ (MW.recv hK hW) rfl hl.1 rfl (Nat.le_of_ble_eq_true rfl) dX3_nightItem_34 ⟨Nat.le_of_ble_eq_true rfl, Nat.le_of_ble_eq_true rfl⟩ ?_
      refine bi_eq (tgt := 44) hx hb dX3_nightItem_37 (by decide) (fun c_369 => ?_) (fun c_369 => ?_)
      · refine lv_aload_n hx hb dX3_nightItem_44 rfl (lv_at hl 0 rfl) ?_
        refine lv_bipush (v := 116) hx hb dX3_nightItem_45 (by decide) ?_
        refine lv_bipush (v := 104) hx hb dX3_nightItem_47 (by decide) ?_
        refine lv_bipush (v := 117) hx hb dX3_nightItem_49 (by decide) ?_
        refine lv_bipush (v := 109) hx hb dX3_nightItem_51 (by decide) ?_
        refine lv_bipush (v := 98) hx hb dX3_nightItem_53 (by decide) ?_
        refine lv_iconst (v := 0) hx hb dX3_nightItem_55 (by decide) ?_
        refine lv_iconst (v := 0) hx hb dX3_nightItem_56 (by decide) ?_
        refine cv_R1 (rest := []) hc (M_w_thumb l hW (T := T) hT hT1 hB) (lw_V q1193 q1195 qs42 q70 q1196) nd_X3_isWord ⟨Nat.le_of_ble_eq_true rfl, Nat.le_of_ble_eq_true rfl⟩ (MW.recv hK hW) rfl hl.1 rfl (Nat.le_of_ble_eq_true rfl) dX3_nightItem_57 ⟨Nat.le_of_ble_eq_true rfl, Nat.le_of_ble_eq_true rfl⟩ ?_
        refine bi_eq (tgt := 67) hx hb dX3_nightItem_60 (by decide) (fun c_370 => ?_) (fun c_370 => ?_)
        · refine lv_iconst (v := (-1)) hx hb dX3_nightItem_67 (by decide) ?_
          exact jn _ (by simp only [ntW, if_neg c_368, if_neg c_369, if_neg c_370])
        · refine lv_iconst (v := 4) hx hb dX3_nightItem_63 (by decide) ?_
          refine lv_goto (tgt := 68) hx hb dX3_nightItem_64 (by decide) ?_
          exact jn _ (by simp only [ntW, if_neg c_368, if_neg c_369, if_pos c_370])
      · refine lv_iconst (v := 1) hx hb dX3_nightItem_40 (by decide) ?_
        refine lv_goto (tgt := 68) hx hb dX3_nightItem_41 (by decide) ?_
        exact jn _ (by simp only [ntW, if_neg c_368, if_pos c_369])
    · refine lv_iconst (v := 0) hx hb dX3_nightItem_18 (by decide) ?_
      refine lv_goto (tgt := 68) hx hb dX3_nightItem_19 (by decide) ?_
      exact jn _ (by simp only [ntW, if_pos c_368])
theorem nd_X3_item : yX3_item.cls = "SmokeLeansModel" ∧ yX3_item.cls ≠ "java/lang/invoke/MethodHandle" ∧ yX3_item.cls ≠ "java/lang/invoke/VarHandle" ∧ (parseMethodDescriptor yX3_item.desc).map (fun d => d.parameters.length) = some 0 := by decide +kernel
set_option maxHeartbeats 8000000 in
theorem M_item (l : Launch) {G : GD} {A : Nat → Prop} {f : Nat → Nat → Int32} {g : Nat → Nat → Int64} {ad : Nat → Nat} {H0 : Heap} {pp : PS} (hW : MW G A (psT f pp) g ad H0) {T : Nat} (hT : f 6 0 = nI T) (hT1 : T ≤ 120) (hB : PB T pp) {R N : Nat} (hO : OkN pp.2.2.2.2 R N)  : MetW l G yX3_item cX3_item 2 none 7 0 0 A [.ref (ad 23)] H0 none (fun H => MW G A (psT f (itP (f 5) T pp)) g ad H) := by
  refine mx_of (by decide) (Nat.le_of_ble_eq_true rfl) ?_
  intro p e s m below meth c hx hb hr hc hlk hnm hs0 ls hl
  subst hs0
  have hown := hc.2.2.2.1
  have hts := hc.2.2.2.2.1
  have hK := hc.2.2.2.2.2
  have hl : lv_has ls 2 [(0, .ref (ad 23))] := hl
  have hS : va_S A s.heap s.heap [] := va_S.rf
  refine lv_aload_n hx hb dX3_item_0 rfl (lv_at hl 0 rfl) ?_
  refine cv_R1 (rest := []) hc (M_kindHere l hW (T := T) hT hT1 hB) (lw_V q1189 q1191 qs41 q70 q1192) nd_X3_kindHere ⟨Nat.le_of_ble_eq_true rfl, Nat.le_of_ble_eq_true rfl⟩ (MW.recv hK hW) rfl hl.1 rfl (Nat.le_of_ble_eq_true rfl) dX3_item_1 ⟨Nat.le_of_ble_eq_true rfl, Nat.le_of_ble_eq_true rfl⟩ ?_
  refine sm_topi (v := kdP (f 5) T pp) rfl ?_
  refine lv_istore_n (lv' := [(1, .int (kdP (f 5) T pp)), (0, .ref (ad 23))]) hx hb dX3_item_4 rfl hl (by decide) rfl (fun ls hl => ?_)
  refine lv_iload_n hx hb dX3_item_5 rfl (lv_at hl 0 rfl) ?_
  refine lv_if_lt (tgt := 17) hx hb dX3_item_6 (by decide) (fun c_371 => ?_) (fun c_371 => ?_)
  · refine lv_aload_n hx hb dX3_item_17 rfl (lv_at hl 1 rfl) ?_
    refine lv_bipush (v := 114) hx hb dX3_item_18 (by decide) ?_
    refine lv_bipush (v := 111) hx hb dX3_item_20 (by decide) ?_
    refine lv_bipush (v := 111) hx hb dX3_item_22 (by decide) ?_
    refine lv_bipush (v := 109) hx hb dX3_item_24 (by decide) ?_
    refine lv_iconst (v := 0) hx hb dX3_item_26 (by decide) ?_
    refine lv_iconst (v := 0) hx hb dX3_item_27 (by decide) ?_
    refine lv_iconst (v := 0) hx hb dX3_item_28 (by decide) ?_
    refine cv_R1 (rest := []) hc (M_w_room l hW (T := T) hT hT1 hB) (lw_V q1193 q1195 qs42 q70 q1196) nd_X3_isWord ⟨Nat.le_of_ble_eq_true rfl, Nat.le_of_ble_eq_true rfl⟩ (MW.recv hK hW) rfl hl.1 rfl (Nat.le_of_ble_eq_true rfl) dX3_item_29 ⟨Nat.le_of_ble_eq_true rfl, Nat.le_of_ble_eq_true rfl⟩ ?_
    refine bi_eq (tgt := 79) hx hb dX3_item_32 (by decide) (fun c_372 => ?_) (fun c_372 => ?_)
    · refine lv_aload_n hx hb dX3_item_79 rfl (lv_at hl 1 rfl) ?_
      refine cv_W0 (rest := []) hc (M_nightItem l hW (T := T) hT hT1 hB ) (lw_V q1221 q1223 qs49 q70 q1224) nd_X3_nightItem ⟨Nat.le_of_ble_eq_true rfl, Nat.le_of_ble_eq_true rfl⟩ (MW.recv hK hW) rfl hl.1 rfl (Nat.le_of_ble_eq_true rfl) dX3_item_80 ⟨Nat.le_of_ble_eq_true rfl, Nat.le_of_ble_eq_true rfl⟩ hS (fun _ h => h) (fun H locs hW hS hz hk => ?_)
      exact rv_W hx hb hr hlk hS (by rw [itP, if_pos c_371, if_neg c_372]; exact hW) dX3_item_83
    · refine lv_aload_n hx hb dX3_item_35 rfl (lv_at hl 1 rfl) ?_
      refine lv_aload_n hx hb dX3_item_36 rfl (lv_at hl 1 rfl) ?_
      refine m_get hc hW 0 (by decide) rfl q1000 rfl rfl dX3_item_37 ?_
      refine lv_iconst (v := 0) hx hb dX3_item_40 (by decide) ?_
      refine m_ild hc hW 0 rfl (n := 169) rfl (ix_eq (k := 0) rfl (by decide) (by decide)) dX3_item_41 ?_
      refine sm_topi (v := pp.2.2.2.2 0) rfl ?_
      refine lv_bipush (v := 6) hx hb dX3_item_42 (by decide) ?_
      refine w_join (fun y => y = b2i (decide (pp.2.2.2.2 0 < 6) = true)) 52 [.ref (ad 23)] (fun y hy => ?_) (fun jn => ?_)
      · subst hy
        refine cv_W0 (rest := []) hc (M_needs l hW (T := T) hT hT1 hB (decide (pp.2.2.2.2 0 < 6))) (lw_V q1205 q1207 qs45 q70 q1208) nd_X3_needs ⟨Nat.le_of_ble_eq_true rfl, Nat.le_of_ble_eq_true rfl⟩ (MW.recv hK hW) rfl hl.1 rfl (Nat.le_of_ble_eq_true rfl) dX3_item_52 ⟨Nat.le_of_ble_eq_true rfl, Nat.le_of_ble_eq_true rfl⟩ hS (fun _ h => h) (fun H locs hW hS hz hk => ?_)
        obtain ⟨pq_373, epq_373⟩ : ∃ q, q = ndP (f 5) T (decide (pp.2.2.2.2 0 < 6)) pp := ⟨_, rfl⟩
        rw [← epq_373] at hW
        have hBpq_373 := ndP_B (t := f 5) (q := (decide (pp.2.2.2.2 0 < 6))) (p := pp) hB
        rw [← epq_373] at hBpq_373
        have hMpq_373 := hBpq_373.2
        have hBpq_373 := hBpq_373.1
        have hspq_373 : pq_373.2.2.2.2 = pp.2.2.2.2 := by rw [epq_373]; exact ndP_s
        have hnpq_373 := fun h : ¬ pq_373.2.2.2.1 = true => ndP_nw (epq_373 ▸ h)
        refine lv_aload_n hx hb dX3_item_55 rfl (lv_at hl 1 rfl) ?_
        refine m_get hc hW 0 (by decide) rfl q1000 rfl rfl dX3_item_56 ?_
        refine lv_iconst (v := 0) hx hb dX3_item_59 (by decide) ?_
        refine lv_dup2_11 hx hb dX3_item_60 rfl rfl ?_
        refine m_ild hc hW 0 rfl (n := 169) rfl (ix_eq (k := 0) rfl (by decide) (by decide)) dX3_item_61 ?_
        refine sm_topi (v := pq_373.2.2.2.2 0) rfl ?_
        refine lv_aload_n hx hb dX3_item_62 rfl (lv_at hl 1 rfl) ?_
        refine m_get hc hW 10 (by decide) rfl q1010 rfl rfl dX3_item_63 ?_
        refine sm_topi (v := b2i (pq_373.2.2.2.1 = true)) rfl ?_
        refine bi_eq (tgt := 73) hx hb dX3_item_66 (by decide) (fun c_374 => ?_) (fun c_374 => ?_)
        · refine lv_iconst (v := 1) hx hb dX3_item_73 (by decide) ?_
          refine lv_iadd hx hb dX3_item_74 ?_
          refine m_ist hc hW hS 0 rfl (n := 169) rfl (ix_eq (k := 0) rfl (by decide) (by decide)) dX3_item_75 (fun H locs hW hS hz => ?_)
          rw [psT_0] at hW
          refine lv_goto (tgt := 83) hx hb dX3_item_76 (by decide) ?_
          exact rv_W hx hb hr hlk hS (by rw [itP, if_pos c_371, if_pos c_372, ← epq_373, rmB, if_neg c_374]; exact hW) dX3_item_83
        · refine lv_iconst (v := 0) hx hb dX3_item_69 (by decide) ?_
          refine lv_goto (tgt := 74) hx hb dX3_item_70 (by decide) ?_
          refine lv_iadd hx hb dX3_item_74 ?_
          refine m_ist hc hW hS 0 rfl (n := 169) rfl (ix_eq (k := 0) rfl (by decide) (by decide)) dX3_item_75 (fun H locs hW hS hz => ?_)
          rw [psT_0] at hW
          refine lv_goto (tgt := 83) hx hb dX3_item_76 (by decide) ?_
          exact rv_W hx hb hr hlk hS (by rw [itP, if_pos c_371, if_pos c_372, ← epq_373, rmB, if_pos c_374]; exact hW) dX3_item_83
      · refine lv_icmp_ge (tgt := 51) hx hb dX3_item_44 (by decide) (fun c_375 => ?_) (fun c_375 => ?_)
        · refine lv_iconst (v := 0) hx hb dX3_item_51 (by decide) ?_
          exact jn _ ((b2i_f (fun h => absurd (of_decide_eq_true h) (Int32.not_lt.mpr c_375))).symm)
        · refine lv_iconst (v := 1) hx hb dX3_item_47 (by decide) ?_
          refine lv_goto (tgt := 52) hx hb dX3_item_48 (by decide) ?_
          exact jn _ ((b2i_t (decide_eq_true (Int32.not_le.mp c_375))).symm)
  · refine lv_aload_n hx hb dX3_item_9 rfl (lv_at hl 1 rfl) ?_
    refine lv_iload_n hx hb dX3_item_10 rfl (lv_at hl 0 rfl) ?_
    refine cv_W0 (rest := []) hc (M_gapItem l hW (T := T) hT hT1 hB hO (kdP (f 5) T pp)) (lw_V q1201 q1203 qs44 q70 q1204) nd_X3_gapItem ⟨Nat.le_of_ble_eq_true rfl, Nat.le_of_ble_eq_true rfl⟩ (MW.recv hK hW) rfl hl.1 rfl (Nat.le_of_ble_eq_true rfl) dX3_item_11 ⟨Nat.le_of_ble_eq_true rfl, Nat.le_of_ble_eq_true rfl⟩ hS (fun _ h => h) (fun H locs hW hS hz hk => ?_)
    refine lv_goto (tgt := 83) hx hb dX3_item_14 (by decide) ?_
    exact rv_W hx hb hr hlk hS (by rw [itP, if_neg c_371]; exact hW) dX3_item_83
