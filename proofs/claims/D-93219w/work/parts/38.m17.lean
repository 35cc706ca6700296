/-! the reference's methods, 17: a text's house -/
set_option maxRecDepth 100000
theorem nI_ex (x : Int32) : ∃ a, x = nI a := ⟨x.toBitVec.toNat, by
  show x = Int32.ofNat _
  apply Int32.toBitVec_inj.mp
  simp [Int32.ofNat]⟩
/-- a token isn't empty -/
def PC (T : Nat) (p : PS) : Prop := p.1 < T → p.1 < p.2.1
def Adv (T : Nat) (p p' : PS) : Prop := PB T p → PC T p → PB T p' ∧ PC T p' ∧ p.1 ≤ p'.1
section ADV
variable {t : Nat → Int32} {T : Nat} {q : Bool} {p p' p'' : PS} {lo hi most : Int32}
theorem Adv.rf : Adv T p p := fun h c => ⟨h, c, Nat.le_refl _⟩
theorem Adv.tr (h : Adv T p p') (h' : Adv T p' p'') : Adv T p p'' := fun a b => by
  obtain ⟨a1, b1, l1⟩ := h a b
  obtain ⟨a2, b2, l2⟩ := h' a1 b1
  exact ⟨a2, b2, Nat.le_trans l1 l2⟩
theorem Adv.eq (e1 : p'.1 = p.1) (e2 : p'.2.1 = p.2.1) : Adv T p p' := fun a b => by
  unfold PB PC
  rw [e1, e2]
  exact ⟨a, b, Nat.le_refl _⟩
theorem nextP_C : PC T (nextP t T p) := fun h => by
  have h1 := nxB_ge (t := t) (T := T) (b := p.2.1)
  have h2 : (nextP t T p).1 = nxA t T p.2.1 := rfl
  have h3 : (nextP t T p).2.1 = nxB t T p.2.1 := rfl
  rw [h2] at h ⊢
  rw [h3]
  unfold nx1 at h1
  rw [if_pos h] at h1
  omega
theorem ndP_A : Adv T p (ndP t T q p) := fun a b => by
  refine ⟨(ndP_B a).1, ?_, (ndP_B a).2⟩
  unfold ndP
  split
  · exact b
  · split
    · exact nextP_C
    · exact b
theorem nmP_A : Adv T p (nmP t T lo hi p) := by
  unfold nmP
  split
  · exact Adv.rf
  · exact Adv.tr (p' := (p.1, p.2.1, nmV t T p, p.2.2.2.1, p.2.2.2.2)) (Adv.eq rfl rfl) ndP_A
theorem phP_A : Adv T p (phP t T q most p).2 := by
  unfold phP
  split
  · exact Adv.rf
  · split
    · exact ndP_A.tr nmP_A
    · exact Adv.rf
theorem giT5_A {k r o w h sd c : Int32} : Adv T p (giT5 k r o w h sd c p) := by
  unfold giT5
  split
  · exact Adv.rf
  · exact Adv.eq rfl rfl
theorem giT4_A {k r o w h sd : Int32} : Adv T p (giT4 t T k r o w h sd p) := by unfold giT4; exact phP_A.tr giT5_A
theorem giT3_A {k r o w h : Int32} : Adv T p (giT3 t T k r o w h p) := by unfold giT3; exact phP_A.tr giT4_A
theorem giT2_A {k r o w : Int32} : Adv T p (giT2 t T k r o w p) := by unfold giT2; exact phP_A.tr giT3_A
theorem giT1_A {k r o : Int32} : Adv T p (giT1 t T k r o p) := by unfold giT1 giT0; exact nmP_A.tr giT2_A
theorem giS_A : Adv T p (giS t T p) := by
  unfold giS
  split
  · exact Adv.eq rfl rfl
  · exact Adv.rf
theorem giB_A {k r : Int32} : Adv T p (giB t T k r p) := by unfold giB; exact giT1_A
theorem giA_A {k : Int32} : Adv T p (giA t T k p) := by
  unfold giA
  split
  · exact ndP_A.tr giT1_A
  · exact giS_A.tr (nmP_A.tr giB_A)
theorem giP_A {k : Int32} : Adv T p (giP t T k p) := by
  unfold giP giC
  exact ndP_A.tr (nmP_A.tr giA_A)
theorem niB_A {w : Int32} : Adv T p (niB w p) := by
  unfold niB
  split
  · exact Adv.rf
  · exact Adv.eq rfl rfl
theorem niP_A : Adv T p (niP t T p) := by
  unfold niP
  exact ndP_A.tr (nmP_A.tr niB_A)
theorem rmB_A : Adv T p (rmB p) := by
  unfold rmB
  split <;> exact Adv.eq rfl rfl
theorem itP_A : Adv T p (itP t T p) := by
  unfold itP
  split
  · split
    · exact ndP_A.tr rmB_A
    · exact niP_A
  · exact giP_A
theorem giT5_nw {k r o w h sd c : Int32} (hw : ¬ (giT5 k r o w h sd c p).2.2.2.1 = true) : ¬ p.2.2.2.1 = true := by
  unfold giT5 at hw
  split at hw
  · exact hw
  · exact hw
theorem giT1_nw {k r o : Int32} (hw : ¬ (giT1 t T k r o p).2.2.2.1 = true) : ¬ p.2.2.2.1 = true := by
  unfold giT1 giT0 giT2 giT3 giT4 at hw
  exact nmP_nw (phP_nw (phP_nw (phP_nw (giT5_nw hw))))
theorem giP_nw {k : Int32} (hw : ¬ (giP t T k p).2.2.2.1 = true) : ¬ p.2.2.2.1 = true := by
  have key : ∀ x : PS, ¬ (giA t T k x).2.2.2.1 = true → ¬ x.2.2.2.1 = true := fun x h => by
    unfold giA at h
    split at h
    · exact (ndP_nw (giT1_nw h)).1
    · have h2 := nmP_nw (giT1_nw h)
      unfold giS at h2
      split at h2
      · exact absurd rfl h2
      · exact h2
  exact (ndP_nw (nmP_nw (key _ hw))).1
theorem itP_nw (hw : ¬ (itP t T p).2.2.2.1 = true) : ¬ p.2.2.2.1 = true := by
  unfold itP at hw
  split at hw
  · split at hw
    · unfold rmB at hw
      split at hw <;> exact (ndP_nw hw).1
    · have key : ∀ (w : Int32) (x : PS), ¬ (niB w x).2.2.2.1 = true → ¬ x.2.2.2.1 = true := fun w x h => by
        unfold niB at h
        split at h
        · exact h
        · exact h
      exact (ndP_nw (nmP_nw (key _ _ hw))).1
  · exact giP_nw hw
end ADV
def hsN (t : Nat → Int32) (T : Nat) : Nat → Nat → PS → Nat × PS
  | 0, i, p => (i, p)
  | q + 1, i, p => if p.2.2.2.1 = true ∨ T ≤ p.1 then (i, p) else hsN t T q (i + 1) (itP t T (ndP t T (decide (bA t T p.1 = 44)) p))
def hsR (t : Nat → Int32) (T : Nat) (v : Int32) (s : Nat → Int32) : Nat × PS := hsN t T T 1 (itP t T (nextP t T (0, 0, v, false, s)))
/-- how much is left -/
def hsM (T : Nat) (p : PS) : Nat := if p.2.2.2.1 = true then 0 else T - p.1
theorem hsN_end {t : Nat → Int32} {T q i : Nat} {p : PS} (h : p.2.2.2.1 = true ∨ T ≤ p.1) : hsN t T q i p = (i, p) := by
  cases q with
  | zero => rfl
  | succ q => unfold hsN; rw [if_pos h]
theorem hsM_lt {t : Nat → Int32} {T q : Nat} {p : PS} {b : Bool} (hB : PB T p) (hC : PC T p) (hw : ¬ p.2.2.2.1 = true) (hlt : p.1 < T) (h : hsM T p ≤ q + 1) : hsM T (itP t T (ndP t T b p)) ≤ q := by
  by_cases hw2 : (itP t T (ndP t T b p)).2.2.2.1 = true
  · unfold hsM; rw [if_pos hw2]; omega
  · have h1 := itP_nw hw2
    have h2 := ndP_nw h1
    have h3 : ndP t T b p = nextP t T p := by unfold ndP; rw [if_neg hw, if_pos h2.2]
    obtain ⟨a1, b1, c1⟩ := ndP_A (t := t) (q := b) hB hC
    obtain ⟨a2, b2, c2⟩ := itP_A (t := t) a1 b1
    have h4 : p.2.1 ≤ (ndP t T b p).1 := by rw [h3]; exact nxA_ge
    have h5 := hC hlt
    unfold hsM at h ⊢
    rw [if_neg hw] at h
    rw [if_neg hw2]
    omega
def houseM (f : Nat → Nat → Int32) : Int32 × (Nat → Nat → Int32) :=
  if (hsR (f 5) (f 6 0).toNatClampNeg (f 9 0) (f 0)).2.2.2.2.1 = true then (-1 - nI (hsR (f 5) (f 6 0).toNatClampNeg (f 9 0) (f 0)).2.1, up2 f 6 0 0)
  else (nI (hsR (f 5) (f 6 0).toNatClampNeg (f 9 0) (f 0)).1, up2 (upA f 0 (hsR (f 5) (f 6 0).toNatClampNeg (f 9 0) (f 0)).2.2.2.2.2) 6 0 0)
theorem jk_house1 {f : Nat → Nat → Int32} {p : PS} : Jk (up2 f 6 0 0) (upA (up2 (psT (upA f 2 (f 0)) p) 6 0 0) 0 (up2 (psT (upA f 2 (f 0)) p) 6 0 0 2)) := by
  refine ⟨?_, ?_, ?_, ?_, ?_, ?_, ?_, ?_⟩ <;> funext j <;> rfl
theorem jk_house2 {f : Nat → Nat → Int32} {p : PS} : Jk (up2 (upA f 0 p.2.2.2.2) 6 0 0) (up2 (psT (upA f 2 (f 0)) p) 6 0 0) := by
  refine ⟨?_, ?_, ?_, ?_, ?_, ?_, ?_, ?_⟩ <;> funext j <;> rfl
theorem psT_start {f : Nat → Nat → Int32} {G : GD} {A : Nat → Prop} {g : Nat → Nat → Int64} {ad : Nat → Nat} {H : Heap} {a : Nat} (h : MW G A (up2 (up2 f 8 0 0) 10 0 0) g ad H) (ha : f 7 0 = nI a) : MW G A (psT f (a, 0, f 9 0, false, f 0)) g ad H := by
  refine h.ext (fun k hk => ?_) (fun k j hk hj => ?_) (fun _ _ _ _ => rfl)
  · unfold psT
    split
    · exact absurd hk (by decide)
    · exact ha.symm
    · rfl
    · rfl
    · rfl
    · rename_i h0 h7 h8 h9 h10
      rw [up2_ne h10, up2_ne h8]
  · unfold psT
    split
    · rfl
    · exact absurd hk (by decide)
    · exact absurd hk (by decide)
    · exact absurd hk (by decide)
    · exact absurd hk (by decide)
    · rename_i h0 h7 h8 h9 h10
      rw [up2_ne h10, up2_ne h8]
theorem nd_X3_house : yX3_house.cls = "SmokeLeansModel" ∧ yX3_house.cls ≠ "java/lang/invoke/MethodHandle" ∧ yX3_house.cls ≠ "java/lang/invoke/VarHandle" ∧ (parseMethodDescriptor yX3_house.desc).map (fun d => d.parameters.length) = some 0 := by decide +kernel
set_option maxHeartbeats 8000000 in
theorem M_house (l : Launch) {G : GD} {A : Nat → Prop} {f0 : Nat → Nat → Int32} {g : Nat → Nat → Int64} {ad : Nat → Nat} {H0 : Heap} (hW : MW G A f0 g ad H0) {T : Nat} (hT : f0 6 0 = nI T) (hT1 : T ≤ 120) {R N : Nat} (hO : OkN (f0 0) R N) : MetW l G yX3_house cX3_house 2 (some .int) 8 0 0 A [.ref (ad 23)] H0 (some (.int ((houseM f0).1))) (fun H => MP G A (houseM f0).2 g ad H) := by
  refine mx_of (by decide) (Nat.le_of_ble_eq_true rfl) ?_
  intro p e s m below meth c hx hb hr hc hlk hnm hs0 ls hl
  subst hs0
  have hown := hc.2.2.2.1
  have hts := hc.2.2.2.2.1
  have hK := hc.2.2.2.2.2
  have hl : lv_has ls 2 [(0, .ref (ad 23))] := hl
  have hS : va_S A s.heap s.heap [] := va_S.rf
  refine lv_aload_n hx hb dX3_house_0 rfl (lv_at hl 0 rfl) ?_
  have hcl : (f0 6 0).toNatClampNeg = T := by rw [hT]; exact nI_clamp (by omega)
  refine cv_W0 (rest := []) hc (M_puts l hW) (lw_V q1163 q1165 qs37 q70 q1166) nd_X3_puts ⟨Nat.le_of_ble_eq_true rfl, Nat.le_of_ble_eq_true rfl⟩ (MW.recv hK hW) rfl hl.1 rfl (Nat.le_of_ble_eq_true rfl) dX3_house_1 ⟨Nat.le_of_ble_eq_true rfl, Nat.le_of_ble_eq_true rfl⟩ hS (fun _ h => h) (fun H locs hW hS hz hk => ?_)
  obtain ⟨f, ef⟩ : ∃ q, q = upA f0 2 (f0 0) := ⟨_, rfl⟩
  rw [← ef] at hW
  have hT : f 6 0 = nI T := by rw [ef]; exact hT
  have ef0 : f 0 = f0 0 := by rw [ef]; rfl
  have ef5 : f 5 = f0 5 := by rw [ef]; rfl
  have ef9 : f 9 = f0 9 := by rw [ef]; rfl
  have hO : OkN (f 0) R N := by rw [ef0]; exact hO
  refine lv_aload_n hx hb dX3_house_4 rfl (lv_at hl 0 rfl) ?_
  refine lv_iconst (v := 0) hx hb dX3_house_5 (by decide) ?_
  refine m_putS hc hW hS 8 (by decide) rfl rfl q1008 rfl rfl rfl rfl rfl rfl dX3_house_6 (fun H locs hW hS hz => ?_)
  refine lv_aload_n hx hb dX3_house_9 rfl (lv_at hl 0 rfl) ?_
  refine lv_iconst (v := 0) hx hb dX3_house_10 (by decide) ?_
  refine m_putS hc hW hS 10 (by decide) rfl rfl q1010 rfl rfl rfl rfl rfl rfl dX3_house_11 (fun H locs hW hS hz => ?_)
  obtain ⟨a, ha⟩ := nI_ex (f 7 0)
  have hW := psT_start hW ha
  refine lv_aload_n hx hb dX3_house_14 rfl (lv_at hl 0 rfl) ?_
  refine cv_W0 (rest := []) hc (M_next l hW (T := T) hT hT1 (Nat.zero_le _)) (lw_V q1167 q1169 qs38 q70 q1170) nd_X3_next ⟨Nat.le_of_ble_eq_true rfl, Nat.le_of_ble_eq_true rfl⟩ (MW.recv hK hW) rfl hl.1 rfl (Nat.le_of_ble_eq_true rfl) dX3_house_15 ⟨Nat.le_of_ble_eq_true rfl, Nat.le_of_ble_eq_true rfl⟩ hS (fun _ h => h) (fun H locs hW hS hz hk => ?_)
  have hW : MW G A (psT f (nextP (f 5) T (0, 0, f 9 0, false, f 0))) g ad H := hW
  have hB0 := (nextP_B (t := f 5) (T := T) (p := (0, 0, f 9 0, false, f 0)) ⟨Nat.le_refl 0, Nat.zero_le _⟩).1
  have hC0 := nextP_C (t := f 5) (T := T) (p := (0, 0, f 9 0, false, f 0))
  have hO0 : OkN (nextP (f 5) T (0, 0, f 9 0, false, f 0)).2.2.2.2 R N := hO
  obtain ⟨p0, e0⟩ : ∃ q, q = nextP (f 5) T (0, 0, f 9 0, false, f 0) := ⟨_, rfl⟩
  rw [← e0] at hW hB0 hC0 hO0
  refine lv_iconst (v := 1) hx hb dX3_house_18 (by decide) ?_
  refine lv_istore_n (lv' := [(1, .int 1), (0, .ref (ad 23))]) hx hb dX3_house_19 rfl hl (by decide) rfl (fun ls hl => ?_)
  refine lv_aload_n hx hb dX3_house_20 rfl (lv_at hl 1 rfl) ?_
  refine cv_W0 (rest := []) hc (M_item l hW (T := T) hT hT1 hB0 hO0) (lw_V q1185 q1187 qs40 q70 q1188) nd_X3_item ⟨Nat.le_of_ble_eq_true rfl, Nat.le_of_ble_eq_true rfl⟩ (MW.recv hK hW) rfl hl.1 rfl (Nat.le_of_ble_eq_true rfl) dX3_house_21 ⟨Nat.le_of_ble_eq_true rfl, Nat.le_of_ble_eq_true rfl⟩ hS (fun _ h => h) (fun H locs hW hS hz hk => ?_)
  obtain ⟨hB1, hC1, _⟩ := itP_A (t := f 5) hB0 hC0
  have hO1 := itP_Ok (t := f 5) (T := T) hO0
  have hR0 : hsN (f 5) T T 1 (itP (f 5) T p0) = hsR (f 5) T (f 9 0) (f 0) := by rw [e0]; rfl
  have hM0 : hsM T (itP (f 5) T p0) ≤ T := by unfold hsM; split <;> omega
  obtain ⟨p1, e1⟩ : ∃ q, q = itP (f 5) T p0 := ⟨_, rfl⟩
  rw [← e1] at hW hB1 hC1 hO1 hR0 hM0
  refine w_loopH (σ := Nat × Nat × PS) (fun x H locs cells slots fr => cells = 0 ∧ slots = 0 ∧ (∃ ls, fr = F0 m 24 ls [] ∧ lv_has ls 2 [(0, .ref (ad 23)), (1, .int (nI x.2.1))]) ∧ va_S A s.heap H locs ∧ MW G A (psT f x.2.2) g ad H ∧ PB T x.2.2 ∧ PC T x.2.2 ∧ (∃ R N, OkN x.2.2.2.2.2.2 R N) ∧ hsM T x.2.2 ≤ x.1 ∧ hsN (f 5) T x.1 x.2.1 x.2.2 = hsR (f 5) T (f 9 0) (f 0)) (fun x => x.1) (T, 1, p1) ⟨rfl, rfl, ⟨ls, rfl, lv_sub hl [1, 0] rfl⟩, hS, hW, hB1, hC1, hO1, hM0, hR0⟩ ?_
  rintro ⟨q, i, p⟩ H locs cells slots fr ⟨rfl, rfl, ⟨ls, rfl, hl⟩, hS, hW, hB, hC, ⟨R, N, hO⟩, hM, hR⟩ ih
  have hl : lv_has ls 2 [(0, .ref (ad 23)), (1, .int (nI i))] := hl
  have hW : MW G A (psT f p) g ad H := hW
  have hB : PB T p := hB
  have hC : PC T p := hC
  have hO : OkN p.2.2.2.2 R N := hO
  have hM : hsM T p ≤ q := hM
  have hR : hsN (f 5) T q i p = hsR (f 5) T (f 9 0) (f 0) := hR
  have hb1 := hB.1
  have hb2 := hB.2
  refine lv_aload_n hx hb dX3_house_24 rfl (lv_at hl 0 rfl) ?_
  refine m_get hc hW 10 (by decide) rfl q1010 rfl rfl dX3_house_25 ?_
  refine sm_topi (v := b2i (p.2.2.2.1 = true)) rfl ?_
  refine bi_ne (tgt := 74) hx hb dX3_house_28 (by decide) (fun c_376 => ?_) (fun c_376 => ?_)
  · rw [hsN_end (Or.inl c_376)] at hR
    have hR : (i, p) = hsR (f0 5) (f0 6 0).toNatClampNeg (f0 9 0) (f0 0) := by rw [hcl, ← ef5, ← ef9, ← ef0]; exact hR
    refine lv_aload_n hx hb dX3_house_74 rfl (lv_at hl 0 rfl) ?_
    refine lv_iconst (v := 0) hx hb dX3_house_75 (by decide) ?_
    refine m_putS hc hW hS 6 (by decide) rfl rfl q1006 rfl rfl rfl rfl rfl rfl dX3_house_76 (fun H locs hW hS hz => ?_)
    refine lv_aload_n hx hb dX3_house_79 rfl (lv_at hl 0 rfl) ?_
    refine m_get hc hW 10 (by decide) rfl q1010 rfl rfl dX3_house_80 ?_
    refine sm_topi (v := b2i (p.2.2.2.1 = true)) rfl ?_
    refine bi_eq (tgt := 97) hx hb dX3_house_83 (by decide) (fun h => absurd c_376 h) (fun _ => ?_)
    refine lv_aload_n hx hb dX3_house_86 rfl (lv_at hl 0 rfl) ?_
    refine cv_W0 (rest := []) hc (M_putsBack l hW) (lw_V q1225 q1227 qs50 q70 q1228) nd_X3_putsBack ⟨Nat.le_of_ble_eq_true rfl, Nat.le_of_ble_eq_true rfl⟩ (MW.recv hK hW) rfl hl.1 rfl (Nat.le_of_ble_eq_true rfl) dX3_house_87 ⟨Nat.le_of_ble_eq_true rfl, Nat.le_of_ble_eq_true rfl⟩ hS (fun _ h => h) (fun H locs hW hS hz hk => ?_)
    refine lv_iconst (v := (-1)) hx hb dX3_house_90 (by decide) ?_
    refine lv_aload_n hx hb dX3_house_91 rfl (lv_at hl 0 rfl) ?_
    refine m_get hc hW 7 (by decide) rfl q1007 rfl rfl dX3_house_92 ?_
    refine sm_topi (v := nI p.1) rfl ?_
    refine lv_isub hx hb dX3_house_95 ?_
    exact ri_W hx hb hr hlk hS (by rw [houseM, ← hR, if_pos c_376]) (by rw [houseM, ← hR, if_pos c_376]; subst ef; exact ⟨_, g, jk_house1, rfl, hW⟩) dX3_house_96
  · refine lv_aload_n hx hb dX3_house_31 rfl (lv_at hl 0 rfl) ?_
    refine m_get hc hW 7 (by decide) rfl q1007 rfl rfl dX3_house_32 ?_
    refine sm_topi (v := nI p.1) rfl ?_
    refine lv_aload_n hx hb dX3_house_35 rfl (lv_at hl 0 rfl) ?_
    refine m_get hc hW 6 (by decide) rfl q1006 rfl rfl dX3_house_36 ?_
    refine sm_topi (v := f 6 0) rfl ?_
    refine sm_topi (v := nI T) hT ?_
    by_cases hlt : p.1 < T
    · obtain ⟨q, rfl⟩ : ∃ q', q = q' + 1 := ⟨q - 1, by unfold hsM at hM; rw [if_neg c_376] at hM; omega⟩
      rw [hsN, if_neg (not_or.mpr ⟨c_376, by omega⟩)] at hR
      refine lv_icmp_ge (tgt := 74) hx hb dX3_house_39 (by decide) (fun h => absurd h (nI_ge hlt (by omega))) (fun _ => ?_)
      refine lv_aload_n hx hb dX3_house_42 rfl (lv_at hl 0 rfl) ?_
      refine lv_aload_n hx hb dX3_house_43 rfl (lv_at hl 0 rfl) ?_
      refine lv_aload_n hx hb dX3_house_44 rfl (lv_at hl 0 rfl) ?_
      refine m_get hc hW 7 (by decide) rfl q1007 rfl rfl dX3_house_45 ?_
      refine sm_topi (v := nI p.1) rfl ?_
      refine cv_R1 (rest := [.ref (ad 23)]) hc (M_byteAt l hW (T := T) hT hT1 p.1 (by omega)) (lw_V q1171 q1173 qs39 q70 q1174) nd_X3_byteAt ⟨Nat.le_of_ble_eq_true rfl, Nat.le_of_ble_eq_true rfl⟩ (MW.recv hK hW) rfl hl.1 rfl (Nat.le_of_ble_eq_true rfl) dX3_house_48 ⟨Nat.le_of_ble_eq_true rfl, Nat.le_of_ble_eq_true rfl⟩ ?_
      refine sm_topi (v := bA (f 5) T p.1) rfl ?_
      refine lv_bipush (v := 44) hx hb dX3_house_51 (by decide) ?_
      refine w_join (fun y => y = b2i (decide (bA (f 5) T p.1 = 44) = true)) 61 [.ref (ad 23)] (fun y hy => ?_) (fun jn => ?_)
      · subst hy
        refine cv_W0 (rest := []) hc (M_needs l hW (T := T) hT hT1 hB (decide (bA (f 5) T p.1 = 44))) (lw_V q1205 q1207 qs45 q70 q1208) nd_X3_needs ⟨Nat.le_of_ble_eq_true rfl, Nat.le_of_ble_eq_true rfl⟩ (MW.recv hK hW) rfl hl.1 rfl (Nat.le_of_ble_eq_true rfl) dX3_house_61 ⟨Nat.le_of_ble_eq_true rfl, Nat.le_of_ble_eq_true rfl⟩ hS (fun _ h => h) (fun H locs hW hS hz hk => ?_)
        obtain ⟨pq_377, epq_377⟩ : ∃ q, q = ndP (f 5) T (decide (bA (f 5) T p.1 = 44)) p := ⟨_, rfl⟩
        rw [← epq_377] at hW
        have hBpq_377 := ndP_B (t := f 5) (q := (decide (bA (f 5) T p.1 = 44))) (p := p) hB
        rw [← epq_377] at hBpq_377
        have hMpq_377 := hBpq_377.2
        have hBpq_377 := hBpq_377.1
        have hspq_377 : pq_377.2.2.2.2 = p.2.2.2.2 := by rw [epq_377]; exact ndP_s
        have hnpq_377 := fun h : ¬ pq_377.2.2.2.1 = true => ndP_nw (epq_377 ▸ h)
        refine lv_aload_n hx hb dX3_house_64 rfl (lv_at hl 0 rfl) ?_
        have hO2 : OkN pq_377.2.2.2.2 R N := by rw [hspq_377]; exact hO
        obtain ⟨_, hC2, _⟩ := ndP_A (t := f 5) (q := decide (bA (f 5) T p.1 = 44)) hB hC
        have hM2 := hsM_lt (t := f 5) (b := decide (bA (f 5) T p.1 = 44)) hB hC c_376 hlt hM
        rw [← epq_377] at hC2 hM2 hR
        refine cv_W0 (rest := []) hc (M_item l hW (T := T) hT hT1 hBpq_377 hO2) (lw_V q1185 q1187 qs40 q70 q1188) nd_X3_item ⟨Nat.le_of_ble_eq_true rfl, Nat.le_of_ble_eq_true rfl⟩ (MW.recv hK hW) rfl hl.1 rfl (Nat.le_of_ble_eq_true rfl) dX3_house_65 ⟨Nat.le_of_ble_eq_true rfl, Nat.le_of_ble_eq_true rfl⟩ hS (fun _ h => h) (fun H locs hW hS hz hk => ?_)
        obtain ⟨hB3, hC3, _⟩ := itP_A (t := f 5) hBpq_377 hC2
        have hO3 := itP_Ok (t := f 5) (T := T) hO2
        refine lv_iinc (v := nI (i + 1)) (lv' := [(1, .int (nI (i + 1))), (0, .ref (ad 23))]) hx hb dX3_house_68 hl (k := 1) rfl (nI_1 _) (by decide) rfl (fun ls hl => ?_)
        refine lv_goto (tgt := 24) hx hb dX3_house_71 (by decide) ?_
        exact ih (q, i + 1, itP (f 5) T pq_377) _ _ _ _ _ ⟨rfl, rfl, ⟨ls, rfl, lv_sub hl [1, 0] rfl⟩, hS, hW, hB3, hC3, hO3, hM2, hR⟩ (Nat.lt_succ_self q)
      · refine lv_icmp_ne (tgt := 60) hx hb dX3_house_53 (by decide) (fun c_378 => ?_) (fun c_378 => ?_)
        · refine lv_iconst (v := 0) hx hb dX3_house_60 (by decide) ?_
          exact jn _ ((b2i_f (fun h => c_378 (of_decide_eq_true h))).symm)
        · refine lv_iconst (v := 1) hx hb dX3_house_56 (by decide) ?_
          refine lv_goto (tgt := 61) hx hb dX3_house_57 (by decide) ?_
          exact jn _ ((b2i_t (decide_eq_true c_378)).symm)
    · rw [hsN_end (Or.inr (by omega))] at hR
      refine lv_icmp_ge (tgt := 74) hx hb dX3_house_39 (by decide) (fun _ => ?_) (fun h => absurd (nI_le (by omega) (by omega)) h)
      have hR : (i, p) = hsR (f0 5) (f0 6 0).toNatClampNeg (f0 9 0) (f0 0) := by rw [hcl, ← ef5, ← ef9, ← ef0]; exact hR
      refine lv_aload_n hx hb dX3_house_74 rfl (lv_at hl 0 rfl) ?_
      refine lv_iconst (v := 0) hx hb dX3_house_75 (by decide) ?_
      refine m_putS hc hW hS 6 (by decide) rfl rfl q1006 rfl rfl rfl rfl rfl rfl dX3_house_76 (fun H locs hW hS hz => ?_)
      refine lv_aload_n hx hb dX3_house_79 rfl (lv_at hl 0 rfl) ?_
      refine m_get hc hW 10 (by decide) rfl q1010 rfl rfl dX3_house_80 ?_
      refine sm_topi (v := b2i (p.2.2.2.1 = true)) rfl ?_
      refine bi_eq (tgt := 97) hx hb dX3_house_83 (by decide) (fun _ => ?_) (fun h => absurd h c_376)
      refine lv_iload_n hx hb dX3_house_97 rfl (lv_at hl 1 rfl) ?_
      exact ri_W hx hb hr hlk hS (by rw [houseM, ← hR, if_neg c_376]) (by rw [houseM, ← hR, if_neg c_376]; subst ef; exact ⟨_, g, jk_house2, rfl, hW⟩) dX3_house_98
