/-! a house's methods, 2: round, finds -/
set_option maxRecDepth 100000
section HCP
variable {p : Program} {l : Launch} {e : Env} {R : Room} {s : State} {m : MethodId} {args : Array Value} {below : List Frame} {meth : Method} {c : Code} {H H0 : Heap} {locs : List Loc} {cells slots : Nat} {Q : State → Prop}
variable {pc : Nat} {ls : Array Slot} {rest : List Value} {A : Nat → Prop} {G : GD} {cc : ByteArray} {nL index : Nat} {own : String} {N : Nat} {r r' : Nat → Int32} {u u' : Nat → Nat → Int32} {hv : Nat → Value} {ah ga : Nat → Nat}
theorem h_pcopy (hc : Cx G p s m args c cc nL own) (hW : HW G A N r u hv ah ga H) (hS : va_S A H0 H locs) (hlink : Cond.methodLink own index arraycopyName ∈ lw_all) (hsz : ls.size = nL) (hR : 1 ≤ R.frames ∧ (rest.map fun v => v.category).sum + (nativeFrameWords "java/lang/System" "arraycopy" 5 + 11) ≤ R.locals) (hdg : decode cc pc = .ok (.invokestatic index, 3))
    (kk : ∀ (H1 : Heap) (locs1 : List Loc), HW G A N r (fun q => if q = 2 then u 1 else u q) hv ah ga H1 → va_S A H0 H1 locs1 → H1.size = H.size → (∀ q : Nat, q ≠ ah 4 → H1[q]? = H[q]?) → W p l e R s m args below meth c H1 locs1 cells slots Q (F0 m (pc + 3) ls rest)) : W p l e R s m args below meth c H locs cells slots Q (F0 m pc ls (.int 6 :: .int 0 :: .ref (ah 4) :: .int 0 :: .ref (ah 3) :: rest)) := by
  obtain ⟨hx, hb, hml, hown, hts, hK⟩ := hc
  refine s_copyi hx hb (by rw [hml]; exact hsz.symm) hown (hts _ hlink) (hts _ q575) (hts _ q574) (hts _ q80) hK.1 0 0 hW.pr hW.bf rfl rfl rfl (by decide) (by decide) (by decide) (by decide) (by decide) (fun i hi => rfl) hR.1 hR.2 hdg fun H1 L e1 z oq hL => ?_
  have hW1 : Wd G A (fun q => if q = 4 then some (.inl (G.2.1 0, 6, .inl (va_cpy (u 1) (u 2) (0 : Int32).toNatClampNeg (0 : Int32).toNatClampNeg (6 : Int32).toNatClampNeg))) else hEnc G N r u hv ah ga q) (hAd ah ga) H1 := hW.wr (r0 := 4) rfl (if_pos rfl) (fun q hq => if_neg hq) e1 oq
  refine kk H1 _ (hW1.conv fun q e' he => ?_) (hS.putL z oq (hW.mem (r := 4) rfl) hL) z oq
  by_cases hq : q = 4
  · subst hq
    cases he
    refine ⟨_, if_pos rfl, at_ext fun j hj => ?_⟩
    show (if 2 = 2 then u 1 else u 2) j = va_cpy (u 1) (u 2) 0 0 6 j
    simp [va_cpy, hj]
  · by_cases h0 : q = 0
    · subst h0
      cases he
      exact ⟨_, if_neg hq, fun K h => h⟩
    · have h4 : q ≠ 4 := hq
      refine ⟨e', (if_neg hq).trans ?_, fun K h => h⟩
      rw [← he]
      unfold hEnc
      simp only [if_neg h4, if_neg h0]
      rfl
end HCP
/-- pressures while a round goes on: rooms below i are done -/
def rndU (r : Nat → Int32) (u : Nat → Nat → Int32) (i : Nat) : Nat → Nat → Int32 := fun q => if q = 1 then (fun j => if j < i then askedP r (u 1) (nI j) else u 1 j) else if q = 2 then u 1 else u q
def rdU (r : Nat → Int32) (u : Nat → Nat → Int32) : Nat → Nat → Int32 := fun q => if q = 1 then roundP r (u 1) else if q = 2 then u 1 else u q
theorem rndU_0 {r : Nat → Int32} {u : Nat → Nat → Int32} : (fun q => if q = 2 then u 1 else u q) = rndU r u 0 := by
  funext q
  unfold rndU
  by_cases h1 : q = 1
  · subst h1
    rw [if_neg (by decide), if_pos rfl]
    funext j
    rw [if_neg (Nat.not_lt_zero j)]
  · rw [if_neg h1]
theorem rndU_s {r : Nat → Int32} {u : Nat → Nat → Int32} {i : Nat} : up2 (rndU r u i) 1 i (askedP r (u 1) (nI i)) = rndU r u (i + 1) := by
  funext q j
  unfold up2 rndU
  by_cases h1 : q = 1
  · subst h1
    rw [if_pos rfl, if_pos rfl]
    by_cases h2 : j = i
    · subst h2
      rw [if_pos ⟨rfl, rfl⟩, if_pos (Nat.lt_succ_self j)]
    · rw [if_neg (fun h => h2 h.2)]
      by_cases h3 : j < i
      · rw [if_pos h3, if_pos (by omega)]
      · rw [if_neg h3, if_neg (by omega)]
  · rw [if_neg (fun h => h1 h.1), if_neg h1, if_neg h1]
theorem rndU_R {r : Nat → Int32} {u : Nat → Nat → Int32} {R N : Nat} (hO : OkN r R N) : rndU r u R = rdU r u := by
  funext q
  unfold rndU rdU roundP
  rw [hO.cl0]
theorem chg_eq {s p : Nat → Int32} {n : Nat} (h : askedP s p (nI n) = p n) : b2i (chgN s p n = true) ||| 0 = b2i (chgN s p (n + 1) = true) := by
  have : chgN s p (n + 1) = chgN s p n := by simp [chgN, h]
  rw [this]
  generalize chgN s p n = b
  cases b <;> decide
theorem chg_ne {s p : Nat → Int32} {n : Nat} (h : ¬ askedP s p (nI n) = p n) : b2i (chgN s p n = true) ||| 1 = b2i (chgN s p (n + 1) = true) := by
  have : chgN s p (n + 1) = true := by simp [chgN, h]
  rw [this]
  generalize chgN s p n = b
  cases b <;> decide
theorem nd_X1_round : yX1_round.cls = "SmokeLeans$House" ∧ yX1_round.cls ≠ "java/lang/invoke/MethodHandle" ∧ yX1_round.cls ≠ "java/lang/invoke/VarHandle" ∧ (parseMethodDescriptor yX1_round.desc).map (fun d => d.parameters.length) = some 0 := by decide +kernel
set_option maxHeartbeats 4000000 in
theorem D_round (l : Launch) {G : GD} {A : Nat → Prop} {N R : Nat} {r : Nat → Int32} {u : Nat → Nat → Int32} {hv : Nat → Value} {ah ga : Nat → Nat} {H0 : Heap} (hF : FG G) (hW : HW G A N r u hv ah ga H0) (hO : OkN r R N)  : MetW l G yX1_round cX1_round 3 (some .boolean) 5 0 0 A [.ref (ah 0)] H0 (some (.int (b2i (chgP r (u 1) = true)))) (fun H => HW G A N r (rdU r u) hv ah ga H) := by
  refine mx_of (by decide) (Nat.le_of_ble_eq_true rfl) ?_
  intro p e s m below meth c hx hb hr hc hlk hnm hs0 ls hl
  subst hs0
  have hown := hc.2.2.2.1
  have hts := hc.2.2.2.2.1
  have hK := hc.2.2.2.2.2
  have hl : lv_has ls 3 [(0, .ref (ah 0))] := hl
  have hS : va_S A s.heap s.heap [] := va_S.rf
  have hN20 := hO.2.1
  refine lv_iconst (v := 0) hx hb dX1_round_0 (by decide) ?_
  refine lv_istore_n (lv' := [(1, .int 0), (0, .ref (ah 0))]) hx hb dX1_round_1 rfl hl (by decide) rfl (fun ls hl => ?_)
  refine lv_aload_n hx hb dX1_round_2 rfl (lv_at hl 1 rfl) ?_
  refine h_get hc hW 6 (by decide) rfl q134 rfl rfl dX1_round_3 ?_
  refine lv_iconst (v := 0) hx hb dX1_round_6 (by decide) ?_
  refine lv_aload_n hx hb dX1_round_7 rfl (lv_at hl 1 rfl) ?_
  refine h_get hc hW 7 (by decide) rfl q135 rfl rfl dX1_round_8 ?_
  refine lv_iconst (v := 0) hx hb dX1_round_11 (by decide) ?_
  refine lv_bipush (v := 6) hx hb dX1_round_12 (by decide) ?_
  refine h_pcopy (rest := []) hc hW hS q573 hl.1 ⟨Nat.le_of_ble_eq_true rfl, Nat.le_of_ble_eq_true rfl⟩ dX1_round_14 (fun H locs hW hS hz oq => ?_)
  refine lv_iconst (v := 0) hx hb dX1_round_17 (by decide) ?_
  refine lv_istore_n (lv' := [(2, .int 0), (1, .int 0), (0, .ref (ah 0))]) hx hb dX1_round_18 rfl hl (by decide) rfl (fun ls hl => ?_)
  rw [rndU_0 (r := r)] at hW
  refine w_loopH (σ := Nat) (fun i H locs cells slots fr => cells = 0 ∧ slots = 0 ∧ (∃ ls, fr = F0 m 19 ls [] ∧ lv_has ls 3 [(2, .int (nI i)), (1, .int (b2i (chgN r (u 1) i = true))), (0, .ref (ah 0))]) ∧ va_S A s.heap H locs ∧ (i ≤ R ∧ HW G A N r (rndU r u i) hv ah ga H)) (fun i => R - i) 0 ⟨rfl, rfl, ⟨ls, rfl, lv_sub hl [0, 1, 2] rfl⟩, hS, ⟨Nat.zero_le _, hW⟩⟩ ?_
  intro i H locs cells slots fr hI ih
  obtain ⟨rfl, rfl, ⟨ls, rfl, hl⟩, hS, ⟨hiR, hW⟩⟩ := hI
  by_cases hi : i < R
  · have hi6 : i < 6 := by have := hO.1; omega
    refine lv_iload_n hx hb dX1_round_19 rfl (lv_at hl 0 rfl) ?_
    refine lv_aload_n hx hb dX1_round_20 rfl (lv_at hl 2 rfl) ?_
    refine h_get hc hW 0 (by decide) rfl q119 rfl rfl dX1_round_21 ?_
    refine sm_topi (v := nI R) hO.2.2.1 ?_
    refine lv_icmp_ge (tgt := 67) hx hb dX1_round_24 (by decide) (fun h => absurd h (nI_ge hi (by have := hO.1; omega))) (fun _ => ?_)
    refine lv_aload_n hx hb dX1_round_27 rfl (lv_at hl 2 rfl) ?_
    refine h_get hc hW 6 (by decide) rfl q134 rfl rfl dX1_round_28 ?_
    refine lv_iload_n hx hb dX1_round_31 rfl (lv_at hl 0 rfl) ?_
    refine lv_aload_n hx hb dX1_round_32 rfl (lv_at hl 2 rfl) ?_
    refine lv_iload_n hx hb dX1_round_33 rfl (lv_at hl 0 rfl) ?_
    refine cv_R1 (rest := [.int (nI i), .ref (ah 3)]) hc (D_pressed l hF hW hO (nI i)) (lw_V q744 q746 qs17 q68 q747) nd_X1_pressed ⟨Nat.le_of_ble_eq_true rfl, Nat.le_of_ble_eq_true rfl⟩ (HW.recv hK hW) rfl hl.1 rfl (Nat.le_of_ble_eq_true rfl) dX1_round_34 ⟨Nat.le_of_ble_eq_true rfl, Nat.le_of_ble_eq_true rfl⟩ ?_
    refine h_pst hc hW hS (ix_nI (by omega) (by decide)) dX1_round_37 (fun H locs hW hS hz oq => ?_)
    have hW : HW G A N r (rndU r u (i + 1)) hv ah ga H := by rw [← rndU_s]; exact hW
    refine lv_iload_n hx hb dX1_round_38 rfl (lv_at hl 1 rfl) ?_
    refine lv_aload_n hx hb dX1_round_39 rfl (lv_at hl 2 rfl) ?_
    refine h_get hc hW 6 (by decide) rfl q134 rfl rfl dX1_round_40 ?_
    refine lv_iload_n hx hb dX1_round_43 rfl (lv_at hl 0 rfl) ?_
    refine h_ild hc hW.pr (ix_nI (by omega) (by decide)) dX1_round_44 ?_
    refine sm_topi (v := askedP r (u 1) (nI i)) (if_pos (Nat.lt_succ_self i)) ?_
    refine lv_aload_n hx hb dX1_round_45 rfl (lv_at hl 2 rfl) ?_
    refine h_get hc hW 7 (by decide) rfl q135 rfl rfl dX1_round_46 ?_
    refine lv_iload_n hx hb dX1_round_49 rfl (lv_at hl 0 rfl) ?_
    refine h_ild hc hW.bf (ix_nI (by omega) (by decide)) dX1_round_50 ?_
    refine sm_topi (v := u 1 i) (rfl) ?_
    refine lv_icmp_eq (tgt := 58) hx hb dX1_round_51 (by decide) (fun c_415 => ?_) (fun c_415 => ?_)
    · refine lv_iconst (v := 0) hx hb dX1_round_58 (by decide) ?_
      refine lv_ior hx hb dX1_round_59 ?_
      refine sm_topi (v := b2i (chgN r (u 1) (i + 1) = true)) (chg_eq c_415) ?_
      refine lv_istore_n (lv' := [(1, .int (b2i (chgN r (u 1) (i + 1) = true))), (2, .int (nI i)), (0, .ref (ah 0))]) hx hb dX1_round_60 rfl hl (by decide) rfl (fun ls hl => ?_)
      refine lv_iinc (v := nI (i + 1)) (lv' := [(2, .int (nI (i + 1))), (1, .int (b2i (chgN r (u 1) (i + 1) = true))), (0, .ref (ah 0))]) hx hb dX1_round_61 hl (k := 1) rfl (nI_1 _) (by decide) rfl (fun ls hl => ?_)
      refine lv_goto (tgt := 19) hx hb dX1_round_64 (by decide) ?_
      exact ih (i + 1) _ _ _ _ _ ⟨rfl, rfl, ⟨ls, rfl, lv_sub hl [0, 1, 2] rfl⟩, hS, hi, hW⟩ (by omega)
    · refine lv_iconst (v := 1) hx hb dX1_round_54 (by decide) ?_
      refine lv_goto (tgt := 59) hx hb dX1_round_55 (by decide) ?_
      refine lv_ior hx hb dX1_round_59 ?_
      refine sm_topi (v := b2i (chgN r (u 1) (i + 1) = true)) (chg_ne c_415) ?_
      refine lv_istore_n (lv' := [(1, .int (b2i (chgN r (u 1) (i + 1) = true))), (2, .int (nI i)), (0, .ref (ah 0))]) hx hb dX1_round_60 rfl hl (by decide) rfl (fun ls hl => ?_)
      refine lv_iinc (v := nI (i + 1)) (lv' := [(2, .int (nI (i + 1))), (1, .int (b2i (chgN r (u 1) (i + 1) = true))), (0, .ref (ah 0))]) hx hb dX1_round_61 hl (k := 1) rfl (nI_1 _) (by decide) rfl (fun ls hl => ?_)
      refine lv_goto (tgt := 19) hx hb dX1_round_64 (by decide) ?_
      exact ih (i + 1) _ _ _ _ _ ⟨rfl, rfl, ⟨ls, rfl, lv_sub hl [0, 1, 2] rfl⟩, hS, hi, hW⟩ (by omega)
  · have hiE : i = R := by omega
    subst hiE
    refine lv_iload_n hx hb dX1_round_19 rfl (lv_at hl 0 rfl) ?_
    refine lv_aload_n hx hb dX1_round_20 rfl (lv_at hl 2 rfl) ?_
    refine h_get hc hW 0 (by decide) rfl q119 rfl rfl dX1_round_21 ?_
    refine sm_topi (v := nI i) hO.2.2.1 ?_
    refine lv_icmp_ge (tgt := 67) hx hb dX1_round_24 (by decide) (fun _ => ?_) (fun h => absurd (nI_le (by omega) (by have := hO.1; omega)) h)
    refine lv_iload_n hx hb dX1_round_67 rfl (lv_at hl 1 rfl) ?_
    exact rz_W hx hb hr hlk hS (by rw [chgP, hO.cl0]) (by rw [rndU_R hO] at hW; exact hW) dX1_round_68
def zU (u : Nat → Nat → Int32) (i : Nat) : Nat → Nat → Int32 := fun q => if q = 1 then (fun j => if j < i then 0 else u 1 j) else u q
theorem zU_0 {u : Nat → Nat → Int32} : zU u 0 = u := by
  funext q
  unfold zU
  by_cases h1 : q = 1
  · subst h1
    rw [if_pos rfl]
    funext j
    rw [if_neg (Nat.not_lt_zero j)]
  · rw [if_neg h1]
theorem zU_s {u : Nat → Nat → Int32} {i : Nat} : up2 (zU u i) 1 i 0 = zU u (i + 1) := by
  funext q j
  unfold up2 zU
  by_cases h1 : q = 1
  · subst h1
    rw [if_pos rfl, if_pos rfl]
    by_cases h2 : j = i
    · subst h2
      rw [if_pos ⟨rfl, rfl⟩, if_pos (Nat.lt_succ_self j)]
    · rw [if_neg (fun h => h2 h.2)]
      by_cases h3 : j < i
      · rw [if_pos h3, if_pos (by omega)]
      · rw [if_neg h3, if_neg (by omega)]
  · rw [if_neg (fun h => h1 h.1), if_neg h1, if_neg h1]
def zzU (u : Nat → Nat → Int32) : Nat → Nat → Int32 := fun q => if q = 1 then (fun _ => 0) else u q
theorem nd_X1_finds : yX1_finds.cls = "SmokeLeans$House" ∧ yX1_finds.cls ≠ "java/lang/invoke/MethodHandle" ∧ yX1_finds.cls ≠ "java/lang/invoke/VarHandle" ∧ (parseMethodDescriptor yX1_finds.desc).map (fun d => d.parameters.length) = some 0 := by decide +kernel
set_option maxHeartbeats 4000000 in
theorem D_finds (l : Launch) {G : GD} {A : Nat → Prop} {N R : Nat} {r : Nat → Int32} {u : Nat → Nat → Int32} {hv : Nat → Value} {ah ga : Nat → Nat} {H0 : Heap} (hF : FG G) (hW : HW G A N r u hv ah ga H0) (hO : OkN r R N) (hcok : HCok r u) : MetW l G yX1_finds cX1_finds 2 none 6 0 0 A [.ref (ah 0)] H0 none (fun H => ∃ u1, u1 0 0 = 1 ∧ HCok r u1 ∧ HW G A N r u1 hv ah ga H) := by
  refine mx_of (by decide) (Nat.le_of_ble_eq_true rfl) ?_
  intro p e s m below meth c hx hb hr hc hlk hnm hs0 ls hl
  subst hs0
  have hown := hc.2.2.2.1
  have hts := hc.2.2.2.2.1
  have hK := hc.2.2.2.2.2
  have hl : lv_has ls 2 [(0, .ref (ah 0))] := hl
  have hS : va_S A s.heap s.heap [] := va_S.rf
  have hN20 := hO.2.1
  refine lv_aload_n hx hb dX1_finds_0 rfl (lv_at hl 0 rfl) ?_
  refine h_get hc hW 5 (by decide) rfl q133 rfl rfl dX1_finds_1 ?_
  refine lv_if_eq (tgt := 8) hx hb dX1_finds_4 (by decide) (fun c_416 => ?_) (fun c_416 => ?_)
  · refine lv_iconst (v := 0) hx hb dX1_finds_8 (by decide) ?_
    refine lv_istore_n (lv' := [(1, .int 0), (0, .ref (ah 0))]) hx hb dX1_finds_9 rfl hl (by decide) rfl (fun ls hl => ?_)
    rw [← zU_0 (u := u)] at hW
    refine w_loopH (σ := Nat) (fun i H locs cells slots fr => cells = 0 ∧ slots = 0 ∧ (∃ ls, fr = F0 m 10 ls [] ∧ lv_has ls 2 [(1, .int (nI i)), (0, .ref (ah 0))]) ∧ va_S A s.heap H locs ∧ (i ≤ 6 ∧ HW G A N r (zU u i) hv ah ga H)) (fun i => 6 - i) 0 ⟨rfl, rfl, ⟨ls, rfl, lv_sub hl [0, 1] rfl⟩, hS, ⟨Nat.zero_le _, hW⟩⟩ ?_
    intro i H locs cells slots fr hI ih
    obtain ⟨rfl, rfl, ⟨ls, rfl, hl⟩, hS, ⟨hi6, hW⟩⟩ := hI
    by_cases hi : i < 6
    · refine lv_iload_n hx hb dX1_finds_10 rfl (lv_at hl 0 rfl) ?_
      refine lv_bipush (v := 6) hx hb dX1_finds_11 (by decide) ?_
      refine lv_icmp_ge (tgt := 29) hx hb dX1_finds_13 (by decide) (fun h => absurd h (nI_ge (b := 6) hi (by decide))) (fun _ => ?_)
      refine lv_aload_n hx hb dX1_finds_16 rfl (lv_at hl 1 rfl) ?_
      refine h_get hc hW 6 (by decide) rfl q134 rfl rfl dX1_finds_17 ?_
      refine lv_iload_n hx hb dX1_finds_20 rfl (lv_at hl 0 rfl) ?_
      refine lv_iconst (v := 0) hx hb dX1_finds_21 (by decide) ?_
      refine h_pst hc hW hS (ix_nI (by omega) (by decide)) dX1_finds_22 (fun H locs hW hS hz oq => ?_)
      refine lv_iinc (v := nI (i + 1)) (lv' := [(1, .int (nI (i + 1))), (0, .ref (ah 0))]) hx hb dX1_finds_23 hl (k := 0) rfl (nI_1 _) (by decide) rfl (fun ls hl => ?_)
      refine lv_goto (tgt := 10) hx hb dX1_finds_26 (by decide) ?_
      rw [zU_s] at hW
      exact ih (i + 1) _ _ _ _ _ ⟨rfl, rfl, ⟨ls, rfl, lv_sub hl [0, 1] rfl⟩, hS, hi, hW⟩ (by omega)
    · have hiE : i = 6 := by omega
      subst hiE
      have hl : lv_has ls 2 [(1, .int (nI 6)), (0, .ref (ah 0))] := hl
      have hW : HW G A N r (zzU u) hv ah ga H := hW.cv rfl rfl rfl (fun _ _ => rfl) rfl rfl rfl (fun j hj => by show (0 : Int32) = if j < 6 then 0 else u 1 j; rw [if_pos hj]) (fun _ _ => rfl) (fun _ _ => rfl)
      refine lv_iload_n hx hb dX1_finds_10 rfl (lv_at hl 0 rfl) ?_
      refine lv_bipush (v := 6) hx hb dX1_finds_11 (by decide) ?_
      refine lv_icmp_ge (tgt := 29) hx hb dX1_finds_13 (by decide) (fun _ => ?_) (fun h => absurd (nI_le (a := 6) (by omega) (by omega)) h)
      refine lv_aload_n hx hb dX1_finds_29 rfl (lv_at hl 1 rfl) ?_
      refine lv_iconst (v := 0) hx hb dX1_finds_30 (by decide) ?_
      refine h_put (r' := r) (u' := up2 (zzU u) 3 0 0) hc hW hS 8 (by decide) rfl q136 rfl rfl rfl rfl rfl rfl (fun _ _ => rfl) (up2_ne (by decide)) (up2_ne (by decide)) dX1_finds_31 (fun H locs hW hS hz oq => ?_)
      refine lv_iconst (v := 1) hx hb dX1_finds_34 (by decide) ?_
      refine lv_istore_n (lv' := [(1, .int 1), (0, .ref (ah 0))]) hx hb dX1_finds_35 rfl hl (by decide) rfl (fun ls hl => ?_)
      refine w_loopH (σ := Nat) (fun n H locs cells slots fr => cells = 0 ∧ slots = 0 ∧ (∃ ls, fr = F0 m 36 ls [] ∧ lv_has ls 2 [(1, .int 1), (0, .ref (ah 0))]) ∧ va_S A s.heap H locs ∧ (n ≤ 60 ∧ rdN r (60 - n) n = rdP r ∧ ∃ u1, HW G A N r u1 hv ah ga H ∧ u1 1 = prN r n ∧ u1 3 0 = nI n)) (fun n => 60 - n) 0 ⟨rfl, rfl, ⟨ls, rfl, lv_sub hl [0, 1] rfl⟩, hS, ⟨by decide, rfl, _, hW, rfl, rfl⟩⟩ ?_
      intro n H locs cells slots fr hI ih
      obtain ⟨rfl, rfl, ⟨ls, rfl, hl⟩, hS, ⟨hn, hrd, u1, hW, hu1, hu3⟩⟩ := hI
      by_cases hn60 : n < 60
      · obtain ⟨k, hk60⟩ : ∃ k, 60 - n = k + 1 := ⟨59 - n, by omega⟩
        rw [hk60, rdN, ← hu1] at hrd
        refine lv_iload_n hx hb dX1_finds_36 rfl (lv_at hl 0 rfl) ?_
        refine lv_if_eq (tgt := 75) hx hb dX1_finds_37 (by decide) (fun h => absurd h (by decide)) (fun _ => ?_)
        refine lv_aload_n hx hb dX1_finds_40 rfl (lv_at hl 1 rfl) ?_
        refine h_get hc hW 8 (by decide) rfl q136 rfl rfl dX1_finds_41 ?_
        refine sm_topi (v := nI n) (hu3) ?_
        refine lv_bipush (v := 60) hx hb dX1_finds_44 (by decide) ?_
        refine lv_icmp_ge (tgt := 75) hx hb dX1_finds_46 (by decide) (fun h => absurd h (nI_ge (b := 60) hn60 (by decide))) (fun _ => ?_)
        by_cases hch : chgP r (u1 1) = true
        · rw [if_pos hch] at hrd
          refine lv_aload_n hx hb dX1_finds_49 rfl (lv_at hl 1 rfl) ?_
          refine cv_W1 (rest := []) hc (D_round l hF hW hO) (lw_V q740 q742 qs16 q68 q743) nd_X1_round ⟨Nat.le_of_ble_eq_true rfl, Nat.le_of_ble_eq_true rfl⟩ (HW.recv hK hW) rfl hl.1 rfl (Nat.le_of_ble_eq_true rfl) dX1_finds_50 ⟨Nat.le_of_ble_eq_true rfl, Nat.le_of_ble_eq_true rfl⟩ hS (fun _ h => h) (fun H locs hW hS hz hk => ?_)
          refine sm_topi (v := 1) (b2i_t hch) ?_
          have hu3 : rdU r u1 3 0 = nI n := hu3
          refine lv_istore_n (lv' := [(1, .int 1), (0, .ref (ah 0))]) hx hb dX1_finds_53 rfl hl (by decide) rfl (fun ls hl => ?_)
          refine lv_aload_n hx hb dX1_finds_54 rfl (lv_at hl 1 rfl) ?_
          refine lv_dup hx hb dX1_finds_55 rfl ?_
          refine h_get hc hW 8 (by decide) rfl q136 rfl rfl dX1_finds_56 ?_
          refine sm_topi (v := nI n) (hu3) ?_
          refine lv_iload_n hx hb dX1_finds_59 rfl (lv_at hl 0 rfl) ?_
          refine lv_if_eq (tgt := 67) hx hb dX1_finds_60 (by decide) (fun h => absurd h (by decide)) (fun _ => ?_)
          refine lv_iconst (v := 1) hx hb dX1_finds_63 (by decide) ?_
          refine lv_goto (tgt := 68) hx hb dX1_finds_64 (by decide) ?_
          refine lv_iadd hx hb dX1_finds_68 (sm_topi (v := nI (n + 1)) (nI_add _ _) ?_)
          refine h_put (r' := r) (u' := up2 (rdU r u1) 3 0 (nI (n + 1))) hc hW hS 8 (by decide) rfl q136 rfl rfl rfl rfl rfl rfl (fun _ _ => rfl) (up2_ne (by decide)) (up2_ne (by decide)) dX1_finds_69 (fun H locs hW hS hz oq => ?_)
          refine lv_goto (tgt := 36) hx hb dX1_finds_72 (by decide) ?_
          refine ih (n + 1) _ _ _ _ _ ⟨rfl, rfl, ⟨ls, rfl, lv_sub hl [0, 1] rfl⟩, hS, hn60, by rw [show 60 - (n + 1) = k by omega]; exact hrd, _, hW, ?_, ?_⟩ (by omega)
          · show roundP r (u1 1) = prN r (n + 1)
            rw [hu1]; rfl
          · rfl
        · rw [if_neg hch] at hrd
          refine lv_aload_n hx hb dX1_finds_49 rfl (lv_at hl 1 rfl) ?_
          refine cv_W1 (rest := []) hc (D_round l hF hW hO) (lw_V q740 q742 qs16 q68 q743) nd_X1_round ⟨Nat.le_of_ble_eq_true rfl, Nat.le_of_ble_eq_true rfl⟩ (HW.recv hK hW) rfl hl.1 rfl (Nat.le_of_ble_eq_true rfl) dX1_finds_50 ⟨Nat.le_of_ble_eq_true rfl, Nat.le_of_ble_eq_true rfl⟩ hS (fun _ h => h) (fun H locs hW hS hz hk => ?_)
          refine sm_topi (v := 0) (b2i_f hch) ?_
          have hu3 : rdU r u1 3 0 = nI n := hu3
          have hrs : rdU r u1 1 = prP r := by
            show roundP r (u1 1) = prN r (rdP r)
            rw [roundP_same (by simpa using hch), ← hrd, hu1]
          refine lv_istore_n (lv' := [(1, .int 0), (0, .ref (ah 0))]) hx hb dX1_finds_53 rfl hl (by decide) rfl (fun ls hl => ?_)
          refine lv_aload_n hx hb dX1_finds_54 rfl (lv_at hl 1 rfl) ?_
          refine lv_dup hx hb dX1_finds_55 rfl ?_
          refine h_get hc hW 8 (by decide) rfl q136 rfl rfl dX1_finds_56 ?_
          refine sm_topi (v := nI n) (hu3) ?_
          refine lv_iload_n hx hb dX1_finds_59 rfl (lv_at hl 0 rfl) ?_
          refine lv_if_eq (tgt := 67) hx hb dX1_finds_60 (by decide) (fun _ => ?_) (fun h => absurd (by decide) h)
          refine lv_iconst (v := 0) hx hb dX1_finds_67 (by decide) ?_
          refine lv_iadd hx hb dX1_finds_68 (sm_topi (v := nI (n + 0)) (nI_add _ _) ?_)
          refine h_put (r' := r) (u' := up2 (rdU r u1) 3 0 (nI (n + 0))) hc hW hS 8 (by decide) rfl q136 rfl rfl rfl rfl rfl rfl (fun _ _ => rfl) (up2_ne (by decide)) (up2_ne (by decide)) dX1_finds_69 (fun H locs hW hS hz oq => ?_)
          refine lv_goto (tgt := 36) hx hb dX1_finds_72 (by decide) ?_
          refine lv_iload_n hx hb dX1_finds_36 rfl (lv_at hl 0 rfl) ?_
          refine lv_if_eq (tgt := 75) hx hb dX1_finds_37 (by decide) (fun _ => ?_) (fun h => absurd (by decide) h)
          refine lv_aload_n hx hb dX1_finds_75 rfl (lv_at hl 1 rfl) ?_
          refine lv_iload_n hx hb dX1_finds_76 rfl (lv_at hl 0 rfl) ?_
          refine h_put (r' := r) (u' := up2 (up2 (rdU r u1) 3 0 (nI (n + 0))) 4 0 0) hc hW hS 9 (by decide) rfl q137 rfl rfl rfl rfl rfl rfl (fun _ _ => rfl) (up2_ne (by decide)) (up2_ne (by decide)) dX1_finds_77 (fun H locs hW hS hz oq => ?_)
          refine lv_aload_n hx hb dX1_finds_80 rfl (lv_at hl 1 rfl) ?_
          refine lv_iconst (v := 1) hx hb dX1_finds_81 (by decide) ?_
          refine h_put (r' := r) (u' := up2 (up2 (up2 (rdU r u1) 3 0 (nI (n + 0))) 4 0 0) 0 0 1) hc hW hS 5 (by decide) rfl q133 rfl rfl rfl rfl rfl rfl (fun _ _ => rfl) (up2_ne (by decide)) (up2_ne (by decide)) dX1_finds_82 (fun H locs hW hS hz oq => ?_)
          refine rv_W hx hb hr hlk hS ⟨_, ?_, ⟨Or.inr ?_, fun _ => ⟨fun j _ => ?_, ?_, ?_⟩⟩, hW⟩ dX1_finds_85
          · rfl
          · rfl
          · exact congrFun hrs j
          · rw [← hrd]; rfl
          · exact (b2i_f (by rw [← hrd]; omega)).symm
      · have hiE : n = 60 := by omega
        have hrs : u1 1 = prP r := by
          rw [hu1, hiE]
          rw [hiE] at hrd
          show prN r 60 = prN r (rdP r)
          rw [← hrd]; rfl
        have hrd2 : rdP r = 60 := by rw [hiE] at hrd; rw [← hrd]; rfl
        refine lv_iload_n hx hb dX1_finds_36 rfl (lv_at hl 0 rfl) ?_
        refine lv_if_eq (tgt := 75) hx hb dX1_finds_37 (by decide) (fun h => absurd h (by decide)) (fun _ => ?_)
        refine lv_aload_n hx hb dX1_finds_40 rfl (lv_at hl 1 rfl) ?_
        refine h_get hc hW 8 (by decide) rfl q136 rfl rfl dX1_finds_41 ?_
        refine sm_topi (v := nI n) (hu3) ?_
        refine lv_bipush (v := 60) hx hb dX1_finds_44 (by decide) ?_
        refine lv_icmp_ge (tgt := 75) hx hb dX1_finds_46 (by decide) (fun _ => ?_) (fun h => absurd (nI_le (a := 60) (by omega) (by omega)) h)
        refine lv_aload_n hx hb dX1_finds_75 rfl (lv_at hl 1 rfl) ?_
        refine lv_iload_n hx hb dX1_finds_76 rfl (lv_at hl 0 rfl) ?_
        refine h_put (r' := r) (u' := up2 u1 4 0 1) hc hW hS 9 (by decide) rfl q137 rfl rfl rfl rfl rfl rfl (fun _ _ => rfl) (up2_ne (by decide)) (up2_ne (by decide)) dX1_finds_77 (fun H locs hW hS hz oq => ?_)
        refine lv_aload_n hx hb dX1_finds_80 rfl (lv_at hl 1 rfl) ?_
        refine lv_iconst (v := 1) hx hb dX1_finds_81 (by decide) ?_
        refine h_put (r' := r) (u' := up2 (up2 u1 4 0 1) 0 0 1) hc hW hS 5 (by decide) rfl q133 rfl rfl rfl rfl rfl rfl (fun _ _ => rfl) (up2_ne (by decide)) (up2_ne (by decide)) dX1_finds_82 (fun H locs hW hS hz oq => ?_)
        refine rv_W hx hb hr hlk hS ⟨_, ?_, ⟨Or.inr ?_, fun _ => ⟨fun j _ => ?_, ?_, ?_⟩⟩, hW⟩ dX1_finds_85
        · rfl
        · rfl
        · exact congrFun hrs j
        · rw [hrd2, ← hiE]; exact hu3
        · exact (b2i_t hrd2).symm
  · exact rv_W hx hb hr hlk hS ⟨u, (by rcases hcok.1 with h | h; exact absurd h c_416; exact h), hcok, hW⟩ dX1_finds_7
