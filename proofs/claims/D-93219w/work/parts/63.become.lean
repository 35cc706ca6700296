/-! a house becomes like another one -/
set_option maxRecDepth 100000
/-- rooms, gaps and the first i gaps are the other's -/
def bcR (r ro : Nat → Int32) (i : Nat) : Nat → Int32 := fun j => if j = 0 ∨ j = 1 ∨ (9 ≤ j ∧ j < 9 + 8 * i) then ro j else r j
def ntR (r ro : Nat → Int32) : Nat → Int32 := fun j => if 2 ≤ j ∧ j < 8 then ro j else r j
section HNC
variable {p : Program} {l : Launch} {e : Env} {R : Room} {s : State} {m : MethodId} {args : Array Value} {below : List Frame} {meth : Method} {c : Code} {H H0 : Heap} {locs : List Loc} {cells slots : Nat} {Q : State → Prop}
variable {pc : Nat} {ls : Array Slot} {rest : List Value} {A : Nat → Prop} {G : GD} {cc : ByteArray} {nL index : Nat} {own : String} {N nb : Nat} {r ro : Nat → Int32} {u : Nat → Nat → Int32} {hv : Nat → Value} {ah ga : Nat → Nat}
theorem h_ncopy (hc : Cx G p s m args c cc nL own) (hW : HW G A N r u hv ah ga H) (hNo : NtA G ro nb H) (hS : va_S A H0 H locs) (hlink : Cond.methodLink own index arraycopyName ∈ lw_all) (hsz : ls.size = nL) (hR : 1 ≤ R.frames ∧ (rest.map fun v => v.category).sum + (nativeFrameWords "java/lang/System" "arraycopy" 5 + 11) ≤ R.locals) (hdg : decode cc pc = .ok (.invokestatic index, 3))
    (kk : ∀ (H1 : Heap) (locs1 : List Loc), HW G A N (ntR r ro) u hv ah ga H1 → va_S A H0 H1 locs1 → H1.size = H.size → (∀ q : Nat, q ≠ ah 2 → H1[q]? = H[q]?) → W p l e R s m args below meth c H1 locs1 cells slots Q (F0 m (pc + 3) ls rest)) : W p l e R s m args below meth c H locs cells slots Q (F0 m pc ls (.int 6 :: .int 0 :: .ref (ah 2) :: .int 0 :: .ref nb :: rest)) := by
  obtain ⟨hx, hb, hml, hown, hts, hK⟩ := hc
  refine s_copyi hx hb (by rw [hml]; exact hsz.symm) hown (hts _ hlink) (hts _ q575) (hts _ q574) (hts _ q80) hK.1 0 0 hNo hW.nt rfl rfl rfl (by decide) (by decide) (by decide) (by decide) (by decide) (fun i hi => rfl) hR.1 hR.2 hdg fun H1 L e1 z oq hL => ?_
  have hW1 : Wd G A (fun q => if q = 2 then some (.inl (G.2.1 0, 6, .inl (va_cpy (fun j => ro (2 + j)) (fun j => r (2 + j)) (0 : Int32).toNatClampNeg (0 : Int32).toNatClampNeg (6 : Int32).toNatClampNeg))) else hEnc G N r u hv ah ga q) (hAd ah ga) H1 := hW.wr (r0 := 2) rfl (if_pos rfl) (fun q hq => if_neg hq) e1 oq
  refine kk H1 _ (hW1.conv fun q e' he => ?_) (hS.putL z oq (hW.mem (r := 2) rfl) hL) z oq
  have hnr : ∀ j, ¬ (2 ≤ j ∧ j < 8) → ntR r ro j = r j := fun j hj => if_neg hj
  by_cases hq : q = 2
  · subst hq
    cases he
    refine ⟨_, if_pos rfl, at_ext fun j hj => ?_⟩
    show ntR r ro (2 + j) = va_cpy (fun j => ro (2 + j)) (fun j => r (2 + j)) 0 0 6 j
    have h1 : ntR r ro (2 + j) = ro (2 + j) := if_pos (by omega)
    rw [h1]
    simp [va_cpy, hj]
  · by_cases h0 : q = 0
    · subst h0
      cases he
      refine ⟨_, if_neg hq, fun K h => ?_⟩
      unfold hFs at h ⊢
      rw [hnr 0 (by omega), hnr 1 (by omega), hnr 8 (by omega)]
      exact h
    · have hg : gfs (ntR r ro) (q - 40) = gfs r (q - 40) ∧ gkP (ntR r ro) (q - 40) = gkP r (q - 40) := gfs_ext fun w hw => hnr _ (by show ¬ (2 ≤ 9 + 8 * (q - 40) + w ∧ 9 + 8 * (q - 40) + w < 8); omega)
      refine ⟨e', (if_neg hq).trans ?_, fun K h => h⟩
      rw [← he]
      unfold hEnc
      rw [hg.1, hg.2]
      simp only [if_neg hq, if_neg h0]
end HNC
theorem nd_X1_become : yX1_become.cls = "SmokeLeans$House" ∧ yX1_become.cls ≠ "java/lang/invoke/MethodHandle" ∧ yX1_become.cls ≠ "java/lang/invoke/VarHandle" ∧ (parseMethodDescriptor yX1_become.desc).map (fun d => d.parameters.length) = some 1 := by decide +kernel
set_option maxHeartbeats 4000000 in
theorem D_become (l : Launch) {G : GD} {A B : Nat → Prop} {N No Ro : Nat} {r ro : Nat → Int32} {u uo : Nat → Nat → Int32} {hv hvo : Nat → Value} {ah ga ao go : Nat → Nat} {H0 : Heap} (hF : FG G) (hNG : NG G) (hW : HW G A N r u hv ah ga H0) (hWo0 : HW G B No ro uo hvo ao go H0) (hO : OkN ro Ro No) (hA : ∀ q, H0.size ≤ q → A q) (hd : ∀ q, hEnc G No ro uo hvo ao go q ≠ none → ¬ A (hAd ao go q)) : MetW l G yX1_become cX1_become 3 none 6 20 140 A [.ref (ah 0), .ref (ao 0)] H0 none (fun H => ∃ ga2, HS G A No ro ah ga2 H) := by
  refine mx_of (by decide) (Nat.le_of_ble_eq_true rfl) ?_
  intro p e s m below meth c hx hb hr hc hlk hnm hs0 ls hl
  subst hs0
  have hown := hc.2.2.2.1
  have hts := hc.2.2.2.2.1
  have hK := hc.2.2.2.2.2
  have hl : lv_has ls 3 [(0, .ref (ah 0)), (1, .ref (ao 0))] := hl
  have hS : va_S A s.heap s.heap [] := va_S.rf
  have hN20 := hO.2.1
  have hg : G.2.2.heap.size ≤ s.heap.size := by have h1 := hW.1 _ (hW.mem (r := 0) rfl); have h2 := hW.lt (r := 0) (fun z => by cases z); omega
  have hW := hW.drop
  refine lv_aload_n hx hb dX1_become_0 rfl (lv_at hl 0 rfl) ?_
  refine lv_aload_n hx hb dX1_become_1 rfl (lv_at hl 1 rfl) ?_
  have hWo : HW G B No ro uo hvo ao go _ := hWo0.side hS hW.1 hg hd
  refine h_get hc hWo 0 (by decide) rfl q119 rfl rfl dX1_become_2 ?_
  refine sm_topi (v := nI Ro) hO.2.2.1 ?_
  refine h_put (r' := upd r 0 (nI Ro)) (u' := u) hc hW hS 0 (by decide) rfl q119 rfl rfl rfl rfl rfl rfl (fun j hj => if_neg (by omega)) rfl rfl dX1_become_5 (fun H locs hW hS hz oq => ?_)
  refine lv_aload_n hx hb dX1_become_8 rfl (lv_at hl 0 rfl) ?_
  refine lv_aload_n hx hb dX1_become_9 rfl (lv_at hl 1 rfl) ?_
  have hWo : HW G B No ro uo hvo ao go _ := hWo0.side hS hW.1 hg hd
  refine h_get hc hWo 1 (by decide) rfl q122 rfl rfl dX1_become_10 ?_
  refine sm_topi (v := nI No) hO.2.2.2.1 ?_
  refine h_put (r' := upd (upd r 0 (nI Ro)) 1 (nI No)) (u' := u) hc hW hS 1 (by decide) rfl q122 rfl rfl rfl rfl rfl rfl (fun j hj => if_neg (by omega)) rfl rfl dX1_become_13 (fun H locs hW hS hz oq => ?_)
  refine lv_iconst (v := 0) hx hb dX1_become_16 (by decide) ?_
  refine lv_istore_n (lv' := [(2, .int 0), (0, .ref (ah 0)), (1, .ref (ao 0))]) hx hb dX1_become_17 rfl hl (by decide) rfl (fun ls hl => ?_)
  have hW := hW.cv (r' := bcR r ro 0) (u' := u) (hv' := fun i => if i < N then .ref (ga i) else hv i) (by show ro 0 = upd (upd r 0 (nI Ro)) 1 (nI No) 0; rw [hO.2.2.1]; rfl) (by show ro 1 = upd (upd r 0 (nI Ro)) 1 (nI No) 1; rw [hO.2.2.2.1]; rfl) rfl (fun j hj => by show (if j = 0 ∨ j = 1 ∨ (9 ≤ j ∧ j < 9 + 8 * 0) then ro j else r j) = upd (upd r 0 (nI Ro)) 1 (nI No) j; rw [if_neg (by omega)]; unfold upd; rw [if_neg (by omega), if_neg (by omega)]) rfl rfl rfl (fun _ _ => rfl) (fun _ _ => rfl) (fun _ _ => rfl)
  refine w_loopH (σ := Nat) (fun i H locs cells slots fr => cells = 1 * i ∧ slots = 7 * i ∧ (∃ ls, fr = F0 m 18 ls [] ∧ lv_has ls 3 [(2, .int (nI i)), (0, .ref (ah 0)), (1, .ref (ao 0))]) ∧ va_S A s.heap H locs ∧ (i ≤ No ∧ ∃ gb, HW G A i (bcR r ro i) u (fun i => if i < N then .ref (ga i) else hv i) ah gb H)) (fun i => No - i) 0 ⟨rfl, rfl, ⟨ls, rfl, lv_sub hl [0, 1, 2] rfl⟩, hS, ⟨Nat.zero_le _, ga, hW⟩⟩ ?_
  intro i H locs cells slots fr hI ih
  obtain ⟨rfl, rfl, ⟨ls, rfl, hl⟩, hS, ⟨hiN, gb, hW⟩⟩ := hI
  have hb1 : bcR r ro i 1 = nI No := by rw [← hO.2.2.2.1]; exact if_pos (Or.inr (Or.inl rfl))
  by_cases hi : i < No
  · refine lv_iload_n hx hb dX1_become_18 rfl (lv_at hl 0 rfl) ?_
    refine lv_aload_n hx hb dX1_become_19 rfl (lv_at hl 1 rfl) ?_
    refine h_get hc hW 1 (by decide) rfl q122 rfl rfl dX1_become_20 ?_
    refine sm_topi (v := nI No) (hb1) ?_
    refine lv_icmp_ge (tgt := 49) hx hb dX1_become_23 (by decide) (fun h => absurd h (nI_ge hi (by omega))) (fun _ => ?_)
    refine lv_aload_n hx hb dX1_become_26 rfl (lv_at hl 1 rfl) ?_
    refine h_get hc hW 2 (by decide) rfl q125 rfl rfl dX1_become_27 ?_
    refine lv_iload_n hx hb dX1_become_30 rfl (lv_at hl 0 rfl) ?_
    refine h_sld hc hW (ix_nI (by omega) (by decide)) dX1_become_31 ?_
    refine lv_aload_n hx hb dX1_become_32 rfl (lv_at hl 2 rfl) ?_
    refine lv_iload_n hx hb dX1_become_33 rfl (lv_at hl 0 rfl) ?_
    have hWo : HW G B No ro uo hvo ao go _ := hWo0.side hS hW.1 hg hd
    refine cv_R1 (rest := [.ref (ah (10 + i))]) hc (D_hgap l hF hWo hO i hi) (lw_V q466 q429 q430 q68 q431) nd_X1_gap ⟨Nat.le_of_ble_eq_true rfl, Nat.le_of_ble_eq_true rfl⟩ (HW.recv hK hWo) rfl hl.1 rfl (Nat.le_of_ble_eq_true rfl) dX1_become_34 ⟨by show 1 * i ≤ 20; omega, by show 7 * i ≤ 140; omega⟩ ?_
    have hS0 := hS
    have hWl := hW
    refine cn_W1 (rest := [.ref (ah (10 + i))]) hc (D_copyOf l (hO.gap hi).kd.1 (hWo.gp hi) (hO.gap hi).2.2.2.2.2.2.2.2) hNG.2.2.2.1 q571 q67 q572 nd_X0_copyOf ⟨Nat.le_of_ble_eq_true rfl, Nat.le_of_ble_eq_true rfl⟩ rfl hl.1 rfl (Nat.le_of_ble_eq_true rfl) dX1_become_37 ⟨by show 1 * i + 1 ≤ 20; omega, by show 7 * i + 7 ≤ 140; omega⟩ hS (fun q h => hA q (Nat.le_trans hS.1 h)) (fun H locs hq hS hz hk => ?_)
    have hW := hW.kept (fun q hq => hk q (by have := hS0.1; omega) (fun h => by have := hS0.1; have : _ ≤ q := h; omega)) (fun q hq => hk _ (hW.lt hq) (fun h => by have := hW.lt hq; have h2 : _ ≤ hAd ah gb q := h; omega))
    have hbr : ∀ w, w < 8 → bcR r ro (i + 1) (gp i w) = ro (gp i w) := fun w hw => if_pos (Or.inr (Or.inr (by show 9 ≤ 9 + 8 * i + w ∧ 9 + 8 * i + w < _; omega)))
    have hbg := gfs_ext (r := ro) (r' := bcR r ro (i + 1)) (i := i) hbr
    refine h_hold (r' := bcR r ro (i + 1)) (rest := []) hc hW hS (by omega) (by rw [hbg.1, hbg.2]; exact hq.1) (hA _ hS0.1) (fun q hq => by have := hWl.lt hq; omega) rfl rfl ?_ ?_ rfl q113 dX1_become_40 (fun H locs hW hS hz oq => ?_)
    · show (if _ then _ else _) = (if _ then _ else _); rw [if_neg (by omega), if_neg (by omega)]
    · intro j hj
      unfold bcR
      by_cases h1 : 9 ≤ j ∧ j < 9 + 8 * i
      · rw [if_pos (by omega), if_pos (by omega)]
      · rw [if_neg (by omega), if_neg (by omega)]
    refine lv_iinc (v := nI (i + 1)) (lv' := [(2, .int (nI (i + 1))), (0, .ref (ah 0)), (1, .ref (ao 0))]) hx hb dX1_become_43 hl (k := 0) rfl (nI_1 _) (by decide) rfl (fun ls hl => ?_)
    refine lv_goto (tgt := 18) hx hb dX1_become_46 (by decide) ?_
    exact ih (i + 1) _ _ _ _ _ ⟨by omega, by omega, ⟨ls, rfl, lv_sub hl [0, 1, 2] rfl⟩, hS, hi, _, hW⟩ (by omega)
  · have hiE : No = i := by omega
    subst hiE
    refine lv_iload_n hx hb dX1_become_18 rfl (lv_at hl 0 rfl) ?_
    refine lv_aload_n hx hb dX1_become_19 rfl (lv_at hl 1 rfl) ?_
    refine h_get hc hW 1 (by decide) rfl q122 rfl rfl dX1_become_20 ?_
    refine sm_topi (v := nI No) (hb1) ?_
    refine lv_icmp_ge (tgt := 49) hx hb dX1_become_23 (by decide) (fun _ => ?_) (fun h => absurd (nI_le (by omega) (by omega)) h)
    refine lv_aload_n hx hb dX1_become_49 rfl (lv_at hl 2 rfl) ?_
    have hWo : HW G B No ro uo hvo ao go _ := hWo0.side hS hW.1 hg hd
    refine h_get hc hWo 3 (by decide) rfl q128 rfl rfl dX1_become_50 ?_
    refine lv_iconst (v := 0) hx hb dX1_become_53 (by decide) ?_
    refine lv_aload_n hx hb dX1_become_54 rfl (lv_at hl 1 rfl) ?_
    refine h_get hc hW 3 (by decide) rfl q128 rfl rfl dX1_become_55 ?_
    refine lv_iconst (v := 0) hx hb dX1_become_58 (by decide) ?_
    refine lv_aload_n hx hb dX1_become_59 rfl (lv_at hl 1 rfl) ?_
    refine h_get hc hW 3 (by decide) rfl q128 rfl rfl dX1_become_60 ?_
    refine va_alen (v := 6) hx hb hK.1 (P1 hW.nt) 0 0 rfl rfl rfl dX1_become_63 ?_
    have hWo : HW G B No ro uo hvo ao go _ := hWo0.side hS hW.1 hg hd
    refine h_ncopy (rest := []) hc hW hWo.nt hS q573 hl.1 ⟨Nat.le_of_ble_eq_true rfl, Nat.le_of_ble_eq_true rfl⟩ dX1_become_64 (fun H locs hW hS hz oq => ?_)
    refine lv_aload_n hx hb dX1_become_67 rfl (lv_at hl 1 rfl) ?_
    refine lv_aload_n hx hb dX1_become_68 rfl (lv_at hl 2 rfl) ?_
    have hWo : HW G B No ro uo hvo ao go _ := hWo0.side hS hW.1 hg hd
    refine h_get hc hWo 4 (by decide) rfl q131 rfl rfl dX1_become_69 ?_
    refine h_put (r' := upd (ntR (bcR r ro No) ro) 8 (ro 8)) (u' := u) hc hW hS 4 (by decide) rfl q131 rfl rfl rfl rfl rfl rfl (fun j hj => if_neg (by omega)) rfl rfl dX1_become_72 (fun H locs hW hS hz oq => ?_)
    refine lv_aload_n hx hb dX1_become_75 rfl (lv_at hl 1 rfl) ?_
    have hW : HW G A No ro u (fun i => if i < N then .ref (ga i) else hv i) ah gb H := by
      refine hW.cv ?_ ?_ rfl ?_ rfl rfl rfl (fun _ _ => rfl) (fun _ _ => rfl) (fun _ _ => rfl)
      · show ro 0 = bcR r ro No 0; exact (if_pos (Or.inl rfl)).symm
      · show ro 1 = bcR r ro No 1; exact (if_pos (Or.inr (Or.inl rfl))).symm
      · intro j hj
        show ro j = upd (ntR (bcR r ro No) ro) 8 (ro 8) j
        unfold upd ntR bcR
        rw [if_neg (by omega)]
        by_cases h1 : 2 ≤ j ∧ j < 8
        · rw [if_pos h1]
        · rw [if_neg h1, if_pos (by omega)]
    refine cv_W0 (rest := []) hc (D_changes l hF hW hO) (lw_V q522 q274 q275 q68 q276) nd_X1_changes ⟨Nat.le_of_ble_eq_true rfl, Nat.le_of_ble_eq_true rfl⟩ (HW.recv hK hW) rfl hl.1 rfl (Nat.le_of_ble_eq_true rfl) dX1_become_76 ⟨by show 1 * No ≤ 20; omega, by show 7 * No ≤ 140; omega⟩ hS (fun _ h => h) (fun H locs hW hS hz hk => ?_)
    have hH := HS.ch hW
    refine w_more (cells' := 20) (slots' := 140) (by show 1 * No ≤ 20; omega) (by show 7 * No ≤ 140; omega) ?_
    exact rv_W hx hb hr hlk hS ⟨gb, hH⟩ dX1_become_79
