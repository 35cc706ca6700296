/-! gaps: what pushes -/
set_option maxRecDepth 100000
abbrev yWnd : MethodName := ⟨"SmokeLeans$Gap", "wind", "(III)I"⟩
/-- the law's start says where calls of wind land -/
def WG (G : GD) : Prop := (∃ a, (Cond.methodLink "SmokeLeans$Gap" 38 yWnd).before a G.2.2 = true) ∧ (∃ a, (Cond.sameMethod "SmokeLeans$Gap" "SmokeLeans$Pushed" "wind" "(III)I").before a G.2.2 = true) ∧ LandF RX5 yX13_wind G.2.2 ∧ LandF RX6 yX13_wind G.2.2 ∧ LandF RX7 yX13_wind G.2.2 ∧ LandF RX8 yX13_wind G.2.2 ∧ LandF RX9 yX13_wind G.2.2 ∧ LandF RX10 yX13_wind G.2.2
def wdC (w f s : Int32) : Int32 := if f = s then w else if remP (f + 2) 4 = s then -(w / 2) else -(w / 4)
theorem nd_X13_wind : yX13_wind.cls = "SmokeLeans$Pushed" ∧ yX13_wind.cls ≠ "java/lang/invoke/MethodHandle" ∧ yX13_wind.cls ≠ "java/lang/invoke/VarHandle" ∧ (parseMethodDescriptor yX13_wind.desc).map (fun d => d.parameters.length) = some 3 := by decide +kernel
set_option maxHeartbeats 4000000 in
theorem D_wind (l : Launch) {G : GD} {H0 : Heap} (b : Nat) (w f t : Int32) : MetR l G yX13_wind cX13_wind 4 (some .int) 0 [.ref b, .int w, .int f, .int t] H0 (some (.int (wdC w f t))) := by
  refine mx_of (by decide) (Nat.le_of_ble_eq_true rfl) ?_
  intro p e s m below meth c hx hb hr hc hlk hnm hs0 ls hl
  subst hs0
  have hown := hc.2.2.2.1
  have hts := hc.2.2.2.2.1
  have hK := hc.2.2.2.2.2
  have hl : lv_has ls 4 [(0, .ref b), (1, .int w), (2, .int f), (3, .int t)] := hl
  refine lv_iload_n hx hb dX13_wind_0 rfl (lv_at hl 2 rfl) ?_
  refine lv_iload_n hx hb dX13_wind_1 rfl (lv_at hl 3 rfl) ?_
  refine lv_icmp_ne (tgt := 9) hx hb dX13_wind_2 (by decide) (fun c_407 => ?_) (fun c_407 => ?_)
  · refine lv_iload_n hx hb dX13_wind_9 rfl (lv_at hl 2 rfl) ?_
    refine lv_iconst (v := 2) hx hb dX13_wind_10 (by decide) ?_
    refine lv_iadd hx hb dX13_wind_11 ?_
    refine lv_iconst (v := 4) hx hb dX13_wind_12 (by decide) ?_
    refine lv_irem hx hb dX13_wind_13 (by decide) (sm_topi (v := remP (f + 2) 4) rfl ?_)
    refine lv_iload_n hx hb dX13_wind_14 rfl (lv_at hl 3 rfl) ?_
    refine lv_icmp_ne (tgt := 25) hx hb dX13_wind_15 (by decide) (fun c_408 => ?_) (fun c_408 => ?_)
    · refine lv_iload_n hx hb dX13_wind_25 rfl (lv_at hl 1 rfl) ?_
      refine lv_iconst (v := 4) hx hb dX13_wind_26 (by decide) ?_
      refine lv_idiv hx hb dX13_wind_27 (by decide) ?_
      refine lv_ineg hx hb dX13_wind_28 ?_
      exact ri_R hx hb hr hlk (by simp only [wdC, if_neg c_407, if_neg c_408]) dX13_wind_29
    · refine lv_iload_n hx hb dX13_wind_18 rfl (lv_at hl 1 rfl) ?_
      refine lv_iconst (v := 2) hx hb dX13_wind_19 (by decide) ?_
      refine lv_idiv hx hb dX13_wind_20 (by decide) ?_
      refine lv_ineg hx hb dX13_wind_21 ?_
      refine lv_goto (tgt := 29) hx hb dX13_wind_22 (by decide) ?_
      exact ri_R hx hb hr hlk (by simp only [wdC, if_neg c_407, if_pos c_408]) dX13_wind_29
  · refine lv_iload_n hx hb dX13_wind_5 rfl (lv_at hl 1 rfl) ?_
    refine lv_goto (tgt := 29) hx hb dX13_wind_6 (by decide) ?_
    exact ri_R hx hb hr hlk (by simp only [wdC, if_pos c_407]) dX13_wind_29
