/-! sheets: what is asked of one -/
set_option maxRecDepth 100000
theorem nd_X0_length : yX0_length.cls ≠ "java/lang/invoke/MethodHandle" ∧ yX0_length.cls ≠ "java/lang/invoke/VarHandle" ∧ (parseMethodDescriptor yX0_length.desc).map (fun d => d.parameters.length) = some 1 := by decide +kernel
set_option maxHeartbeats 4000000 in
theorem D_length_8 (l : Launch) {G : GD} {H0 : Heap} (hI : IG G) {n a : Nat} {v : Nat → Int64} (hsh : ShA G 8 n v a H0)  : MetR l G yX0_length cX0_length 1 (some .int) 0 [.ref a] H0 (some (.int (nI n))) := by
  refine mx_of (by decide) (Nat.le_of_ble_eq_true rfl) ?_
  intro p e s m below meth c hx hb hr hc hlk hnm hs0 ls hl
  subst hs0
  have hown := hc.2.2.2.1
  have hts := hc.2.2.2.2.1
  have hK := hc.2.2.2.2.2
  have hl : lv_has ls 1 [(0, .ref a)] := hl
  refine lv_aload_n hx hb dX0_length_0 rfl (lv_at hl 0 rfl) ?_
  refine va_instE hx hb hown (hts _ q846) (ar_cell hsh.b (nm_B hK)) dX0_length_1 ?_
  refine lv_if_eq (tgt := 13) hx hb dX0_length_4 (by decide) (fun h => absurd h (by decide)) (fun _ => ?_)
  refine lv_aload_n hx hb dX0_length_7 rfl (lv_at hl 0 rfl) ?_
  refine va_castE hx hb hown (hts _ q846) (ar_cell hsh.b (nm_B hK)) dX0_length_8 ?_
  refine va_alen (v := nI n) hx hb hK.1 (P1 hsh.b) 0 1 rfl rfl rfl dX0_length_11 ?_
  exact ri_R hx hb hr hlk (rfl) dX0_length_12
theorem nd_X0_wide : yX0_wide.cls ≠ "java/lang/invoke/MethodHandle" ∧ yX0_wide.cls ≠ "java/lang/invoke/VarHandle" ∧ (parseMethodDescriptor yX0_wide.desc).map (fun d => d.parameters.length) = some 1 := by decide +kernel
set_option maxHeartbeats 4000000 in
theorem D_wide_8 (l : Launch) {G : GD} {H0 : Heap} (hI : IG G) {n a : Nat} {v : Nat → Int64} (hsh : ShA G 8 n v a H0)  : MetR l G yX0_wide cX0_wide 1 (some .int) 0 [.ref a] H0 (some (.int 8)) := by
  refine mx_of (by decide) (Nat.le_of_ble_eq_true rfl) ?_
  intro p e s m below meth c hx hb hr hc hlk hnm hs0 ls hl
  subst hs0
  have hown := hc.2.2.2.1
  have hts := hc.2.2.2.2.1
  have hK := hc.2.2.2.2.2
  have hl : lv_has ls 1 [(0, .ref a)] := hl
  refine lv_aload_n hx hb dX0_wide_0 rfl (lv_at hl 0 rfl) ?_
  refine va_instE hx hb hown (hts _ q846) (ar_cell hsh.b (nm_B hK)) dX0_wide_1 ?_
  refine lv_if_eq (tgt := 12) hx hb dX0_wide_4 (by decide) (fun h => absurd h (by decide)) (fun _ => ?_)
  refine lv_bipush (v := 8) hx hb dX0_wide_7 (by decide) ?_
  refine lv_goto (tgt := 26) hx hb dX0_wide_9 (by decide) ?_
  exact ri_R hx hb hr hlk (rfl) dX0_wide_26
theorem nd_X0_get : yX0_get.cls ≠ "java/lang/invoke/MethodHandle" ∧ yX0_get.cls ≠ "java/lang/invoke/VarHandle" ∧ (parseMethodDescriptor yX0_get.desc).map (fun d => d.parameters.length) = some 2 := by decide +kernel
set_option maxHeartbeats 4000000 in
theorem D_get_8 (l : Launch) {G : GD} {H0 : Heap} (hI : IG G) {n a : Nat} {v : Nat → Int64} (hsh : ShA G 8 n v a H0) {x : Int32} {j : Nat} (hj : IdxOk x j n) (hn : narOk 8 (v j)) : MetR l G yX0_get cX0_get 2 (some .long) 0 [.ref a, .int x] H0 (some (.long (v j))) := by
  refine mx_of (by decide) (Nat.le_of_ble_eq_true rfl) ?_
  intro p e s m below meth c hx hb hr hc hlk hnm hs0 ls hl
  subst hs0
  have hown := hc.2.2.2.1
  have hts := hc.2.2.2.2.1
  have hK := hc.2.2.2.2.2
  have hl : lv_has ls 2 [(0, .ref a), (1, .int x)] := hl
  refine lv_aload_n hx hb dX0_get_0 rfl (lv_at hl 0 rfl) ?_
  refine va_instE hx hb hown (hts _ q846) (ar_cell hsh.b (nm_B hK)) dX0_get_1 ?_
  refine lv_if_eq (tgt := 15) hx hb dX0_get_4 (by decide) (fun h => absurd h (by decide)) (fun _ => ?_)
  refine lv_aload_n hx hb dX0_get_7 rfl (lv_at hl 0 rfl) ?_
  refine va_castE hx hb hown (hts _ q846) (ar_cell hsh.b (nm_B hK)) dX0_get_8 ?_
  refine lv_iload_n hx hb dX0_get_11 rfl (lv_at hl 1 rfl) ?_
  refine va_bald hx hb hK.1 (P1 hsh.b) 0 1 rfl rfl hj.1 dX0_get_12 ?_
  rw [hj.2]
  refine lv_i2l hx hb dX0_get_13 rfl ?_
  exact rl_R hx hb hr hlk (hn.resolve_left (by decide)) dX0_get_14
theorem nd_X0_put : yX0_put.cls ≠ "java/lang/invoke/MethodHandle" ∧ yX0_put.cls ≠ "java/lang/invoke/VarHandle" ∧ (parseMethodDescriptor yX0_put.desc).map (fun d => d.parameters.length) = some 3 := by decide +kernel
set_option maxHeartbeats 4000000 in
theorem D_put_8 (l : Launch) {G : GD} {H0 : Heap} (hI : IG G) {n a : Nat} {v : Nat → Int64} (hsh : ShA G 8 n v a H0) {x : Int32} {j : Nat} (hj : IdxOk x j n) (y : Int64) : MetW l G yX0_put cX0_put 4 none 0 0 0 (fun q => q = a) [.ref a, .int x, .long y] H0 none (fun H => ShA G 8 n (vp_updL v j (narP 8 y)) a H ∧ H.size = H0.size ∧ ∀ q : Nat, q ≠ a → H[q]? = H0[q]?) := by
  refine mx_of (by decide) (Nat.le_of_ble_eq_true rfl) ?_
  intro p e s m below meth c hx hb hr hc hlk hnm hs0 ls hl
  subst hs0
  have hown := hc.2.2.2.1
  have hts := hc.2.2.2.2.1
  have hK := hc.2.2.2.2.2
  have hl : lv_has ls 4 [(0, .ref a), (1, .int x), (2, .long y)] := hl
  have hS : va_S (fun q => q = a) s.heap s.heap [] := va_S.rf
  refine lv_aload_n hx hb dX0_put_0 rfl (lv_at hl 0 rfl) ?_
  refine va_instE hx hb hown (hts _ q846) (ar_cell hsh.b (nm_B hK)) dX0_put_1 ?_
  refine lv_if_eq (tgt := 19) hx hb dX0_put_4 (by decide) (fun h => absurd h (by decide)) (fun _ => ?_)
  refine lv_aload_n hx hb dX0_put_7 rfl (lv_at hl 0 rfl) ?_
  refine va_castE hx hb hown (hts _ q846) (ar_cell hsh.b (nm_B hK)) dX0_put_8 ?_
  refine lv_iload_n hx hb dX0_put_11 rfl (lv_at hl 1 rfl) ?_
  refine lv_lload_n hx hb dX0_put_12 rfl (lv_at hl 2 rfl) ?_
  refine lv_l2i hx hb dX0_put_13 rfl ?_
  refine lv_i2b hx hb dX0_put_14 rfl ?_
  refine s_bast hx hb hK.1 1 hsh.b rfl hj dX0_put_15 (fun H hq z oq => ?_)
  rw [upL_8] at hq
  have hS := hS.put (k := j) z oq rfl
  refine lv_goto (tgt := 45) hx hb dX0_put_16 (by decide) ?_
  exact rv_W hx hb hr hlk hS (⟨⟨_, shE_8, hq⟩, z, oq⟩) dX0_put_45
set_option maxHeartbeats 4000000 in
theorem D_length_16 (l : Launch) {G : GD} {H0 : Heap} (hI : IG G) {n a : Nat} {v : Nat → Int64} (hsh : ShA G 16 n v a H0)  : MetR l G yX0_length cX0_length 1 (some .int) 0 [.ref a] H0 (some (.int (nI n))) := by
  refine mx_of (by decide) (Nat.le_of_ble_eq_true rfl) ?_
  intro p e s m below meth c hx hb hr hc hlk hnm hs0 ls hl
  subst hs0
  have hown := hc.2.2.2.1
  have hts := hc.2.2.2.2.1
  have hK := hc.2.2.2.2.2
  have hl : lv_has ls 1 [(0, .ref a)] := hl
  refine lv_aload_n hx hb dX0_length_0 rfl (lv_at hl 0 rfl) ?_
  refine va_instNo hx hb hown (hts _ q846) (hI.1.moved hK.2.alike) (ar_cell hsh.s (nm_S hK)) dX0_length_1 ?_
  refine lv_if_eq (tgt := 13) hx hb dX0_length_4 (by decide) (fun _ => ?_) (fun h => absurd (by decide) h)
  refine lv_aload_n hx hb dX0_length_13 rfl (lv_at hl 0 rfl) ?_
  refine va_instE hx hb hown (hts _ q847) (ar_cell hsh.s (nm_S hK)) dX0_length_14 ?_
  refine lv_if_eq (tgt := 28) hx hb dX0_length_17 (by decide) (fun h => absurd h (by decide)) (fun _ => ?_)
  refine lv_aload_n hx hb dX0_length_20 rfl (lv_at hl 0 rfl) ?_
  refine va_castE hx hb hown (hts _ q847) (ar_cell hsh.s (nm_S hK)) dX0_length_21 ?_
  refine va_alen (v := nI n) hx hb hK.1 (P1 hsh.s) 0 3 rfl rfl rfl dX0_length_24 ?_
  refine lv_goto (tgt := 33) hx hb dX0_length_25 (by decide) ?_
  exact ri_R hx hb hr hlk (rfl) dX0_length_33
set_option maxHeartbeats 4000000 in
theorem D_wide_16 (l : Launch) {G : GD} {H0 : Heap} (hI : IG G) {n a : Nat} {v : Nat → Int64} (hsh : ShA G 16 n v a H0)  : MetR l G yX0_wide cX0_wide 1 (some .int) 0 [.ref a] H0 (some (.int 16)) := by
  refine mx_of (by decide) (Nat.le_of_ble_eq_true rfl) ?_
  intro p e s m below meth c hx hb hr hc hlk hnm hs0 ls hl
  subst hs0
  have hown := hc.2.2.2.1
  have hts := hc.2.2.2.2.1
  have hK := hc.2.2.2.2.2
  have hl : lv_has ls 1 [(0, .ref a)] := hl
  refine lv_aload_n hx hb dX0_wide_0 rfl (lv_at hl 0 rfl) ?_
  refine va_instNo hx hb hown (hts _ q846) (hI.1.moved hK.2.alike) (ar_cell hsh.s (nm_S hK)) dX0_wide_1 ?_
  refine lv_if_eq (tgt := 12) hx hb dX0_wide_4 (by decide) (fun _ => ?_) (fun h => absurd (by decide) h)
  refine lv_aload_n hx hb dX0_wide_12 rfl (lv_at hl 0 rfl) ?_
  refine va_instE hx hb hown (hts _ q847) (ar_cell hsh.s (nm_S hK)) dX0_wide_13 ?_
  refine lv_if_eq (tgt := 24) hx hb dX0_wide_16 (by decide) (fun h => absurd h (by decide)) (fun _ => ?_)
  refine lv_bipush (v := 16) hx hb dX0_wide_19 (by decide) ?_
  refine lv_goto (tgt := 26) hx hb dX0_wide_21 (by decide) ?_
  exact ri_R hx hb hr hlk (rfl) dX0_wide_26
set_option maxHeartbeats 4000000 in
theorem D_get_16 (l : Launch) {G : GD} {H0 : Heap} (hI : IG G) {n a : Nat} {v : Nat → Int64} (hsh : ShA G 16 n v a H0) {x : Int32} {j : Nat} (hj : IdxOk x j n) (hn : narOk 16 (v j)) : MetR l G yX0_get cX0_get 2 (some .long) 0 [.ref a, .int x] H0 (some (.long (v j))) := by
  refine mx_of (by decide) (Nat.le_of_ble_eq_true rfl) ?_
  intro p e s m below meth c hx hb hr hc hlk hnm hs0 ls hl
  subst hs0
  have hown := hc.2.2.2.1
  have hts := hc.2.2.2.2.1
  have hK := hc.2.2.2.2.2
  have hl : lv_has ls 2 [(0, .ref a), (1, .int x)] := hl
  refine lv_aload_n hx hb dX0_get_0 rfl (lv_at hl 0 rfl) ?_
  refine va_instNo hx hb hown (hts _ q846) (hI.1.moved hK.2.alike) (ar_cell hsh.s (nm_S hK)) dX0_get_1 ?_
  refine lv_if_eq (tgt := 15) hx hb dX0_get_4 (by decide) (fun _ => ?_) (fun h => absurd (by decide) h)
  refine lv_aload_n hx hb dX0_get_15 rfl (lv_at hl 0 rfl) ?_
  refine va_instE hx hb hown (hts _ q847) (ar_cell hsh.s (nm_S hK)) dX0_get_16 ?_
  refine lv_if_eq (tgt := 32) hx hb dX0_get_19 (by decide) (fun h => absurd h (by decide)) (fun _ => ?_)
  refine lv_aload_n hx hb dX0_get_22 rfl (lv_at hl 0 rfl) ?_
  refine va_castE hx hb hown (hts _ q847) (ar_cell hsh.s (nm_S hK)) dX0_get_23 ?_
  refine lv_iload_n hx hb dX0_get_26 rfl (lv_at hl 1 rfl) ?_
  refine va_sald hx hb hK.1 (P1 hsh.s) 0 3 rfl rfl hj.1 dX0_get_27 ?_
  rw [hj.2]
  refine lv_i2l hx hb dX0_get_28 rfl ?_
  refine lv_goto (tgt := 38) hx hb dX0_get_29 (by decide) ?_
  exact rl_R hx hb hr hlk (hn.resolve_left (by decide)) dX0_get_38
set_option maxHeartbeats 4000000 in
theorem D_put_16 (l : Launch) {G : GD} {H0 : Heap} (hI : IG G) {n a : Nat} {v : Nat → Int64} (hsh : ShA G 16 n v a H0) {x : Int32} {j : Nat} (hj : IdxOk x j n) (y : Int64) : MetW l G yX0_put cX0_put 4 none 0 0 0 (fun q => q = a) [.ref a, .int x, .long y] H0 none (fun H => ShA G 16 n (vp_updL v j (narP 16 y)) a H ∧ H.size = H0.size ∧ ∀ q : Nat, q ≠ a → H[q]? = H0[q]?) := by
  refine mx_of (by decide) (Nat.le_of_ble_eq_true rfl) ?_
  intro p e s m below meth c hx hb hr hc hlk hnm hs0 ls hl
  subst hs0
  have hown := hc.2.2.2.1
  have hts := hc.2.2.2.2.1
  have hK := hc.2.2.2.2.2
  have hl : lv_has ls 4 [(0, .ref a), (1, .int x), (2, .long y)] := hl
  have hS : va_S (fun q => q = a) s.heap s.heap [] := va_S.rf
  refine lv_aload_n hx hb dX0_put_0 rfl (lv_at hl 0 rfl) ?_
  refine va_instNo hx hb hown (hts _ q846) (hI.1.moved hK.2.alike) (ar_cell hsh.s (nm_S hK)) dX0_put_1 ?_
  refine lv_if_eq (tgt := 19) hx hb dX0_put_4 (by decide) (fun _ => ?_) (fun h => absurd (by decide) h)
  refine lv_aload_n hx hb dX0_put_19 rfl (lv_at hl 0 rfl) ?_
  refine va_instE hx hb hown (hts _ q847) (ar_cell hsh.s (nm_S hK)) dX0_put_20 ?_
  refine lv_if_eq (tgt := 38) hx hb dX0_put_23 (by decide) (fun h => absurd h (by decide)) (fun _ => ?_)
  refine lv_aload_n hx hb dX0_put_26 rfl (lv_at hl 0 rfl) ?_
  refine va_castE hx hb hown (hts _ q847) (ar_cell hsh.s (nm_S hK)) dX0_put_27 ?_
  refine lv_iload_n hx hb dX0_put_30 rfl (lv_at hl 1 rfl) ?_
  refine lv_lload_n hx hb dX0_put_31 rfl (lv_at hl 2 rfl) ?_
  refine lv_l2i hx hb dX0_put_32 rfl ?_
  refine lv_i2s hx hb dX0_put_33 rfl ?_
  refine s_sast hx hb hK.1 3 hsh.s rfl hj dX0_put_34 (fun H hq z oq => ?_)
  rw [upL_16] at hq
  have hS := hS.put (k := j) z oq rfl
  refine lv_goto (tgt := 45) hx hb dX0_put_35 (by decide) ?_
  exact rv_W hx hb hr hlk hS (⟨⟨_, shE_16, hq⟩, z, oq⟩) dX0_put_45
set_option maxHeartbeats 4000000 in
theorem D_length_64 (l : Launch) {G : GD} {H0 : Heap} (hI : IG G) {n a : Nat} {v : Nat → Int64} (hsh : ShA G 64 n v a H0)  : MetR l G yX0_length cX0_length 1 (some .int) 0 [.ref a] H0 (some (.int (nI n))) := by
  refine mx_of (by decide) (Nat.le_of_ble_eq_true rfl) ?_
  intro p e s m below meth c hx hb hr hc hlk hnm hs0 ls hl
  subst hs0
  have hown := hc.2.2.2.1
  have hts := hc.2.2.2.2.1
  have hK := hc.2.2.2.2.2
  have hl : lv_has ls 1 [(0, .ref a)] := hl
  refine lv_aload_n hx hb dX0_length_0 rfl (lv_at hl 0 rfl) ?_
  refine va_instNo hx hb hown (hts _ q846) (hI.2.1.moved hK.2.alike) (ar_cell hsh.j (nm_J hK)) dX0_length_1 ?_
  refine lv_if_eq (tgt := 13) hx hb dX0_length_4 (by decide) (fun _ => ?_) (fun h => absurd (by decide) h)
  refine lv_aload_n hx hb dX0_length_13 rfl (lv_at hl 0 rfl) ?_
  refine va_instNo hx hb hown (hts _ q847) (hI.2.2.moved hK.2.alike) (ar_cell hsh.j (nm_J hK)) dX0_length_14 ?_
  refine lv_if_eq (tgt := 28) hx hb dX0_length_17 (by decide) (fun _ => ?_) (fun h => absurd (by decide) h)
  refine lv_aload_n hx hb dX0_length_28 rfl (lv_at hl 0 rfl) ?_
  refine va_castE hx hb hown (hts _ q848) (ar_cell hsh.j (nm_J hK)) dX0_length_29 ?_
  refine va_alen (v := nI n) hx hb hK.1 (P1 hsh.j) 0 2 rfl rfl rfl dX0_length_32 ?_
  exact ri_R hx hb hr hlk (rfl) dX0_length_33
set_option maxHeartbeats 4000000 in
theorem D_wide_64 (l : Launch) {G : GD} {H0 : Heap} (hI : IG G) {n a : Nat} {v : Nat → Int64} (hsh : ShA G 64 n v a H0)  : MetR l G yX0_wide cX0_wide 1 (some .int) 0 [.ref a] H0 (some (.int 64)) := by
  refine mx_of (by decide) (Nat.le_of_ble_eq_true rfl) ?_
  intro p e s m below meth c hx hb hr hc hlk hnm hs0 ls hl
  subst hs0
  have hown := hc.2.2.2.1
  have hts := hc.2.2.2.2.1
  have hK := hc.2.2.2.2.2
  have hl : lv_has ls 1 [(0, .ref a)] := hl
  refine lv_aload_n hx hb dX0_wide_0 rfl (lv_at hl 0 rfl) ?_
  refine va_instNo hx hb hown (hts _ q846) (hI.2.1.moved hK.2.alike) (ar_cell hsh.j (nm_J hK)) dX0_wide_1 ?_
  refine lv_if_eq (tgt := 12) hx hb dX0_wide_4 (by decide) (fun _ => ?_) (fun h => absurd (by decide) h)
  refine lv_aload_n hx hb dX0_wide_12 rfl (lv_at hl 0 rfl) ?_
  refine va_instNo hx hb hown (hts _ q847) (hI.2.2.moved hK.2.alike) (ar_cell hsh.j (nm_J hK)) dX0_wide_13 ?_
  refine lv_if_eq (tgt := 24) hx hb dX0_wide_16 (by decide) (fun _ => ?_) (fun h => absurd (by decide) h)
  refine lv_bipush (v := 64) hx hb dX0_wide_24 (by decide) ?_
  exact ri_R hx hb hr hlk (rfl) dX0_wide_26
set_option maxHeartbeats 4000000 in
theorem D_get_64 (l : Launch) {G : GD} {H0 : Heap} (hI : IG G) {n a : Nat} {v : Nat → Int64} (hsh : ShA G 64 n v a H0) {x : Int32} {j : Nat} (hj : IdxOk x j n) (hn : narOk 64 (v j)) : MetR l G yX0_get cX0_get 2 (some .long) 0 [.ref a, .int x] H0 (some (.long (v j))) := by
  refine mx_of (by decide) (Nat.le_of_ble_eq_true rfl) ?_
  intro p e s m below meth c hx hb hr hc hlk hnm hs0 ls hl
  subst hs0
  have hown := hc.2.2.2.1
  have hts := hc.2.2.2.2.1
  have hK := hc.2.2.2.2.2
  have hl : lv_has ls 2 [(0, .ref a), (1, .int x)] := hl
  refine lv_aload_n hx hb dX0_get_0 rfl (lv_at hl 0 rfl) ?_
  refine va_instNo hx hb hown (hts _ q846) (hI.2.1.moved hK.2.alike) (ar_cell hsh.j (nm_J hK)) dX0_get_1 ?_
  refine lv_if_eq (tgt := 15) hx hb dX0_get_4 (by decide) (fun _ => ?_) (fun h => absurd (by decide) h)
  refine lv_aload_n hx hb dX0_get_15 rfl (lv_at hl 0 rfl) ?_
  refine va_instNo hx hb hown (hts _ q847) (hI.2.2.moved hK.2.alike) (ar_cell hsh.j (nm_J hK)) dX0_get_16 ?_
  refine lv_if_eq (tgt := 32) hx hb dX0_get_19 (by decide) (fun _ => ?_) (fun h => absurd (by decide) h)
  refine lv_aload_n hx hb dX0_get_32 rfl (lv_at hl 0 rfl) ?_
  refine va_castE hx hb hown (hts _ q848) (ar_cell hsh.j (nm_J hK)) dX0_get_33 ?_
  refine lv_iload_n hx hb dX0_get_36 rfl (lv_at hl 1 rfl) ?_
  refine va_lald hx hb hK.1 (P1 hsh.j) 0 2 rfl rfl hj.1 dX0_get_37 ?_
  rw [hj.2]
  exact rl_R hx hb hr hlk (rfl) dX0_get_38
set_option maxHeartbeats 4000000 in
theorem D_put_64 (l : Launch) {G : GD} {H0 : Heap} (hI : IG G) {n a : Nat} {v : Nat → Int64} (hsh : ShA G 64 n v a H0) {x : Int32} {j : Nat} (hj : IdxOk x j n) (y : Int64) : MetW l G yX0_put cX0_put 4 none 0 0 0 (fun q => q = a) [.ref a, .int x, .long y] H0 none (fun H => ShA G 64 n (vp_updL v j (narP 64 y)) a H ∧ H.size = H0.size ∧ ∀ q : Nat, q ≠ a → H[q]? = H0[q]?) := by
  refine mx_of (by decide) (Nat.le_of_ble_eq_true rfl) ?_
  intro p e s m below meth c hx hb hr hc hlk hnm hs0 ls hl
  subst hs0
  have hown := hc.2.2.2.1
  have hts := hc.2.2.2.2.1
  have hK := hc.2.2.2.2.2
  have hl : lv_has ls 4 [(0, .ref a), (1, .int x), (2, .long y)] := hl
  have hS : va_S (fun q => q = a) s.heap s.heap [] := va_S.rf
  refine lv_aload_n hx hb dX0_put_0 rfl (lv_at hl 0 rfl) ?_
  refine va_instNo hx hb hown (hts _ q846) (hI.2.1.moved hK.2.alike) (ar_cell hsh.j (nm_J hK)) dX0_put_1 ?_
  refine lv_if_eq (tgt := 19) hx hb dX0_put_4 (by decide) (fun _ => ?_) (fun h => absurd (by decide) h)
  refine lv_aload_n hx hb dX0_put_19 rfl (lv_at hl 0 rfl) ?_
  refine va_instNo hx hb hown (hts _ q847) (hI.2.2.moved hK.2.alike) (ar_cell hsh.j (nm_J hK)) dX0_put_20 ?_
  refine lv_if_eq (tgt := 38) hx hb dX0_put_23 (by decide) (fun _ => ?_) (fun h => absurd (by decide) h)
  refine lv_aload_n hx hb dX0_put_38 rfl (lv_at hl 0 rfl) ?_
  refine va_castE hx hb hown (hts _ q848) (ar_cell hsh.j (nm_J hK)) dX0_put_39 ?_
  refine lv_iload_n hx hb dX0_put_42 rfl (lv_at hl 1 rfl) ?_
  refine lv_lload_n hx hb dX0_put_43 rfl (lv_at hl 2 rfl) ?_
  refine s_last hx hb hK.1 2 hsh.j rfl hj dX0_put_44 (fun H hq z oq => ?_)
  rw [upL_64] at hq
  have hS := hS.put (k := j) z oq rfl
  exact rv_W hx hb hr hlk hS (⟨⟨_, shE_64, hq⟩, z, oq⟩) dX0_put_45
theorem D_length (l : Launch) {G : GD} {H0 : Heap} (hI : IG G) {n a : Nat} {v : Nat → Int64} {z : Int32} (hz : bitsOk z) (hsh : ShA G z n v a H0) : MetR l G yX0_length cX0_length 1 (some .int) 0 [.ref a] H0 (some (.int (nI n))) := by
  rcases hz with rfl | rfl | rfl
  · exact D_length_8 l hI hsh
  · exact D_length_16 l hI hsh
  · exact D_length_64 l hI hsh
theorem D_wide (l : Launch) {G : GD} {H0 : Heap} (hI : IG G) {n a : Nat} {v : Nat → Int64} {z : Int32} (hz : bitsOk z) (hsh : ShA G z n v a H0) : MetR l G yX0_wide cX0_wide 1 (some .int) 0 [.ref a] H0 (some (.int z)) := by
  rcases hz with rfl | rfl | rfl
  · exact D_wide_8 l hI hsh
  · exact D_wide_16 l hI hsh
  · exact D_wide_64 l hI hsh
theorem D_get (l : Launch) {G : GD} {H0 : Heap} (hI : IG G) {n a : Nat} {v : Nat → Int64} {z : Int32} (hz : bitsOk z) (hsh : ShA G z n v a H0) {x : Int32} {j : Nat} (hj : IdxOk x j n) (hn : narOk z (v j)) : MetR l G yX0_get cX0_get 2 (some .long) 0 [.ref a, .int x] H0 (some (.long (v j))) := by
  rcases hz with rfl | rfl | rfl
  · exact D_get_8 l hI hsh hj hn
  · exact D_get_16 l hI hsh hj hn
  · exact D_get_64 l hI hsh hj hn
theorem D_put (l : Launch) {G : GD} {H0 : Heap} (hI : IG G) {n a : Nat} {v : Nat → Int64} {z : Int32} (hz : bitsOk z) (hsh : ShA G z n v a H0) {x : Int32} {j : Nat} (hj : IdxOk x j n) (y : Int64) : MetW l G yX0_put cX0_put 4 none 0 0 0 (fun q => q = a) [.ref a, .int x, .long y] H0 none (fun H => ShA G z n (vp_updL v j (narP z y)) a H ∧ H.size = H0.size ∧ ∀ q : Nat, q ≠ a → H[q]? = H0[q]?) := by
  rcases hz with rfl | rfl | rfl
  · exact D_put_8 l hI hsh hj y
  · exact D_put_16 l hI hsh hj y
  · exact D_put_64 l hI hsh hj y
