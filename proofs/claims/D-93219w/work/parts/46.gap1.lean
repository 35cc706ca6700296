/-! gaps: kinds and breadths -/
set_option maxRecDepth 100000
/-- gap g of the row s: its fields -/
def gfs (s : Nat → Int32) (g : Nat) : List Value := [.int (s (gp g 1)), .int (s (gp g 2)), .int (s (gp g 3)), .int (s (gp g 4)), .int (s (gp g 5)), .int (s (gp g 6)), .int (s (gp g 7))]
/-- the night's array -/
def NtA (G : GD) (r : Nat → Int32) (nb : Nat) (H : Heap) : Prop := va_at G.1 vwCl (nb, .inl (G.2.1 0, 6, .inl (fun j => r (2 + j)))) H
theorem o_recv {G : GD} {s : State} {H : Heap} {C : String} {T : u_T} {N ci a : Nat} {fs : List Value} (hK : KV G s) (hat : va_at G.1 vwCl (a, .inr (ci, fs)) H) (hci : vwCl[ci]? = some (C, T, N)) : ∃ cell : Cell, H[a]? = some cell ∧ cell.vm.isStatics = false ∧ s.vm.findClass C = some cell.cls :=
  va_recv hK.1 (P1 hat) (ci := ci) (q0 := 0) (q := (C, T, N)) hci rfl
theorem o_recvK {G : GD} {s : State} {H : Heap} {C : String} {T : u_T} {N ci a : Nat} {fs : List Value} (hK : KV G s) (hat : va_at G.1 vwCl (a, .inr (ci, fs)) H) (hci : vwCl[ci]? = some (C, T, N)) : ∃ (cell : Cell) (kB : Class), H[a]? = some cell ∧ cell.vm.isStatics = false ∧ s.vm.classes[cell.cls]? = some kB := by
  obtain ⟨cell, h1, h2, h3⟩ := o_recv hK hat hci
  obtain ⟨-, hfc, kC, hkC, -⟩ := hK.1.1 ci _ hci
  exact ⟨cell, kC, h1, h2, by rw [← Option.some.inj (hfc.symm.trans h3)]; exact hkC⟩
theorem nt_ld {p : Program} {l : Launch} {e : Env} {R : Room} {s : State} {m : MethodId} {args : Array Value} {below : List Frame} {meth : Method} {c : Code} {H : Heap} {locs : List Loc} {cells slots : Nat} {Q : State → Prop} {pc : Nat} {ls : Array Slot} {rest : List Value} {G : GD} {cc : ByteArray} {nL nb : Nat} {own : String} {r : Nat → Int32}
    (hc : Cx G p s m args c cc nL own) (hN : NtA G r nb H) {i : Int32} {j : Nat} (hi : IdxOk i j 6) (hdg : decode cc pc = .ok (.iaload, 1))
    (kk : W p l e R s m args below meth c H locs cells slots Q (F0 m (pc + 1) ls (.int (r (2 + j)) :: rest))) : W p l e R s m args below meth c H locs cells slots Q (F0 m pc ls (.int i :: .ref nb :: rest)) := by
  obtain ⟨hx, hb, hml, hown, hts, hK⟩ := hc
  exact va_iald hx hb hK.1 (P1 hN) 0 0 rfl rfl hi.1 hdg (by rw [hi.2]; exact kk)
theorem nd_X5_kind : yX5_kind.cls = "SmokeLeans$Gap" ∧ yX5_kind.cls ≠ "java/lang/invoke/MethodHandle" ∧ yX5_kind.cls ≠ "java/lang/invoke/VarHandle" ∧ (parseMethodDescriptor yX5_kind.desc).map (fun d => d.parameters.length) = some 0 := by decide +kernel
set_option maxHeartbeats 4000000 in
theorem D_kind5 (l : Launch) {G : GD} {H0 : Heap} (b : Nat) : MetR l G yX5_kind cX5_kind 1 (some .int) 0 [.ref b] H0 (some (.int 0)) := by
  refine mx_of (by decide) (Nat.le_of_ble_eq_true rfl) ?_
  intro p e s m below meth c hx hb hr hc hlk hnm hs0 ls hl
  subst hs0
  have hown := hc.2.2.2.1
  have hts := hc.2.2.2.2.1
  have hK := hc.2.2.2.2.2
  have hl : lv_has ls 1 [(0, .ref b)] := hl
  refine lv_iconst (v := 0) hx hb dX5_kind_0 (by decide) ?_
  exact ri_R hx hb hr hlk (rfl) dX5_kind_1
theorem nd_X6_kind : yX6_kind.cls = "SmokeLeans$Hidden" ∧ yX6_kind.cls ≠ "java/lang/invoke/MethodHandle" ∧ yX6_kind.cls ≠ "java/lang/invoke/VarHandle" ∧ (parseMethodDescriptor yX6_kind.desc).map (fun d => d.parameters.length) = some 0 := by decide +kernel
set_option maxHeartbeats 4000000 in
theorem D_kind6 (l : Launch) {G : GD} {H0 : Heap} {a g : Nat} {r : Nat → Int32} (hat : va_at G.1 vwCl (a, .inr (6, gfs r g)) H0)  : MetR l G yX6_kind cX6_kind 1 (some .int) 1 [.ref a] H0 (some (.int 1)) := by
  refine mx_of (by decide) (Nat.le_of_ble_eq_true rfl) ?_
  intro p e s m below meth c hx hb hr hc hlk hnm hs0 ls hl
  subst hs0
  have hown := hc.2.2.2.1
  have hts := hc.2.2.2.2.1
  have hK := hc.2.2.2.2.2
  have hl : lv_has ls 1 [(0, .ref a)] := hl
  refine lv_aload_n hx hb dX6_kind_0 rfl (lv_at hl 0 rfl) ?_
  refine su_R1 (n := 0) (rest := []) (x := ⟨"SmokeLeans$Gap", "kind", "()I"⟩) (owner := "SmokeLeans$Gap") hc (D_kind5 l a) rfl q447 q436 q362 q434 q74 q457 sub_self ⟨by decide, by decide +kernel⟩ ⟨Nat.le_of_ble_eq_true rfl, Nat.le_of_ble_eq_true rfl⟩ (o_recvK hK hat rfl) rfl hl.1 rfl (Nat.le_of_ble_eq_true rfl) dX6_kind_1 ⟨Nat.le_of_ble_eq_true rfl, Nat.le_of_ble_eq_true rfl⟩ ?_
  refine lv_iconst (v := 1) hx hb dX6_kind_4 (by decide) ?_
  refine lv_iadd hx hb dX6_kind_5 (sm_topi (v := nI (0 + 1)) (nI_add _ _) ?_)
  exact ri_R hx hb hr hlk (rfl) dX6_kind_6
theorem nd_X7_kind : yX7_kind.cls = "SmokeLeans$Needed" ∧ yX7_kind.cls ≠ "java/lang/invoke/MethodHandle" ∧ yX7_kind.cls ≠ "java/lang/invoke/VarHandle" ∧ (parseMethodDescriptor yX7_kind.desc).map (fun d => d.parameters.length) = some 0 := by decide +kernel
set_option maxHeartbeats 4000000 in
theorem D_kind7 (l : Launch) {G : GD} {H0 : Heap} {a g : Nat} {r : Nat → Int32} (hat : va_at G.1 vwCl (a, .inr (7, gfs r g)) H0)  : MetR l G yX7_kind cX7_kind 1 (some .int) 1 [.ref a] H0 (some (.int 2)) := by
  refine mx_of (by decide) (Nat.le_of_ble_eq_true rfl) ?_
  intro p e s m below meth c hx hb hr hc hlk hnm hs0 ls hl
  subst hs0
  have hown := hc.2.2.2.1
  have hts := hc.2.2.2.2.1
  have hK := hc.2.2.2.2.2
  have hl : lv_has ls 1 [(0, .ref a)] := hl
  refine lv_aload_n hx hb dX7_kind_0 rfl (lv_at hl 0 rfl) ?_
  refine su_R1 (n := 0) (rest := []) (x := ⟨"SmokeLeans$Gap", "kind", "()I"⟩) (owner := "SmokeLeans$Gap") hc (D_kind5 l a) rfl q443 q436 q376 q434 q74 q457 sub_self ⟨by decide, by decide +kernel⟩ ⟨Nat.le_of_ble_eq_true rfl, Nat.le_of_ble_eq_true rfl⟩ (o_recvK hK hat rfl) rfl hl.1 rfl (Nat.le_of_ble_eq_true rfl) dX7_kind_1 ⟨Nat.le_of_ble_eq_true rfl, Nat.le_of_ble_eq_true rfl⟩ ?_
  refine lv_iconst (v := 2) hx hb dX7_kind_4 (by decide) ?_
  refine lv_iadd hx hb dX7_kind_5 (sm_topi (v := nI (0 + 2)) (nI_add _ _) ?_)
  exact ri_R hx hb hr hlk (rfl) dX7_kind_6
theorem nd_X8_kind : yX8_kind.cls = "SmokeLeans$Known" ∧ yX8_kind.cls ≠ "java/lang/invoke/MethodHandle" ∧ yX8_kind.cls ≠ "java/lang/invoke/VarHandle" ∧ (parseMethodDescriptor yX8_kind.desc).map (fun d => d.parameters.length) = some 0 := by decide +kernel
set_option maxHeartbeats 4000000 in
theorem D_kind8 (l : Launch) {G : GD} {H0 : Heap} {a g : Nat} {r : Nat → Int32} (hat : va_at G.1 vwCl (a, .inr (8, gfs r g)) H0)  : MetR l G yX8_kind cX8_kind 1 (some .int) 1 [.ref a] H0 (some (.int 3)) := by
  refine mx_of (by decide) (Nat.le_of_ble_eq_true rfl) ?_
  intro p e s m below meth c hx hb hr hc hlk hnm hs0 ls hl
  subst hs0
  have hown := hc.2.2.2.1
  have hts := hc.2.2.2.2.1
  have hK := hc.2.2.2.2.2
  have hl : lv_has ls 1 [(0, .ref a)] := hl
  refine lv_aload_n hx hb dX8_kind_0 rfl (lv_at hl 0 rfl) ?_
  refine su_R1 (n := 0) (rest := []) (x := ⟨"SmokeLeans$Gap", "kind", "()I"⟩) (owner := "SmokeLeans$Gap") hc (D_kind5 l a) rfl q451 q436 q390 q434 q74 q457 sub_self ⟨by decide, by decide +kernel⟩ ⟨Nat.le_of_ble_eq_true rfl, Nat.le_of_ble_eq_true rfl⟩ (o_recvK hK hat rfl) rfl hl.1 rfl (Nat.le_of_ble_eq_true rfl) dX8_kind_1 ⟨Nat.le_of_ble_eq_true rfl, Nat.le_of_ble_eq_true rfl⟩ ?_
  refine lv_iconst (v := 3) hx hb dX8_kind_4 (by decide) ?_
  refine lv_iadd hx hb dX8_kind_5 (sm_topi (v := nI (0 + 3)) (nI_add _ _) ?_)
  exact ri_R hx hb hr hlk (rfl) dX8_kind_6
theorem nd_X9_kind : yX9_kind.cls = "SmokeLeans$Turning" ∧ yX9_kind.cls ≠ "java/lang/invoke/MethodHandle" ∧ yX9_kind.cls ≠ "java/lang/invoke/VarHandle" ∧ (parseMethodDescriptor yX9_kind.desc).map (fun d => d.parameters.length) = some 0 := by decide +kernel
set_option maxHeartbeats 4000000 in
theorem D_kind9 (l : Launch) {G : GD} {H0 : Heap} {a g : Nat} {r : Nat → Int32} (hat : va_at G.1 vwCl (a, .inr (9, gfs r g)) H0)  : MetR l G yX9_kind cX9_kind 1 (some .int) 1 [.ref a] H0 (some (.int 4)) := by
  refine mx_of (by decide) (Nat.le_of_ble_eq_true rfl) ?_
  intro p e s m below meth c hx hb hr hc hlk hnm hs0 ls hl
  subst hs0
  have hown := hc.2.2.2.1
  have hts := hc.2.2.2.2.1
  have hK := hc.2.2.2.2.2
  have hl : lv_has ls 1 [(0, .ref a)] := hl
  refine lv_aload_n hx hb dX9_kind_0 rfl (lv_at hl 0 rfl) ?_
  refine su_R1 (n := 0) (rest := []) (x := ⟨"SmokeLeans$Gap", "kind", "()I"⟩) (owner := "SmokeLeans$Gap") hc (D_kind5 l a) rfl q456 q436 q404 q434 q74 q457 sub_self ⟨by decide, by decide +kernel⟩ ⟨Nat.le_of_ble_eq_true rfl, Nat.le_of_ble_eq_true rfl⟩ (o_recvK hK hat rfl) rfl hl.1 rfl (Nat.le_of_ble_eq_true rfl) dX9_kind_1 ⟨Nat.le_of_ble_eq_true rfl, Nat.le_of_ble_eq_true rfl⟩ ?_
  refine lv_iconst (v := 4) hx hb dX9_kind_4 (by decide) ?_
  refine lv_iadd hx hb dX9_kind_5 (sm_topi (v := nI (0 + 4)) (nI_add _ _) ?_)
  exact ri_R hx hb hr hlk (rfl) dX9_kind_6
set_option maxHeartbeats 4000000 in
theorem D_kind7c (l : Launch) {G : GD} {H0 : Heap} {a g : Nat} {r : Nat → Int32} (hat : va_at G.1 vwCl (a, .inr (10, gfs r g)) H0)  : MetR l G yX7_kind cX7_kind 1 (some .int) 1 [.ref a] H0 (some (.int 2)) := by
  refine mx_of (by decide) (Nat.le_of_ble_eq_true rfl) ?_
  intro p e s m below meth c hx hb hr hc hlk hnm hs0 ls hl
  subst hs0
  have hown := hc.2.2.2.1
  have hts := hc.2.2.2.2.1
  have hK := hc.2.2.2.2.2
  have hl : lv_has ls 1 [(0, .ref a)] := hl
  refine lv_aload_n hx hb dX7_kind_0 rfl (lv_at hl 0 rfl) ?_
  refine su_R1 (n := 0) (rest := []) (x := ⟨"SmokeLeans$Gap", "kind", "()I"⟩) (owner := "SmokeLeans$Gap") hc (D_kind5 l a) rfl q443 q436 q376 q434 q74 q457 sub_self ⟨by decide, by decide +kernel⟩ ⟨Nat.le_of_ble_eq_true rfl, Nat.le_of_ble_eq_true rfl⟩ (o_recvK hK hat rfl) rfl hl.1 rfl (Nat.le_of_ble_eq_true rfl) dX7_kind_1 ⟨Nat.le_of_ble_eq_true rfl, Nat.le_of_ble_eq_true rfl⟩ ?_
  refine lv_iconst (v := 2) hx hb dX7_kind_4 (by decide) ?_
  refine lv_iadd hx hb dX7_kind_5 (sm_topi (v := nI (0 + 2)) (nI_add _ _) ?_)
  exact ri_R hx hb hr hlk (rfl) dX7_kind_6
theorem nd_X10_kind : yX10_kind.cls = "SmokeLeans$Chimney" ∧ yX10_kind.cls ≠ "java/lang/invoke/MethodHandle" ∧ yX10_kind.cls ≠ "java/lang/invoke/VarHandle" ∧ (parseMethodDescriptor yX10_kind.desc).map (fun d => d.parameters.length) = some 0 := by decide +kernel
set_option maxHeartbeats 4000000 in
theorem D_kind10 (l : Launch) {G : GD} {H0 : Heap} {a g : Nat} {r : Nat → Int32} (hat : va_at G.1 vwCl (a, .inr (10, gfs r g)) H0)  : MetR l G yX10_kind cX10_kind 1 (some .int) 2 [.ref a] H0 (some (.int 5)) := by
  refine mx_of (by decide) (Nat.le_of_ble_eq_true rfl) ?_
  intro p e s m below meth c hx hb hr hc hlk hnm hs0 ls hl
  subst hs0
  have hown := hc.2.2.2.1
  have hts := hc.2.2.2.2.1
  have hK := hc.2.2.2.2.2
  have hl : lv_has ls 1 [(0, .ref a)] := hl
  refine lv_aload_n hx hb dX10_kind_0 rfl (lv_at hl 0 rfl) ?_
  refine su_R1 (n := 0) (rest := []) (x := ⟨"SmokeLeans$Needed", "kind", "()I"⟩) (owner := "SmokeLeans$Needed") hc (D_kind7c l hat) rfl q440 q1428 q418 q441 q76 q442 sub_self ⟨by decide, by decide +kernel⟩ ⟨Nat.le_of_ble_eq_true rfl, Nat.le_of_ble_eq_true rfl⟩ (o_recvK hK hat rfl) rfl hl.1 rfl (Nat.le_of_ble_eq_true rfl) dX10_kind_1 ⟨Nat.le_of_ble_eq_true rfl, Nat.le_of_ble_eq_true rfl⟩ ?_
  refine lv_iconst (v := 3) hx hb dX10_kind_4 (by decide) ?_
  refine lv_iadd hx hb dX10_kind_5 (sm_topi (v := nI (2 + 3)) (nI_add _ _) ?_)
  exact ri_R hx hb hr hlk (rfl) dX10_kind_6
def brB (r : Nat → Int32) (g : Nat) : Int32 := if r (gp g 7) = 0 then r (gp g 3) else 0
theorem nd_X5_breadth : yX5_breadth.cls = "SmokeLeans$Gap" ∧ yX5_breadth.cls ≠ "java/lang/invoke/MethodHandle" ∧ yX5_breadth.cls ≠ "java/lang/invoke/VarHandle" ∧ (parseMethodDescriptor yX5_breadth.desc).map (fun d => d.parameters.length) = some 1 := by decide +kernel
set_option maxHeartbeats 4000000 in
theorem D_br5_0 (l : Launch) {G : GD} {H0 : Heap} {a g : Nat} {r : Nat → Int32} (hat : va_at G.1 vwCl (a, .inr (5, gfs r g)) H0) (nb : Nat) : MetR l G yX5_breadth cX5_breadth 2 (some .int) 0 [.ref a, .ref nb] H0 (some (.int (brB r g))) := by
  refine mx_of (by decide) (Nat.le_of_ble_eq_true rfl) ?_
  intro p e s m below meth c hx hb hr hc hlk hnm hs0 ls hl
  subst hs0
  have hown := hc.2.2.2.1
  have hts := hc.2.2.2.2.1
  have hK := hc.2.2.2.2.2
  have hl : lv_has ls 2 [(0, .ref a), (1, .ref nb)] := hl
  refine lv_aload_n hx hb dX5_breadth_0 rfl (lv_at hl 0 rfl) ?_
  refine va_get hx hb hts in_X5 hown hK.1 (P1 hat) 0 rfl rfl 6 (by decide) (hts _ q331) (fun x h => h) rfl dX5_breadth_1 ?_
  refine lv_if_eq (tgt := 11) hx hb dX5_breadth_4 (by decide) (fun c_381 => ?_) (fun c_381 => ?_)
  · refine lv_aload_n hx hb dX5_breadth_11 rfl (lv_at hl 0 rfl) ?_
    refine va_get hx hb hts in_X5 hown hK.1 (P1 hat) 0 rfl rfl 2 (by decide) (hts _ q319) (fun x h => h) rfl dX5_breadth_12 ?_
    exact ri_R hx hb hr hlk (by rw [brB, if_pos c_381]) dX5_breadth_15
  · refine lv_iconst (v := 0) hx hb dX5_breadth_7 (by decide) ?_
    refine lv_goto (tgt := 15) hx hb dX5_breadth_8 (by decide) ?_
    exact ri_R hx hb hr hlk (by rw [brB, if_neg c_381]) dX5_breadth_15
set_option maxHeartbeats 4000000 in
theorem D_br5_1 (l : Launch) {G : GD} {H0 : Heap} {a g : Nat} {r : Nat → Int32} (hat : va_at G.1 vwCl (a, .inr (6, gfs r g)) H0) (nb : Nat) : MetR l G yX5_breadth cX5_breadth 2 (some .int) 0 [.ref a, .ref nb] H0 (some (.int (brB r g))) := by
  refine mx_of (by decide) (Nat.le_of_ble_eq_true rfl) ?_
  intro p e s m below meth c hx hb hr hc hlk hnm hs0 ls hl
  subst hs0
  have hown := hc.2.2.2.1
  have hts := hc.2.2.2.2.1
  have hK := hc.2.2.2.2.2
  have hl : lv_has ls 2 [(0, .ref a), (1, .ref nb)] := hl
  refine lv_aload_n hx hb dX5_breadth_0 rfl (lv_at hl 0 rfl) ?_
  refine va_get hx hb hts in_X6 hown hK.1 (P1 hat) 0 rfl rfl 6 (by decide) (hts _ q331) (fun x h => h) rfl dX5_breadth_1 ?_
  refine lv_if_eq (tgt := 11) hx hb dX5_breadth_4 (by decide) (fun c_382 => ?_) (fun c_382 => ?_)
  · refine lv_aload_n hx hb dX5_breadth_11 rfl (lv_at hl 0 rfl) ?_
    refine va_get hx hb hts in_X6 hown hK.1 (P1 hat) 0 rfl rfl 2 (by decide) (hts _ q319) (fun x h => h) rfl dX5_breadth_12 ?_
    exact ri_R hx hb hr hlk (by rw [brB, if_pos c_382]) dX5_breadth_15
  · refine lv_iconst (v := 0) hx hb dX5_breadth_7 (by decide) ?_
    refine lv_goto (tgt := 15) hx hb dX5_breadth_8 (by decide) ?_
    exact ri_R hx hb hr hlk (by rw [brB, if_neg c_382]) dX5_breadth_15
set_option maxHeartbeats 4000000 in
theorem D_br5_2 (l : Launch) {G : GD} {H0 : Heap} {a g : Nat} {r : Nat → Int32} (hat : va_at G.1 vwCl (a, .inr (7, gfs r g)) H0) (nb : Nat) : MetR l G yX5_breadth cX5_breadth 2 (some .int) 0 [.ref a, .ref nb] H0 (some (.int (brB r g))) := by
  refine mx_of (by decide) (Nat.le_of_ble_eq_true rfl) ?_
  intro p e s m below meth c hx hb hr hc hlk hnm hs0 ls hl
  subst hs0
  have hown := hc.2.2.2.1
  have hts := hc.2.2.2.2.1
  have hK := hc.2.2.2.2.2
  have hl : lv_has ls 2 [(0, .ref a), (1, .ref nb)] := hl
  refine lv_aload_n hx hb dX5_breadth_0 rfl (lv_at hl 0 rfl) ?_
  refine va_get hx hb hts in_X7 hown hK.1 (P1 hat) 0 rfl rfl 6 (by decide) (hts _ q331) (fun x h => h) rfl dX5_breadth_1 ?_
  refine lv_if_eq (tgt := 11) hx hb dX5_breadth_4 (by decide) (fun c_383 => ?_) (fun c_383 => ?_)
  · refine lv_aload_n hx hb dX5_breadth_11 rfl (lv_at hl 0 rfl) ?_
    refine va_get hx hb hts in_X7 hown hK.1 (P1 hat) 0 rfl rfl 2 (by decide) (hts _ q319) (fun x h => h) rfl dX5_breadth_12 ?_
    exact ri_R hx hb hr hlk (by rw [brB, if_pos c_383]) dX5_breadth_15
  · refine lv_iconst (v := 0) hx hb dX5_breadth_7 (by decide) ?_
    refine lv_goto (tgt := 15) hx hb dX5_breadth_8 (by decide) ?_
    exact ri_R hx hb hr hlk (by rw [brB, if_neg c_383]) dX5_breadth_15
set_option maxHeartbeats 4000000 in
theorem D_br5_4 (l : Launch) {G : GD} {H0 : Heap} {a g : Nat} {r : Nat → Int32} (hat : va_at G.1 vwCl (a, .inr (9, gfs r g)) H0) (nb : Nat) : MetR l G yX5_breadth cX5_breadth 2 (some .int) 0 [.ref a, .ref nb] H0 (some (.int (brB r g))) := by
  refine mx_of (by decide) (Nat.le_of_ble_eq_true rfl) ?_
  intro p e s m below meth c hx hb hr hc hlk hnm hs0 ls hl
  subst hs0
  have hown := hc.2.2.2.1
  have hts := hc.2.2.2.2.1
  have hK := hc.2.2.2.2.2
  have hl : lv_has ls 2 [(0, .ref a), (1, .ref nb)] := hl
  refine lv_aload_n hx hb dX5_breadth_0 rfl (lv_at hl 0 rfl) ?_
  refine va_get hx hb hts in_X9 hown hK.1 (P1 hat) 0 rfl rfl 6 (by decide) (hts _ q331) (fun x h => h) rfl dX5_breadth_1 ?_
  refine lv_if_eq (tgt := 11) hx hb dX5_breadth_4 (by decide) (fun c_384 => ?_) (fun c_384 => ?_)
  · refine lv_aload_n hx hb dX5_breadth_11 rfl (lv_at hl 0 rfl) ?_
    refine va_get hx hb hts in_X9 hown hK.1 (P1 hat) 0 rfl rfl 2 (by decide) (hts _ q319) (fun x h => h) rfl dX5_breadth_12 ?_
    exact ri_R hx hb hr hlk (by rw [brB, if_pos c_384]) dX5_breadth_15
  · refine lv_iconst (v := 0) hx hb dX5_breadth_7 (by decide) ?_
    refine lv_goto (tgt := 15) hx hb dX5_breadth_8 (by decide) ?_
    exact ri_R hx hb hr hlk (by rw [brB, if_neg c_384]) dX5_breadth_15
set_option maxHeartbeats 4000000 in
theorem D_br5_5 (l : Launch) {G : GD} {H0 : Heap} {a g : Nat} {r : Nat → Int32} (hat : va_at G.1 vwCl (a, .inr (10, gfs r g)) H0) (nb : Nat) : MetR l G yX5_breadth cX5_breadth 2 (some .int) 0 [.ref a, .ref nb] H0 (some (.int (brB r g))) := by
  refine mx_of (by decide) (Nat.le_of_ble_eq_true rfl) ?_
  intro p e s m below meth c hx hb hr hc hlk hnm hs0 ls hl
  subst hs0
  have hown := hc.2.2.2.1
  have hts := hc.2.2.2.2.1
  have hK := hc.2.2.2.2.2
  have hl : lv_has ls 2 [(0, .ref a), (1, .ref nb)] := hl
  refine lv_aload_n hx hb dX5_breadth_0 rfl (lv_at hl 0 rfl) ?_
  refine va_get hx hb hts in_X10 hown hK.1 (P1 hat) 0 rfl rfl 6 (by decide) (hts _ q331) (fun x h => h) rfl dX5_breadth_1 ?_
  refine lv_if_eq (tgt := 11) hx hb dX5_breadth_4 (by decide) (fun c_385 => ?_) (fun c_385 => ?_)
  · refine lv_aload_n hx hb dX5_breadth_11 rfl (lv_at hl 0 rfl) ?_
    refine va_get hx hb hts in_X10 hown hK.1 (P1 hat) 0 rfl rfl 2 (by decide) (hts _ q319) (fun x h => h) rfl dX5_breadth_12 ?_
    exact ri_R hx hb hr hlk (by rw [brB, if_pos c_385]) dX5_breadth_15
  · refine lv_iconst (v := 0) hx hb dX5_breadth_7 (by decide) ?_
    refine lv_goto (tgt := 15) hx hb dX5_breadth_8 (by decide) ?_
    exact ri_R hx hb hr hlk (by rw [brB, if_neg c_385]) dX5_breadth_15
theorem nd_X6_breadth : yX6_breadth.cls = "SmokeLeans$Hidden" ∧ yX6_breadth.cls ≠ "java/lang/invoke/MethodHandle" ∧ yX6_breadth.cls ≠ "java/lang/invoke/VarHandle" ∧ (parseMethodDescriptor yX6_breadth.desc).map (fun d => d.parameters.length) = some 1 := by decide +kernel
set_option maxHeartbeats 4000000 in
theorem D_br6 (l : Launch) {G : GD} {H0 : Heap} {a g : Nat} {r : Nat → Int32} (hat : va_at G.1 vwCl (a, .inr (6, gfs r g)) H0) (nb : Nat) : MetR l G yX6_breadth cX6_breadth 2 (some .int) 1 [.ref a, .ref nb] H0 (some (.int (brB r g / 2))) := by
  refine mx_of (by decide) (Nat.le_of_ble_eq_true rfl) ?_
  intro p e s m below meth c hx hb hr hc hlk hnm hs0 ls hl
  subst hs0
  have hown := hc.2.2.2.1
  have hts := hc.2.2.2.2.1
  have hK := hc.2.2.2.2.2
  have hl : lv_has ls 2 [(0, .ref a), (1, .ref nb)] := hl
  refine lv_aload_n hx hb dX6_breadth_0 rfl (lv_at hl 0 rfl) ?_
  refine lv_aload_n hx hb dX6_breadth_1 rfl (lv_at hl 1 rfl) ?_
  refine su_R1 (n := 1) (rest := []) (x := ⟨"SmokeLeans$Gap", "breadth", "([I)I"⟩) (owner := "SmokeLeans$Gap") hc (D_br5_1 l hat nb) rfl q475 q470 q362 q468 q74 q484 sub_self ⟨by decide, by decide +kernel⟩ ⟨Nat.le_of_ble_eq_true rfl, Nat.le_of_ble_eq_true rfl⟩ (o_recvK hK hat rfl) rfl hl.1 rfl (Nat.le_of_ble_eq_true rfl) dX6_breadth_2 ⟨Nat.le_of_ble_eq_true rfl, Nat.le_of_ble_eq_true rfl⟩ ?_
  refine lv_iconst (v := 2) hx hb dX6_breadth_5 (by decide) ?_
  refine lv_idiv hx hb dX6_breadth_6 (by decide) ?_
  exact ri_R hx hb hr hlk (rfl) dX6_breadth_7
theorem nd_X8_breadth : yX8_breadth.cls = "SmokeLeans$Known" ∧ yX8_breadth.cls ≠ "java/lang/invoke/MethodHandle" ∧ yX8_breadth.cls ≠ "java/lang/invoke/VarHandle" ∧ (parseMethodDescriptor yX8_breadth.desc).map (fun d => d.parameters.length) = some 1 := by decide +kernel
set_option maxHeartbeats 4000000 in
theorem D_br8 (l : Launch) {G : GD} {H0 : Heap} {a g : Nat} {r : Nat → Int32} (hat : va_at G.1 vwCl (a, .inr (8, gfs r g)) H0) {nb : Nat} (hN : NtA G r nb H0)  : MetR l G yX8_breadth cX8_breadth 2 (some .int) 0 [.ref a, .ref nb] H0 (some (.int (if r (gp g 7) = 0 then r 6 else 0))) := by
  refine mx_of (by decide) (Nat.le_of_ble_eq_true rfl) ?_
  intro p e s m below meth c hx hb hr hc hlk hnm hs0 ls hl
  subst hs0
  have hown := hc.2.2.2.1
  have hts := hc.2.2.2.2.1
  have hK := hc.2.2.2.2.2
  have hl : lv_has ls 2 [(0, .ref a), (1, .ref nb)] := hl
  refine lv_aload_n hx hb dX8_breadth_0 rfl (lv_at hl 0 rfl) ?_
  refine va_get hx hb hts in_X8 hown hK.1 (P1 hat) 0 rfl rfl 6 (by decide) (hts _ q329) (u_same (hts _ q330)) rfl dX8_breadth_1 ?_
  refine lv_if_eq (tgt := 11) hx hb dX8_breadth_4 (by decide) (fun c_386 => ?_) (fun c_386 => ?_)
  · refine lv_aload_n hx hb dX8_breadth_11 rfl (lv_at hl 1 rfl) ?_
    refine lv_iconst (v := 4) hx hb dX8_breadth_12 (by decide) ?_
    refine nt_ld hc hN (ix_eq (k := 4) rfl (by decide) (by decide)) dX8_breadth_13 ?_
    refine sm_topi (v := r 6) rfl ?_
    exact ri_R hx hb hr hlk (by rw [if_pos c_386]) dX8_breadth_14
  · refine lv_iconst (v := 0) hx hb dX8_breadth_7 (by decide) ?_
    refine lv_goto (tgt := 14) hx hb dX8_breadth_8 (by decide) ?_
    exact ri_R hx hb hr hlk (by rw [if_neg c_386]) dX8_breadth_14
