/-! findings and faults: their making -/
set_option maxRecDepth 100000
/-- a reference, or null -/
def RfV (u : Value) : Prop := u = .null ∨ ∃ b, u = .ref b
theorem RfV.nar {u : Value} (h : RfV u) (ty : FieldType) : narrow ty u = u := by
  rcases h with rfl | ⟨b, rfl⟩ <;> cases ty <;> rfl
theorem RfV.fitO {u : Value} (h : RfV u) {C : String} : fits (.object C) u = true := by
  rcases h with rfl | ⟨b, rfl⟩ <;> rfl
theorem RfV.fitA {u : Value} (h : RfV u) {t : FieldType} : fits (.array t) u = true := by
  rcases h with rfl | ⟨b, rfl⟩ <;> rfl
/-- what the law's start says of the statics -/
def SG (G : GD) : Prop := (∃ u, RfV u ∧ va_Z "java/lang/Throwable" "UNASSIGNED_STACK" "[Ljava/lang/StackTraceElement;" u (fun _ => False) G.2.2 G.2.2.heap) ∧ (∃ u, RfV u ∧ va_Z "java/lang/Throwable" "SUPPRESSED_SENTINEL" "Ljava/util/List;" u (fun _ => False) G.2.2 G.2.2.heap)
/-- what was there at the law's start is as it was -/
def Kp (G : GD) (H : Heap) : Prop := ∀ q : Nat, q < G.2.2.heap.size → H[q]? = G.2.2.heap[q]?
theorem Kp.put {G : GD} {H H1 : Heap} {a : Nat} (h : Kp G H) (oq : ∀ q : Nat, q ≠ a → H1[q]? = H[q]?) (ha : G.2.2.heap.size ≤ a) : Kp G H1 := fun q hq => (oq q (by omega)).trans (h q hq)
theorem g_stat {p : Program} {l : Launch} {e : Env} {R : Room} {s : State} {m : MethodId} {args : Array Value} {below : List Frame} {meth : Method} {c : Code} {H : Heap} {locs : List Loc} {cells slots : Nat} {Q : State → Prop} {pc : Nat} {ls : Array Slot} {rest : List Value} {G : GD} {cc : ByteArray} {nL index : Nat} {own C n d : String} {v : Value}
    (hc : Cx G p s m args c cc nL own) (hZ : va_Z C n d v (fun _ => False) G.2.2 G.2.2.heap) (hk : Kp G H) (hlink : Cond.fieldLink own index C n d ∈ lw_all) (hdg : decode cc pc = .ok (.getstatic index, 3))
    (kk : W p l e R s m args below meth c H locs cells slots Q (F0 m (pc + 3) ls (v :: rest))) : W p l e R s m args below meth c H locs cells slots Q (F0 m pc ls rest) := by
  obtain ⟨hx, hb, hml, hown, hts, hK⟩ := hc
  obtain ⟨cf, kf, fi, f, a, cell, h1, h2, h3, h4, h5, h6, h7, -⟩ := hZ.moved hK.2.alike
  exact W.gets hx hb hown (hts _ hlink) h1 h2 h3 h4 (by rw [hk a (Array.getElem?_eq_some_iff.mp h5).1]; exact h5) (fun e => by rw [e] at h6; cases h6) h7 rfl hdg kk
def efs (w : Int32) : List Value := [.null, .null, .null, .null, .null, .int 0, .int w]
theorem nd_J0_init_2 : yJ0_init_2.cls ≠ "java/lang/invoke/MethodHandle" ∧ yJ0_init_2.cls ≠ "java/lang/invoke/VarHandle" ∧ (parseMethodDescriptor yJ0_init_2.desc).map (fun d => d.parameters.length) = some 4 := by decide +kernel
theorem nd_J1_init : yJ1_init.cls ≠ "java/lang/invoke/MethodHandle" ∧ yJ1_init.cls ≠ "java/lang/invoke/VarHandle" ∧ (parseMethodDescriptor yJ1_init.desc).map (fun d => d.parameters.length) = some 4 := by decide +kernel
theorem nd_X4_init : yX4_init.cls ≠ "java/lang/invoke/MethodHandle" ∧ yX4_init.cls ≠ "java/lang/invoke/VarHandle" ∧ (parseMethodDescriptor yX4_init.desc).map (fun d => d.parameters.length) = some 1 := by decide +kernel
theorem nd_X12_init : yX12_init.cls ≠ "java/lang/invoke/MethodHandle" ∧ yX12_init.cls ≠ "java/lang/invoke/VarHandle" ∧ (parseMethodDescriptor yX12_init.desc).map (fun d => d.parameters.length) = some 1 := by decide +kernel
set_option maxHeartbeats 4000000 in
theorem M_thr_X4 (l : Launch) {G : GD} (hG : SG G) {H0 : Heap} {a : Nat} {wh : Int32} (hat : va_at G.1 vwCl (a, .inr (4, efs wh)) H0) (hga : G.2.2.heap.size ≤ a) (hkp : Kp G H0) : MetW l G yJ0_init_2 cJ0_init_2 5 none 1 0 0 (fun q => q = a) [.ref a, .null, .null, .int 0, .int 0] H0 none (fun H => va_at G.1 vwCl (a, .inr (4, efs wh)) H ∧ H.size = H0.size) := by
  refine mx_of (by decide) (Nat.le_of_ble_eq_true rfl) ?_
  intro p e s m below meth c hx hb hr hc hlk hnm hs0 ls hl
  subst hs0
  have hown := hc.2.2.2.1
  have hts := hc.2.2.2.2.1
  have hK := hc.2.2.2.2.2
  have hl : lv_has ls 5 [(0, .ref a), (1, .null), (2, .null), (3, .int 0), (4, .int 0)] := hl
  have hS : va_S (fun q => q = a) s.heap s.heap [] := va_S.rf
  have hz : s.heap.size = s.heap.size := rfl
  obtain ⟨⟨u1, hu1, hz1⟩, ⟨u2, hu2, hz2⟩⟩ := hG
  refine lv_aload_n hx hb dJ0_init_2_0 rfl (lv_at hl 0 rfl) ?_
  refine a_oinit hc q232 hl.1 dJ0_init_2_1 (Nat.le_of_ble_eq_true rfl) (Nat.le_of_ble_eq_true rfl) ?_
  refine lv_aload_n hx hb dJ0_init_2_4 rfl (lv_at hl 0 rfl) ?_
  refine lv_aload_n hx hb dJ0_init_2_5 rfl (lv_at hl 0 rfl) ?_
  refine s_put hx hb hts in_X4 tyX4 tyX4_ok nmX4 hown hK.1 hat rfl 0 (by decide) (hts _ q260) (fun x h => h) rfl rfl rfl rfl (Nat.le_of_ble_eq_true rfl) dJ0_init_2_6 (fun H i hat z oq => ?_)
  have hat : va_at G.1 vwCl (a, .inr (4, [.ref a, .null, .null, .null, .null, .int 0, .int wh])) H := hat
  have hS := hS.put (k := i) z oq rfl
  have hz := z.trans hz
  have hkp := hkp.put oq hga
  refine lv_aload_n hx hb dJ0_init_2_9 rfl (lv_at hl 0 rfl) ?_
  refine g_stat hc hz1 hkp q233 dJ0_init_2_10 ?_
  refine s_put hx hb hts in_X4 tyX4 tyX4_ok nmX4 hown hK.1 hat rfl 1 (by decide) (hts _ q261) (fun x h => h) rfl rfl (hu1.nar _) hu1.fitA (Nat.le_of_ble_eq_true rfl) dJ0_init_2_13 (fun H i hat z oq => ?_)
  have hat : va_at G.1 vwCl (a, .inr (4, [.ref a, u1, .null, .null, .null, .int 0, .int wh])) H := hat
  have hS := hS.put (k := i) z oq rfl
  have hz := z.trans hz
  have hkp := hkp.put oq hga
  refine lv_aload_n hx hb dJ0_init_2_16 rfl (lv_at hl 0 rfl) ?_
  refine g_stat hc hz2 hkp q235 dJ0_init_2_17 ?_
  refine s_put hx hb hts in_X4 tyX4 tyX4_ok nmX4 hown hK.1 hat rfl 2 (by decide) (hts _ q262) (fun x h => h) rfl rfl (hu2.nar _) hu2.fitO (Nat.le_of_ble_eq_true rfl) dJ0_init_2_20 (fun H i hat z oq => ?_)
  have hat : va_at G.1 vwCl (a, .inr (4, [.ref a, u1, u2, .null, .null, .int 0, .int wh])) H := hat
  have hS := hS.put (k := i) z oq rfl
  have hz := z.trans hz
  have hkp := hkp.put oq hga
  refine lv_iload hx hb dJ0_init_2_23 (lv_at hl 4 rfl) ?_
  refine lv_if_eq (tgt := 36) hx hb dJ0_init_2_25 (by decide) (fun _ => ?_) (fun h => absurd (by decide) h)
  refine lv_aload_n hx hb dJ0_init_2_36 rfl (lv_at hl 0 rfl) ?_
  refine lv_null hx hb dJ0_init_2_37 ?_
  refine s_put hx hb hts in_X4 tyX4 tyX4_ok nmX4 hown hK.1 hat rfl 1 (by decide) (hts _ q261) (fun x h => h) rfl rfl rfl rfl (Nat.le_of_ble_eq_true rfl) dJ0_init_2_38 (fun H i hat z oq => ?_)
  have hat : va_at G.1 vwCl (a, .inr (4, [.ref a, .null, u2, .null, .null, .int 0, .int wh])) H := hat
  have hS := hS.put (k := i) z oq rfl
  have hz := z.trans hz
  have hkp := hkp.put oq hga
  refine lv_aload_n hx hb dJ0_init_2_41 rfl (lv_at hl 0 rfl) ?_
  refine lv_aload_nN hx hb dJ0_init_2_42 rfl (lv_at hl 1 rfl) ?_
  refine s_put hx hb hts in_X4 tyX4 tyX4_ok nmX4 hown hK.1 hat rfl 3 (by decide) (hts _ q259) (fun x h => h) rfl rfl rfl rfl (Nat.le_of_ble_eq_true rfl) dJ0_init_2_43 (fun H i hat z oq => ?_)
  have hat : va_at G.1 vwCl (a, .inr (4, [.ref a, .null, u2, .null, .null, .int 0, .int wh])) H := hat
  have hS := hS.put (k := i) z oq rfl
  have hz := z.trans hz
  have hkp := hkp.put oq hga
  refine lv_aload_n hx hb dJ0_init_2_46 rfl (lv_at hl 0 rfl) ?_
  refine lv_aload_nN hx hb dJ0_init_2_47 rfl (lv_at hl 2 rfl) ?_
  refine s_put hx hb hts in_X4 tyX4 tyX4_ok nmX4 hown hK.1 hat rfl 0 (by decide) (hts _ q260) (fun x h => h) rfl rfl rfl rfl (Nat.le_of_ble_eq_true rfl) dJ0_init_2_48 (fun H i hat z oq => ?_)
  have hat : va_at G.1 vwCl (a, .inr (4, [.null, .null, u2, .null, .null, .int 0, .int wh])) H := hat
  have hS := hS.put (k := i) z oq rfl
  have hz := z.trans hz
  have hkp := hkp.put oq hga
  refine lv_iload_n hx hb dJ0_init_2_51 rfl (lv_at hl 3 rfl) ?_
  refine lv_if_ne (tgt := 60) hx hb dJ0_init_2_52 (by decide) (fun h => absurd (by decide) h) (fun _ => ?_)
  refine lv_aload_n hx hb dJ0_init_2_55 rfl (lv_at hl 0 rfl) ?_
  refine lv_null hx hb dJ0_init_2_56 ?_
  refine s_put hx hb hts in_X4 tyX4 tyX4_ok nmX4 hown hK.1 hat rfl 2 (by decide) (hts _ q262) (fun x h => h) rfl rfl rfl rfl (Nat.le_of_ble_eq_true rfl) dJ0_init_2_57 (fun H i hat z oq => ?_)
  have hat : va_at G.1 vwCl (a, .inr (4, [.null, .null, .null, .null, .null, .int 0, .int wh])) H := hat
  have hS := hS.put (k := i) z oq rfl
  have hz := z.trans hz
  have hkp := hkp.put oq hga
  exact rv_W hx hb hr hlk hS (⟨hat, hz⟩) dJ0_init_2_60
set_option maxHeartbeats 4000000 in
theorem M_exc_X4 (l : Launch) {G : GD} (hG : SG G) {H0 : Heap} {a : Nat} {wh : Int32} (hat : va_at G.1 vwCl (a, .inr (4, efs wh)) H0) (hga : G.2.2.heap.size ≤ a) (hkp : Kp G H0) : MetW l G yJ1_init cJ1_init 5 none 2 0 0 (fun q => q = a) [.ref a, .null, .null, .int 0, .int 0] H0 none (fun H => va_at G.1 vwCl (a, .inr (4, efs wh)) H ∧ H.size = H0.size) := by
  refine mx_of (by decide) (Nat.le_of_ble_eq_true rfl) ?_
  intro p e s m below meth c hx hb hr hc hlk hnm hs0 ls hl
  subst hs0
  have hown := hc.2.2.2.1
  have hts := hc.2.2.2.2.1
  have hK := hc.2.2.2.2.2
  have hl : lv_has ls 5 [(0, .ref a), (1, .null), (2, .null), (3, .int 0), (4, .int 0)] := hl
  have hS : va_S (fun q => q = a) s.heap s.heap [] := va_S.rf
  have hz : s.heap.size = s.heap.size := rfl
  obtain ⟨⟨u1, hu1, hz1⟩, ⟨u2, hu2, hz2⟩⟩ := hG
  have hat0 := hat
  refine lv_aload_n hx hb dJ1_init_0 rfl (lv_at hl 0 rfl) ?_
  refine lv_aload_nN hx hb dJ1_init_1 rfl (lv_at hl 1 rfl) ?_
  refine lv_aload_nN hx hb dJ1_init_2 rfl (lv_at hl 2 rfl) ?_
  refine lv_iload_n hx hb dJ1_init_3 rfl (lv_at hl 3 rfl) ?_
  refine lv_iload hx hb dJ1_init_4 (lv_at hl 4 rfl) ?_
  refine ci_W (rest := []) hc (M_thr_X4 l ⟨⟨u1, hu1, hz1⟩, ⟨u2, hu2, hz2⟩⟩ hat hga hkp) q253 q254 q71 q255 rfl nd_J0_init_2 ⟨Nat.le_of_ble_eq_true rfl, Nat.le_of_ble_eq_true rfl⟩ rfl hl.1 rfl (Nat.le_of_ble_eq_true rfl) dJ1_init_6 ⟨Nat.le_of_ble_eq_true rfl, Nat.le_of_ble_eq_true rfl⟩ hS (fun _ h => h) (fun H locs hq hS hz2_ hk => ?_)
  obtain ⟨hat, hz⟩ := hq
  have hkp : Kp G H := fun q hq => (hk q (Nat.lt_trans (Nat.lt_of_lt_of_le hq hga) (va_at.lt hat0)) (fun e => by omega)).trans (hkp q hq)
  exact rv_W hx hb hr hlk hS (⟨hat, hz⟩) dJ1_init_9
set_option maxHeartbeats 4000000 in
theorem M_X4_init (l : Launch) {G : GD} (hG : SG G) {H0 : Heap} {a : Nat} {wh : Int32} (hat : va_at G.1 vwCl (a, .inr (4, efs wh)) H0) (hga : G.2.2.heap.size ≤ a) (hkp : Kp G H0) (w2 : Int32) : MetW l G yX4_init cX4_init 2 none 3 0 0 (fun q => q = a) [.ref a, .int w2] H0 none (fun H => va_at G.1 vwCl (a, .inr (4, efs w2)) H ∧ H.size = H0.size) := by
  refine mx_of (by decide) (Nat.le_of_ble_eq_true rfl) ?_
  intro p e s m below meth c hx hb hr hc hlk hnm hs0 ls hl
  subst hs0
  have hown := hc.2.2.2.1
  have hts := hc.2.2.2.2.1
  have hK := hc.2.2.2.2.2
  have hl : lv_has ls 2 [(0, .ref a), (1, .int w2)] := hl
  have hS : va_S (fun q => q = a) s.heap s.heap [] := va_S.rf
  have hz : s.heap.size = s.heap.size := rfl
  obtain ⟨⟨u1, hu1, hz1⟩, ⟨u2, hu2, hz2⟩⟩ := hG
  have hat0 := hat
  refine lv_aload_n hx hb dX4_init_0 rfl (lv_at hl 0 rfl) ?_
  refine lv_null hx hb dX4_init_1 ?_
  refine lv_null hx hb dX4_init_2 ?_
  refine lv_iconst (v := 0) hx hb dX4_init_3 (by decide) ?_
  refine lv_iconst (v := 0) hx hb dX4_init_4 (by decide) ?_
  refine ci_W (rest := []) hc (M_exc_X4 l ⟨⟨u1, hu1, hz1⟩, ⟨u2, hu2, hz2⟩⟩ hat hga hkp) q250 q251 q72 q252 rfl nd_J1_init ⟨Nat.le_of_ble_eq_true rfl, Nat.le_of_ble_eq_true rfl⟩ rfl hl.1 rfl (Nat.le_of_ble_eq_true rfl) dX4_init_5 ⟨Nat.le_of_ble_eq_true rfl, Nat.le_of_ble_eq_true rfl⟩ hS (fun _ h => h) (fun H locs hq hS hz2_ hk => ?_)
  obtain ⟨hat, hz⟩ := hq
  have hkp : Kp G H := fun q hq => (hk q (Nat.lt_trans (Nat.lt_of_lt_of_le hq hga) (va_at.lt hat0)) (fun e => by omega)).trans (hkp q hq)
  refine lv_aload_n hx hb dX4_init_8 rfl (lv_at hl 0 rfl) ?_
  refine lv_iload_n hx hb dX4_init_9 rfl (lv_at hl 1 rfl) ?_
  refine s_putF hx hb hts in_X4 tyX4 tyX4_ok nmX4 hown hK.1 hat rfl 6 (by decide) (hts _ q256) (fun x h => h) rfl hnm rfl rfl rfl rfl (Nat.le_of_ble_eq_true rfl) dX4_init_10 (fun H i hat z oq => ?_)
  have hat : va_at G.1 vwCl (a, .inr (4, [.null, .null, .null, .null, .null, .int 0, .int w2])) H := hat
  have hS := hS.put (k := i) z oq rfl
  have hz := z.trans hz
  have hkp := hkp.put oq hga
  exact rv_W hx hb hr hlk hS (⟨hat, hz⟩) dX4_init_13
set_option maxHeartbeats 4000000 in
theorem M_thr_X12 (l : Launch) {G : GD} (hG : SG G) {H0 : Heap} {a : Nat} {wh : Int32} (hat : va_at G.1 vwCl (a, .inr (12, efs wh)) H0) (hga : G.2.2.heap.size ≤ a) (hkp : Kp G H0) : MetW l G yJ0_init_2 cJ0_init_2 5 none 1 0 0 (fun q => q = a) [.ref a, .null, .null, .int 0, .int 0] H0 none (fun H => va_at G.1 vwCl (a, .inr (12, efs wh)) H ∧ H.size = H0.size) := by
  refine mx_of (by decide) (Nat.le_of_ble_eq_true rfl) ?_
  intro p e s m below meth c hx hb hr hc hlk hnm hs0 ls hl
  subst hs0
  have hown := hc.2.2.2.1
  have hts := hc.2.2.2.2.1
  have hK := hc.2.2.2.2.2
  have hl : lv_has ls 5 [(0, .ref a), (1, .null), (2, .null), (3, .int 0), (4, .int 0)] := hl
  have hS : va_S (fun q => q = a) s.heap s.heap [] := va_S.rf
  have hz : s.heap.size = s.heap.size := rfl
  obtain ⟨⟨u1, hu1, hz1⟩, ⟨u2, hu2, hz2⟩⟩ := hG
  refine lv_aload_n hx hb dJ0_init_2_0 rfl (lv_at hl 0 rfl) ?_
  refine a_oinit hc q232 hl.1 dJ0_init_2_1 (Nat.le_of_ble_eq_true rfl) (Nat.le_of_ble_eq_true rfl) ?_
  refine lv_aload_n hx hb dJ0_init_2_4 rfl (lv_at hl 0 rfl) ?_
  refine lv_aload_n hx hb dJ0_init_2_5 rfl (lv_at hl 0 rfl) ?_
  refine s_put hx hb hts in_X12 tyX12 tyX12_ok nmX12 hown hK.1 hat rfl 0 (by decide) (hts _ q260) (fun x h => h) rfl rfl rfl rfl (Nat.le_of_ble_eq_true rfl) dJ0_init_2_6 (fun H i hat z oq => ?_)
  have hat : va_at G.1 vwCl (a, .inr (12, [.ref a, .null, .null, .null, .null, .int 0, .int wh])) H := hat
  have hS := hS.put (k := i) z oq rfl
  have hz := z.trans hz
  have hkp := hkp.put oq hga
  refine lv_aload_n hx hb dJ0_init_2_9 rfl (lv_at hl 0 rfl) ?_
  refine g_stat hc hz1 hkp q233 dJ0_init_2_10 ?_
  refine s_put hx hb hts in_X12 tyX12 tyX12_ok nmX12 hown hK.1 hat rfl 1 (by decide) (hts _ q261) (fun x h => h) rfl rfl (hu1.nar _) hu1.fitA (Nat.le_of_ble_eq_true rfl) dJ0_init_2_13 (fun H i hat z oq => ?_)
  have hat : va_at G.1 vwCl (a, .inr (12, [.ref a, u1, .null, .null, .null, .int 0, .int wh])) H := hat
  have hS := hS.put (k := i) z oq rfl
  have hz := z.trans hz
  have hkp := hkp.put oq hga
  refine lv_aload_n hx hb dJ0_init_2_16 rfl (lv_at hl 0 rfl) ?_
  refine g_stat hc hz2 hkp q235 dJ0_init_2_17 ?_
  refine s_put hx hb hts in_X12 tyX12 tyX12_ok nmX12 hown hK.1 hat rfl 2 (by decide) (hts _ q262) (fun x h => h) rfl rfl (hu2.nar _) hu2.fitO (Nat.le_of_ble_eq_true rfl) dJ0_init_2_20 (fun H i hat z oq => ?_)
  have hat : va_at G.1 vwCl (a, .inr (12, [.ref a, u1, u2, .null, .null, .int 0, .int wh])) H := hat
  have hS := hS.put (k := i) z oq rfl
  have hz := z.trans hz
  have hkp := hkp.put oq hga
  refine lv_iload hx hb dJ0_init_2_23 (lv_at hl 4 rfl) ?_
  refine lv_if_eq (tgt := 36) hx hb dJ0_init_2_25 (by decide) (fun _ => ?_) (fun h => absurd (by decide) h)
  refine lv_aload_n hx hb dJ0_init_2_36 rfl (lv_at hl 0 rfl) ?_
  refine lv_null hx hb dJ0_init_2_37 ?_
  refine s_put hx hb hts in_X12 tyX12 tyX12_ok nmX12 hown hK.1 hat rfl 1 (by decide) (hts _ q261) (fun x h => h) rfl rfl rfl rfl (Nat.le_of_ble_eq_true rfl) dJ0_init_2_38 (fun H i hat z oq => ?_)
  have hat : va_at G.1 vwCl (a, .inr (12, [.ref a, .null, u2, .null, .null, .int 0, .int wh])) H := hat
  have hS := hS.put (k := i) z oq rfl
  have hz := z.trans hz
  have hkp := hkp.put oq hga
  refine lv_aload_n hx hb dJ0_init_2_41 rfl (lv_at hl 0 rfl) ?_
  refine lv_aload_nN hx hb dJ0_init_2_42 rfl (lv_at hl 1 rfl) ?_
  refine s_put hx hb hts in_X12 tyX12 tyX12_ok nmX12 hown hK.1 hat rfl 3 (by decide) (hts _ q259) (fun x h => h) rfl rfl rfl rfl (Nat.le_of_ble_eq_true rfl) dJ0_init_2_43 (fun H i hat z oq => ?_)
  have hat : va_at G.1 vwCl (a, .inr (12, [.ref a, .null, u2, .null, .null, .int 0, .int wh])) H := hat
  have hS := hS.put (k := i) z oq rfl
  have hz := z.trans hz
  have hkp := hkp.put oq hga
  refine lv_aload_n hx hb dJ0_init_2_46 rfl (lv_at hl 0 rfl) ?_
  refine lv_aload_nN hx hb dJ0_init_2_47 rfl (lv_at hl 2 rfl) ?_
  refine s_put hx hb hts in_X12 tyX12 tyX12_ok nmX12 hown hK.1 hat rfl 0 (by decide) (hts _ q260) (fun x h => h) rfl rfl rfl rfl (Nat.le_of_ble_eq_true rfl) dJ0_init_2_48 (fun H i hat z oq => ?_)
  have hat : va_at G.1 vwCl (a, .inr (12, [.null, .null, u2, .null, .null, .int 0, .int wh])) H := hat
  have hS := hS.put (k := i) z oq rfl
  have hz := z.trans hz
  have hkp := hkp.put oq hga
  refine lv_iload_n hx hb dJ0_init_2_51 rfl (lv_at hl 3 rfl) ?_
  refine lv_if_ne (tgt := 60) hx hb dJ0_init_2_52 (by decide) (fun h => absurd (by decide) h) (fun _ => ?_)
  refine lv_aload_n hx hb dJ0_init_2_55 rfl (lv_at hl 0 rfl) ?_
  refine lv_null hx hb dJ0_init_2_56 ?_
  refine s_put hx hb hts in_X12 tyX12 tyX12_ok nmX12 hown hK.1 hat rfl 2 (by decide) (hts _ q262) (fun x h => h) rfl rfl rfl rfl (Nat.le_of_ble_eq_true rfl) dJ0_init_2_57 (fun H i hat z oq => ?_)
  have hat : va_at G.1 vwCl (a, .inr (12, [.null, .null, .null, .null, .null, .int 0, .int wh])) H := hat
  have hS := hS.put (k := i) z oq rfl
  have hz := z.trans hz
  have hkp := hkp.put oq hga
  exact rv_W hx hb hr hlk hS (⟨hat, hz⟩) dJ0_init_2_60
set_option maxHeartbeats 4000000 in
theorem M_exc_X12 (l : Launch) {G : GD} (hG : SG G) {H0 : Heap} {a : Nat} {wh : Int32} (hat : va_at G.1 vwCl (a, .inr (12, efs wh)) H0) (hga : G.2.2.heap.size ≤ a) (hkp : Kp G H0) : MetW l G yJ1_init cJ1_init 5 none 2 0 0 (fun q => q = a) [.ref a, .null, .null, .int 0, .int 0] H0 none (fun H => va_at G.1 vwCl (a, .inr (12, efs wh)) H ∧ H.size = H0.size) := by
  refine mx_of (by decide) (Nat.le_of_ble_eq_true rfl) ?_
  intro p e s m below meth c hx hb hr hc hlk hnm hs0 ls hl
  subst hs0
  have hown := hc.2.2.2.1
  have hts := hc.2.2.2.2.1
  have hK := hc.2.2.2.2.2
  have hl : lv_has ls 5 [(0, .ref a), (1, .null), (2, .null), (3, .int 0), (4, .int 0)] := hl
  have hS : va_S (fun q => q = a) s.heap s.heap [] := va_S.rf
  have hz : s.heap.size = s.heap.size := rfl
  obtain ⟨⟨u1, hu1, hz1⟩, ⟨u2, hu2, hz2⟩⟩ := hG
  have hat0 := hat
  refine lv_aload_n hx hb dJ1_init_0 rfl (lv_at hl 0 rfl) ?_
  refine lv_aload_nN hx hb dJ1_init_1 rfl (lv_at hl 1 rfl) ?_
  refine lv_aload_nN hx hb dJ1_init_2 rfl (lv_at hl 2 rfl) ?_
  refine lv_iload_n hx hb dJ1_init_3 rfl (lv_at hl 3 rfl) ?_
  refine lv_iload hx hb dJ1_init_4 (lv_at hl 4 rfl) ?_
  refine ci_W (rest := []) hc (M_thr_X12 l ⟨⟨u1, hu1, hz1⟩, ⟨u2, hu2, hz2⟩⟩ hat hga hkp) q253 q254 q71 q255 rfl nd_J0_init_2 ⟨Nat.le_of_ble_eq_true rfl, Nat.le_of_ble_eq_true rfl⟩ rfl hl.1 rfl (Nat.le_of_ble_eq_true rfl) dJ1_init_6 ⟨Nat.le_of_ble_eq_true rfl, Nat.le_of_ble_eq_true rfl⟩ hS (fun _ h => h) (fun H locs hq hS hz2_ hk => ?_)
  obtain ⟨hat, hz⟩ := hq
  have hkp : Kp G H := fun q hq => (hk q (Nat.lt_trans (Nat.lt_of_lt_of_le hq hga) (va_at.lt hat0)) (fun e => by omega)).trans (hkp q hq)
  exact rv_W hx hb hr hlk hS (⟨hat, hz⟩) dJ1_init_9
set_option maxHeartbeats 4000000 in
theorem M_X12_init (l : Launch) {G : GD} (hG : SG G) {H0 : Heap} {a : Nat} {wh : Int32} (hat : va_at G.1 vwCl (a, .inr (12, efs wh)) H0) (hga : G.2.2.heap.size ≤ a) (hkp : Kp G H0) (w2 : Int32) : MetW l G yX12_init cX12_init 2 none 3 0 0 (fun q => q = a) [.ref a, .int w2] H0 none (fun H => va_at G.1 vwCl (a, .inr (12, efs w2)) H ∧ H.size = H0.size) := by
  refine mx_of (by decide) (Nat.le_of_ble_eq_true rfl) ?_
  intro p e s m below meth c hx hb hr hc hlk hnm hs0 ls hl
  subst hs0
  have hown := hc.2.2.2.1
  have hts := hc.2.2.2.2.1
  have hK := hc.2.2.2.2.2
  have hl : lv_has ls 2 [(0, .ref a), (1, .int w2)] := hl
  have hS : va_S (fun q => q = a) s.heap s.heap [] := va_S.rf
  have hz : s.heap.size = s.heap.size := rfl
  obtain ⟨⟨u1, hu1, hz1⟩, ⟨u2, hu2, hz2⟩⟩ := hG
  have hat0 := hat
  refine lv_aload_n hx hb dX12_init_0 rfl (lv_at hl 0 rfl) ?_
  refine lv_null hx hb dX12_init_1 ?_
  refine lv_null hx hb dX12_init_2 ?_
  refine lv_iconst (v := 0) hx hb dX12_init_3 (by decide) ?_
  refine lv_iconst (v := 0) hx hb dX12_init_4 (by decide) ?_
  refine ci_W (rest := []) hc (M_exc_X12 l ⟨⟨u1, hu1, hz1⟩, ⟨u2, hu2, hz2⟩⟩ hat hga hkp) q700 q251 q72 q252 rfl nd_J1_init ⟨Nat.le_of_ble_eq_true rfl, Nat.le_of_ble_eq_true rfl⟩ rfl hl.1 rfl (Nat.le_of_ble_eq_true rfl) dX12_init_5 ⟨Nat.le_of_ble_eq_true rfl, Nat.le_of_ble_eq_true rfl⟩ hS (fun _ h => h) (fun H locs hq hS hz2_ hk => ?_)
  obtain ⟨hat, hz⟩ := hq
  have hkp : Kp G H := fun q hq => (hk q (Nat.lt_trans (Nat.lt_of_lt_of_le hq hga) (va_at.lt hat0)) (fun e => by omega)).trans (hkp q hq)
  refine lv_aload_n hx hb dX12_init_8 rfl (lv_at hl 0 rfl) ?_
  refine lv_iload_n hx hb dX12_init_9 rfl (lv_at hl 1 rfl) ?_
  refine s_putF hx hb hts in_X12 tyX12 tyX12_ok nmX12 hown hK.1 hat rfl 6 (by decide) (hts _ q701) (fun x h => h) rfl hnm rfl rfl rfl rfl (Nat.le_of_ble_eq_true rfl) dX12_init_10 (fun H i hat z oq => ?_)
  have hat : va_at G.1 vwCl (a, .inr (12, [.null, .null, .null, .null, .null, .int 0, .int w2])) H := hat
  have hS := hS.put (k := i) z oq rfl
  have hz := z.trans hz
  have hkp := hkp.put oq hga
  exact rv_W hx hb hr hlk hS (⟨hat, hz⟩) dX12_init_13
