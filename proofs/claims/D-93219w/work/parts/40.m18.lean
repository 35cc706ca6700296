/-! the reference's constructor -/
set_option maxRecDepth 100000
/-- the fields while it is built: the arrays below j are there -/
def msFs (ad : Nat → Nat) (j : Nat) : List Value := [if 0 < j then .ref (ad 0) else .null, if 1 < j then .ref (ad 1) else .null, if 2 < j then .ref (ad 2) else .null, if 3 < j then .ref (ad 3) else .null, .int 0, if 5 < j then .ref (ad 5) else .null, .int 0, .int 0, .int 0, .int 0, .int 0, if 11 < j then .ref (ad 11) else .null, if 12 < j then .ref (ad 12) else .null, .int 0, .int 0, if 15 < j then .ref (ad 15) else .null, if 16 < j then .ref (ad 16) else .null, .int 0, if 18 < j then .ref (ad 18) else .null, if 19 < j then .ref (ad 19) else .null, if 20 < j then .ref (ad 20) else .null, if 21 < j then .ref (ad 21) else .null, if 22 < j then .ref (ad 22) else .null]
def msEnc (G : GD) (ad : Nat → Nat) (j k : Nat) : Option va_E := match mKnd k with
  | 1 => if k < j then some (.inl (G.2.1 0, mLen k, .inl (fun _ => 0))) else none
  | 2 => if k < j then some (.inl (G.2.1 2, mLen k, .inr (.inl (fun _ => 0)))) else none
  | 3 => some (.inr (3, msFs ad j))
  | _ => none
def MS (G : GD) (A : Nat → Prop) (a j : Nat) (H : Heap) : Prop := ∃ ad : Nat → Nat, ad 23 = a ∧ Wd G A (msEnc G ad j) ad H
theorem msEnc_23 {G : GD} {ad : Nat → Nat} {j : Nat} : msEnc G ad j 23 = some (.inr (3, msFs ad j)) := rfl
theorem mKnd_3 {k : Nat} (h : mKnd k = 3) : k = 23 := by
  unfold mKnd at h
  split at h <;> first | rfl | exact absurd h (by decide)
theorem msEnc_ne {G : GD} {ad : Nat → Nat} {j k r q : Nat} (hjk : j ≤ k) (hgap : ∀ r, r < k → j ≤ r → mKnd r = 4) (hr : r ≠ k) (h23 : r ≠ 23) : msEnc G (fun r => if r = k then q else ad r) (k + 1) r = msEnc G ad j r := by
  have key : mKnd r = 1 ∨ mKnd r = 2 → (r < k + 1 ↔ r < j) := fun hm => by
    constructor
    · intro h
      rcases Nat.lt_or_ge r j with h1 | h1
      · exact h1
      · have := hgap r (by omega) h1
        omega
    · intro h; omega
  unfold msEnc
  split
  · rename_i e; simp only [key (Or.inl e)]
  · rename_i e; simp only [key (Or.inr e)]
  · rename_i e; exact absurd (mKnd_3 e) h23
  · rfl
/-- a new array in its field -/
theorem MS.step {G : GD} {A : Nat → Prop} {a j k N : Nat} {ad : Nat → Nat} {H H1 H2 : Heap} {e0 : va_E} (ha : ad 23 = a) (hW : Wd G A (msEnc G ad j) ad H) (hk : k < 23) (hjk : j ≤ k) (hgap : ∀ r, r < k → j ≤ r → mKnd r = 4) (he0 : ∀ ad' : Nat → Nat, msEnc G ad' (k + 1) k = some e0) (hno : msEnc G ad j k = none)
    (hat : va_at G.1 vwCl (H.size, e0) H1) (hAq : A H.size) (o1 : ∀ q : Nat, q < H.size → H1[q]? = H[q]?) (hfs : (msFs ad j).set k (.ref H.size) = msFs (fun r => if r = k then H.size else ad r) (k + 1))
    (hat2 : va_at G.1 vwCl (a, .inr (3, (msFs ad j).set k (.ref H.size))) H2) (oq : ∀ q : Nat, q ≠ a → H2[q]? = H1[q]?) : MS G A a (k + 1) H2 := by
  have hg : G.2.2.heap.size ≤ H.size := hW.1 _ hAq
  have h23 : (23 : Nat) ≠ k := by omega
  have hW1 : Wd G A (fun r => if r = k then some e0 else msEnc G ad j r) (fun r => if r = k then H.size else ad r) H1 := by
    refine hW.add (r0 := k) (e0 := e0) (by simp) (by simp) (fun r hr => by simp [hr]) hat hAq o1 hg
  refine ⟨fun r => if r = k then H.size else ad r, by simp [h23, ha], ?_⟩
  refine hW1.wr (r0 := 23) (e0 := .inr (3, msFs ad j)) (e1 := .inr (3, msFs (fun r => if r = k then H.size else ad r) (k + 1))) (by simp [h23, msEnc_23]) msEnc_23 (fun r hr => ?_) ?_ ?_
  · by_cases q : r = k
    · subst q; simp [he0]
    · simp only [q, if_false]
      exact msEnc_ne hjk hgap q hr
  · simp only [h23, if_false, ha]
    rw [← hfs]; exact hat2
  · intro q hq
    simp only [h23, if_false, ha] at hq
    exact oq q hq
section MSR
variable {p : Program} {l : Launch} {e : Env} {R : Room} {s : State} {m : MethodId} {args : Array Value} {below : List Frame} {meth : Method} {c : Code} {H : Heap} {locs : List Loc} {cells slots : Nat} {Q : State → Prop}
variable {pc : Nat} {ls : Array Slot} {rest : List Value} {A : Nat → Prop} {H0 : Heap} {G : GD} {cc : ByteArray} {nL index a j : Nat}
theorem ms_I (hc : Cx G p s m args c cc nL RX3) (hnm : meth.name = "<init>") (hW : MS G A a j H) (hS : va_S A H0 H locs) (hA : ∀ q, H0.size ≤ q → A q) (k : Nat) (hk : k < 23) (h1 : mKnd k = 1) (hjk : j ≤ k) (hgap : ∀ r, r < k → j ≤ r → mKnd r = 4) {n : Int32} {N : Nat} (hN : n.toNatClampNeg = N) (hl : mLen k = N) (hn : ¬ n < 0) (hbytes : N * 4 ≤ 536870912) (hcells : cells + 1 ≤ R.cells) (hslots : slots + N ≤ R.slots)
    (hlink : Cond.fieldLink RX3 index RX3 (TX3 k).2.1 (TX3 k).2.2.1 ∈ lw_all) (hT : (TX3 k).1 = RX3) (hfin : (TX3 k).2.2.2 = true) {ty : FieldType} (hty : parseFieldDescriptor (TX3 k).2.2.1 = some ty) (hnr : ∀ q, narrow ty (.ref q) = .ref q) (hfit : ∀ q, fits ty (.ref q) = true) (hfs : ∀ (ad : Nat → Nat) (q : Nat), (msFs ad j).set k (.ref q) = msFs (fun r => if r = k then q else ad r) (k + 1))
    (hdg : decode cc pc = .ok (.newarray .int, 2)) (hdg2 : decode cc (pc + 2) = .ok (.putfield index, 3))
    (kk : ∀ (H1 : Heap) (locs1 : List Loc), MS G A a (k + 1) H1 → va_S A H0 H1 locs1 → W p l e R s m args below meth c H1 locs1 (cells + 1) (slots + N) Q (F0 m (pc + 2 + 3) ls rest)) : W p l e R s m args below meth c H locs cells slots Q (F0 m pc ls (.int n :: .ref a :: rest)) := by
  obtain ⟨ad, ha, hW⟩ := hW
  refine a_newI hc hS hN hn hbytes hcells hslots hdg fun H1 e1 hS1 z1 o1 => ?_
  obtain ⟨hx, hb, hml, hown, hts, hK⟩ := hc
  have hobj : va_at G.1 vwCl (a, .inr (3, msFs ad j)) H := by rw [← ha]; exact hW.at (r := 23) rfl
  have hAa : A a := by rw [← ha]; exact hW.mem (r := 23) rfl
  refine s_putF hx hb hts in_X3 tyX3 tyX3_ok nmX3 hown hK.1 (hobj.kept (o1 _ hobj.lt)) rfl k hk (hts _ hlink) (fun x h => by rw [← hT]; rw [hT] at h ⊢; exact h) hfin hnm hT hty (hnr _) (hfit _) hk hdg2 fun H2 i e2 z2 oq => ?_
  refine kk H2 _ (MS.step (N := N) ha hW hk hjk hgap (e0 := .inl (G.2.1 0, N, .inl (fun _ => 0))) (fun ad' => by simp only [msEnc, h1, hl]; rw [if_pos (by omega)]) (by simp only [msEnc, h1]; rw [if_neg (by omega)]) e1 (hA _ hS.1) o1 (hfs _ _) e2 oq) (hS1.put z2 oq hAa)
theorem ms_L (hc : Cx G p s m args c cc nL RX3) (hnm : meth.name = "<init>") (hW : MS G A a j H) (hS : va_S A H0 H locs) (hA : ∀ q, H0.size ≤ q → A q) (k : Nat) (hk : k < 23) (h1 : mKnd k = 2) (hjk : j ≤ k) (hgap : ∀ r, r < k → j ≤ r → mKnd r = 4) {n : Int32} {N : Nat} (hN : n.toNatClampNeg = N) (hl : mLen k = N) (hn : ¬ n < 0) (hbytes : N * 8 ≤ 536870912) (hcells : cells + 1 ≤ R.cells) (hslots : slots + N ≤ R.slots)
    (hlink : Cond.fieldLink RX3 index RX3 (TX3 k).2.1 (TX3 k).2.2.1 ∈ lw_all) (hT : (TX3 k).1 = RX3) (hfin : (TX3 k).2.2.2 = true) {ty : FieldType} (hty : parseFieldDescriptor (TX3 k).2.2.1 = some ty) (hnr : ∀ q, narrow ty (.ref q) = .ref q) (hfit : ∀ q, fits ty (.ref q) = true) (hfs : ∀ (ad : Nat → Nat) (q : Nat), (msFs ad j).set k (.ref q) = msFs (fun r => if r = k then q else ad r) (k + 1))
    (hdg : decode cc pc = .ok (.newarray .long, 2)) (hdg2 : decode cc (pc + 2) = .ok (.putfield index, 3))
    (kk : ∀ (H1 : Heap) (locs1 : List Loc), MS G A a (k + 1) H1 → va_S A H0 H1 locs1 → W p l e R s m args below meth c H1 locs1 (cells + 1) (slots + N) Q (F0 m (pc + 2 + 3) ls rest)) : W p l e R s m args below meth c H locs cells slots Q (F0 m pc ls (.int n :: .ref a :: rest)) := by
  obtain ⟨ad, ha, hW⟩ := hW
  refine a_newL hc hS hN hn hbytes hcells hslots hdg fun H1 e1 hS1 z1 o1 => ?_
  obtain ⟨hx, hb, hml, hown, hts, hK⟩ := hc
  have hobj : va_at G.1 vwCl (a, .inr (3, msFs ad j)) H := by rw [← ha]; exact hW.at (r := 23) rfl
  have hAa : A a := by rw [← ha]; exact hW.mem (r := 23) rfl
  refine s_putF hx hb hts in_X3 tyX3 tyX3_ok nmX3 hown hK.1 (hobj.kept (o1 _ hobj.lt)) rfl k hk (hts _ hlink) (fun x h => by rw [← hT]; rw [hT] at h ⊢; exact h) hfin hnm hT hty (hnr _) (hfit _) hk hdg2 fun H2 i e2 z2 oq => ?_
  refine kk H2 _ (MS.step (N := N) ha hW hk hjk hgap (e0 := .inl (G.2.1 2, N, .inr (.inl (fun _ => 0)))) (fun ad' => by simp only [msEnc, h1, hl]; rw [if_pos (by omega)]) (by simp only [msEnc, h1]; rw [if_neg (by omega)]) e1 (hA _ hS.1) o1 (hfs _ _) e2 oq) (hS1.put z2 oq hAa)
end MSR
/-- what the constructor leaves -/
def iniF : Nat → Nat → Int32 := up2 (up2 (up2 (fun _ _ => 0) 0 2 10) 0 6 5) 0 8 1
theorem MS.mw {G : GD} {A : Nat → Prop} {a : Nat} {H : Heap} (h : MS G A a 23 H) : ∃ ad : Nat → Nat, ad 23 = a ∧ MW G A (fun _ _ => 0) (fun _ _ => 0) ad H := by
  obtain ⟨ad, ha, hW⟩ := h
  have e : mEnc G (fun _ _ => 0) (fun _ _ => 0) ad = msEnc G ad 23 := by
    funext k
    have h1 : mKnd k = 1 ∨ mKnd k = 2 → k < 23 := fun h => by
      unfold mKnd at h
      split at h <;> first | decide | (rcases h with h | h <;> exact absurd h (by decide))
    unfold mEnc msEnc
    rcases hx : mKnd k with _ | _ | _ | _ | x
    · rfl
    · show some _ = if k < 23 then some _ else none
      rw [if_pos (h1 (Or.inl hx))]
    · show some _ = if k < 23 then some _ else none
      rw [if_pos (h1 (Or.inr hx))]
    · rfl
    · rfl
  exact ⟨ad, ha, by unfold MW; rw [e]; exact hW⟩
theorem nd_X3_init : yX3_init.cls ≠ "java/lang/invoke/MethodHandle" ∧ yX3_init.cls ≠ "java/lang/invoke/VarHandle" ∧ (parseMethodDescriptor yX3_init.desc).map (fun d => d.parameters.length) = some 0 := by decide +kernel
set_option maxHeartbeats 8000000 in
theorem M_init (l : Launch) {G : GD} {A : Nat → Prop} {H0 : Heap} {a : Nat} (hW : MS G A a 0 H0) (hA : ∀ q, H0.size ≤ q → A q) : MetW l G yX3_init cX3_init 1 none 1 14 915 A [.ref a] H0 none (fun H => ∃ ad : Nat → Nat, ad 23 = a ∧ MW G A iniF (fun _ _ => 0) ad H) := by
  refine mx_of (by decide) (Nat.le_of_ble_eq_true rfl) ?_
  intro p e s m below meth c hx hb hr hc hlk hnm hs0 ls hl
  subst hs0
  have hown := hc.2.2.2.1
  have hts := hc.2.2.2.2.1
  have hK := hc.2.2.2.2.2
  have hl : lv_has ls 1 [(0, .ref a)] := hl
  have hS : va_S A s.heap s.heap [] := va_S.rf
  refine lv_aload_n hx hb dX3_init_0 rfl (lv_at hl 0 rfl) ?_
  refine a_oinit hc q999 hl.1 dX3_init_1 (Nat.le_of_ble_eq_true rfl) (Nat.le_of_ble_eq_true rfl) ?_
  refine lv_aload_n hx hb dX3_init_4 rfl (lv_at hl 0 rfl) ?_
  refine lv_sipush (v := 169) hx hb dX3_init_5 (by decide) ?_
  refine ms_I (N := 169) hc hnm hW hS hA 0 (by decide) rfl (by decide) (by decide) rfl rfl (by decide) (by decide) (Nat.le_of_ble_eq_true rfl) (Nat.le_of_ble_eq_true rfl) q1000 rfl rfl rfl (fun _ => rfl) (fun _ => rfl) (fun _ _ => rfl) dX3_init_8 dX3_init_10 (fun H locs hW hS => ?_)
  refine lv_aload_n hx hb dX3_init_13 rfl (lv_at hl 0 rfl) ?_
  refine lv_sipush (v := 169) hx hb dX3_init_14 (by decide) ?_
  refine ms_I (N := 169) hc hnm hW hS hA 1 (by decide) rfl (by decide) (by decide) rfl rfl (by decide) (by decide) (Nat.le_of_ble_eq_true rfl) (Nat.le_of_ble_eq_true rfl) q1001 rfl rfl rfl (fun _ => rfl) (fun _ => rfl) (fun _ _ => rfl) dX3_init_17 dX3_init_19 (fun H locs hW hS => ?_)
  refine lv_aload_n hx hb dX3_init_22 rfl (lv_at hl 0 rfl) ?_
  refine lv_sipush (v := 169) hx hb dX3_init_23 (by decide) ?_
  refine ms_I (N := 169) hc hnm hW hS hA 2 (by decide) rfl (by decide) (by decide) rfl rfl (by decide) (by decide) (Nat.le_of_ble_eq_true rfl) (Nat.le_of_ble_eq_true rfl) q1002 rfl rfl rfl (fun _ => rfl) (fun _ => rfl) (fun _ _ => rfl) dX3_init_26 dX3_init_28 (fun H locs hW hS => ?_)
  refine lv_aload_n hx hb dX3_init_31 rfl (lv_at hl 0 rfl) ?_
  refine lv_bipush (v := 7) hx hb dX3_init_32 (by decide) ?_
  refine ms_I (N := 7) hc hnm hW hS hA 3 (by decide) rfl (by decide) (by decide) rfl rfl (by decide) (by decide) (Nat.le_of_ble_eq_true rfl) (Nat.le_of_ble_eq_true rfl) q1003 rfl rfl rfl (fun _ => rfl) (fun _ => rfl) (fun _ _ => rfl) dX3_init_34 dX3_init_36 (fun H locs hW hS => ?_)
  refine lv_aload_n hx hb dX3_init_39 rfl (lv_at hl 0 rfl) ?_
  refine lv_bipush (v := 120) hx hb dX3_init_40 (by decide) ?_
  refine ms_I (N := 120) hc hnm hW hS hA 5 (by decide) rfl (by decide) (by decide) rfl rfl (by decide) (by decide) (Nat.le_of_ble_eq_true rfl) (Nat.le_of_ble_eq_true rfl) q1005 rfl rfl rfl (fun _ => rfl) (fun _ => rfl) (fun _ _ => rfl) dX3_init_42 dX3_init_44 (fun H locs hW hS => ?_)
  refine lv_aload_n hx hb dX3_init_47 rfl (lv_at hl 0 rfl) ?_
  refine lv_bipush (v := 6) hx hb dX3_init_48 (by decide) ?_
  refine ms_I (N := 6) hc hnm hW hS hA 11 (by decide) rfl (by decide) (by decide) rfl rfl (by decide) (by decide) (Nat.le_of_ble_eq_true rfl) (Nat.le_of_ble_eq_true rfl) q1011 rfl rfl rfl (fun _ => rfl) (fun _ => rfl) (fun _ _ => rfl) dX3_init_50 dX3_init_52 (fun H locs hW hS => ?_)
  refine lv_aload_n hx hb dX3_init_55 rfl (lv_at hl 0 rfl) ?_
  refine lv_bipush (v := 6) hx hb dX3_init_56 (by decide) ?_
  refine ms_I (N := 6) hc hnm hW hS hA 12 (by decide) rfl (by decide) (by decide) rfl rfl (by decide) (by decide) (Nat.le_of_ble_eq_true rfl) (Nat.le_of_ble_eq_true rfl) q1012 rfl rfl rfl (fun _ => rfl) (fun _ => rfl) (fun _ _ => rfl) dX3_init_58 dX3_init_60 (fun H locs hW hS => ?_)
  refine lv_aload_n hx hb dX3_init_63 rfl (lv_at hl 0 rfl) ?_
  refine lv_bipush (v := 20) hx hb dX3_init_64 (by decide) ?_
  refine ms_I (N := 20) hc hnm hW hS hA 15 (by decide) rfl (by decide) (by decide) rfl rfl (by decide) (by decide) (Nat.le_of_ble_eq_true rfl) (Nat.le_of_ble_eq_true rfl) q1015 rfl rfl rfl (fun _ => rfl) (fun _ => rfl) (fun _ _ => rfl) dX3_init_66 dX3_init_68 (fun H locs hW hS => ?_)
  refine lv_aload_n hx hb dX3_init_71 rfl (lv_at hl 0 rfl) ?_
  refine lv_bipush (v := 21) hx hb dX3_init_72 (by decide) ?_
  refine ms_I (N := 21) hc hnm hW hS hA 16 (by decide) rfl (by decide) (by decide) rfl rfl (by decide) (by decide) (Nat.le_of_ble_eq_true rfl) (Nat.le_of_ble_eq_true rfl) q1016 rfl rfl rfl (fun _ => rfl) (fun _ => rfl) (fun _ _ => rfl) dX3_init_74 dX3_init_76 (fun H locs hW hS => ?_)
  refine lv_aload_n hx hb dX3_init_79 rfl (lv_at hl 0 rfl) ?_
  refine lv_bipush (v := 20) hx hb dX3_init_80 (by decide) ?_
  refine ms_I (N := 20) hc hnm hW hS hA 18 (by decide) rfl (by decide) (by decide) rfl rfl (by decide) (by decide) (Nat.le_of_ble_eq_true rfl) (Nat.le_of_ble_eq_true rfl) q1018 rfl rfl rfl (fun _ => rfl) (fun _ => rfl) (fun _ _ => rfl) dX3_init_82 dX3_init_84 (fun H locs hW hS => ?_)
  refine lv_aload_n hx hb dX3_init_87 rfl (lv_at hl 0 rfl) ?_
  refine lv_iconst (v := 4) hx hb dX3_init_88 (by decide) ?_
  refine ms_I (N := 4) hc hnm hW hS hA 19 (by decide) rfl (by decide) (by decide) rfl rfl (by decide) (by decide) (Nat.le_of_ble_eq_true rfl) (Nat.le_of_ble_eq_true rfl) q1019 rfl rfl rfl (fun _ => rfl) (fun _ => rfl) (fun _ _ => rfl) dX3_init_89 dX3_init_91 (fun H locs hW hS => ?_)
  refine lv_aload_n hx hb dX3_init_94 rfl (lv_at hl 0 rfl) ?_
  refine lv_iconst (v := 4) hx hb dX3_init_95 (by decide) ?_
  refine ms_I (N := 4) hc hnm hW hS hA 20 (by decide) rfl (by decide) (by decide) rfl rfl (by decide) (by decide) (Nat.le_of_ble_eq_true rfl) (Nat.le_of_ble_eq_true rfl) q1020 rfl rfl rfl (fun _ => rfl) (fun _ => rfl) (fun _ _ => rfl) dX3_init_96 dX3_init_98 (fun H locs hW hS => ?_)
  refine lv_aload_n hx hb dX3_init_101 rfl (lv_at hl 0 rfl) ?_
  refine lv_sipush (v := 160) hx hb dX3_init_102 (by decide) ?_
  refine ms_L (N := 160) hc hnm hW hS hA 21 (by decide) rfl (by decide) (by decide) rfl rfl (by decide) (by decide) (Nat.le_of_ble_eq_true rfl) (Nat.le_of_ble_eq_true rfl) q1021 rfl rfl rfl (fun _ => rfl) (fun _ => rfl) (fun _ _ => rfl) dX3_init_105 dX3_init_107 (fun H locs hW hS => ?_)
  refine lv_aload_n hx hb dX3_init_110 rfl (lv_at hl 0 rfl) ?_
  refine lv_bipush (v := 40) hx hb dX3_init_111 (by decide) ?_
  refine ms_L (N := 40) hc hnm hW hS hA 22 (by decide) rfl (by decide) (by decide) rfl rfl (by decide) (by decide) (Nat.le_of_ble_eq_true rfl) (Nat.le_of_ble_eq_true rfl) q1022 rfl rfl rfl (fun _ => rfl) (fun _ => rfl) (fun _ _ => rfl) dX3_init_113 dX3_init_115 (fun H locs hW hS => ?_)
  obtain ⟨ad, ea, hV⟩ := hW.mw
  clear hW
  subst ea
  have hW := hV
  refine lv_aload_n hx hb dX3_init_118 rfl (lv_at hl 0 rfl) ?_
  refine m_get hc hW 0 (by decide) rfl q1000 rfl rfl dX3_init_119 ?_
  refine lv_iconst (v := 2) hx hb dX3_init_122 (by decide) ?_
  refine lv_bipush (v := 10) hx hb dX3_init_123 (by decide) ?_
  refine m_ist hc hW hS 0 rfl (n := 169) rfl (ix_eq (k := 2) rfl (by decide) (by decide)) dX3_init_125 (fun H locs hW hS hz => ?_)
  refine lv_aload_n hx hb dX3_init_126 rfl (lv_at hl 0 rfl) ?_
  refine m_get hc hW 0 (by decide) rfl q1000 rfl rfl dX3_init_127 ?_
  refine lv_bipush (v := 6) hx hb dX3_init_130 (by decide) ?_
  refine lv_iconst (v := 5) hx hb dX3_init_132 (by decide) ?_
  refine m_ist hc hW hS 0 rfl (n := 169) rfl (ix_eq (k := 6) rfl (by decide) (by decide)) dX3_init_133 (fun H locs hW hS hz => ?_)
  refine lv_aload_n hx hb dX3_init_134 rfl (lv_at hl 0 rfl) ?_
  refine m_get hc hW 0 (by decide) rfl q1000 rfl rfl dX3_init_135 ?_
  refine lv_bipush (v := 8) hx hb dX3_init_138 (by decide) ?_
  refine lv_iconst (v := 1) hx hb dX3_init_140 (by decide) ?_
  refine m_ist hc hW hS 0 rfl (n := 169) rfl (ix_eq (k := 8) rfl (by decide) (by decide)) dX3_init_141 (fun H locs hW hS hz => ?_)
  exact rv_W hx hb hr hlk hS (⟨ad, rfl, hW⟩) dX3_init_142
