/-! a house's world: the object (0), its slots' array (1), night (2), pressures (3), pressures before (4), slots (10 + i), gaps (40 + i) -/
set_option maxRecDepth 100000
/-- the same cells told otherwise -/
theorem Wd.conv {ρ : Type} {G : GD} {A : Nat → Prop} {ct ct' : ρ → Option va_E} {ad : ρ → Nat} {H : Heap} (h : Wd G A ct ad H) (hc : ∀ q e', ct' q = some e' → ∃ e, ct q = some e ∧ ∀ K : Heap, va_at G.1 vwCl (ad q, e) K → va_at G.1 vwCl (ad q, e') K) : Wd G A ct' ad H := by
  have hn : ∀ q, ct' q ≠ none → ct q ≠ none := fun q hq => by
    cases he : ct' q with
    | none => exact absurd he hq
    | some e' =>
      obtain ⟨e, h1, -⟩ := hc q e' he
      rw [h1]
      exact fun z => by cases z
  exact ⟨h.1, h.2.1, fun q q' hq hq' e => h.2.2.1 q q' (hn q hq) (hn q' hq') e, fun q e' he => by
    obtain ⟨e, h1, h2⟩ := hc q e' he
    exact ⟨h.mem h1, h2 H (h.at h1)⟩⟩
theorem at_ext {G : GD} {a n : Nat} {cA : ClassId} {f f' : Nat → Int32} (h : ∀ j, j < n → f' j = f j) (K : Heap) (hK : va_at G.1 vwCl (a, .inl (cA, n, .inl f)) K) : va_at G.1 vwCl (a, .inl (cA, n, .inl f')) K := by
  have q2 : K[a]? = some (vp_cell _ _) := hK
  show K[a]? = some (vp_cell _ _)
  rw [q2, vp_cell_i, vp_cell_i]
  exact congrArg some (arrV_ext fun j hj => by rw [h j hj]).symm
theorem at_extL {G : GD} {a n : Nat} {cA : ClassId} {f f' : Nat → Int64} (h : ∀ j, j < n → f' j = f j) (K : Heap) (hK : va_at G.1 vwCl (a, .inl (cA, n, .inr (.inl f))) K) : va_at G.1 vwCl (a, .inl (cA, n, .inr (.inl f'))) K := by
  have q2 : K[a]? = some (vp_cell _ _) := hK
  show K[a]? = some (vp_cell _ _)
  rw [q2, vp_cell_l, vp_cell_l]
  exact congrArg some (arrV_ext fun j hj => by rw [h j hj]).symm
def hFs (r : Nat → Int32) (u : Nat → Nat → Int32) (ah : Nat → Nat) : List Value := [.int (r 0), .int (r 1), .ref (ah 1), .ref (ah 2), .int (r 8), .int (u 0 0), .ref (ah 3), .ref (ah 4), .int (u 3 0), .int (u 4 0)]
def hAd (ah ga : Nat → Nat) (q : Nat) : Nat := if q < 40 then ah q else ga (q - 40)
def hEnc (G : GD) (N : Nat) (r : Nat → Int32) (u : Nat → Nat → Int32) (hv : Nat → Value) (ah ga : Nat → Nat) (q : Nat) : Option va_E :=
  if q = 0 then some (.inr (1, hFs r u ah))
  else if q = 1 then some (.inl (G.2.1 4, 20, .inr (.inr (.inr (.inr (fun i => some (ah (10 + i))))))))
  else if q = 2 then some (.inl (G.2.1 0, 6, .inl (fun j => r (2 + j))))
  else if q = 3 then some (.inl (G.2.1 0, 6, .inl (u 1)))
  else if q = 4 then some (.inl (G.2.1 0, 6, .inl (u 2)))
  else if 10 ≤ q ∧ q < 30 then some (.inr (2, [if q - 10 < N then .ref (ga (q - 10)) else hv (q - 10)]))
  else if 40 ≤ q ∧ q < 40 + N then some (.inr (5 + gkP r (q - 40), gfs r (q - 40)))
  else none
abbrev HW (G : GD) (A : Nat → Prop) (N : Nat) (r : Nat → Int32) (u : Nat → Nat → Int32) (hv : Nat → Value) (ah ga : Nat → Nat) (H : Heap) : Prop := Wd G A (hEnc G N r u hv ah ga) (hAd ah ga) H
section HWA
variable {G : GD} {A : Nat → Prop} {N : Nat} {r r' : Nat → Int32} {u u' : Nat → Nat → Int32} {hv hv' : Nat → Value} {ah ga : Nat → Nat} {H : Heap}
theorem hE_s {i : Nat} (hi : i < 20) : hEnc G N r u hv ah ga (10 + i) = some (.inr (2, [if i < N then .ref (ga i) else hv i])) := by
  unfold hEnc
  rw [if_neg (by omega), if_neg (by omega), if_neg (by omega), if_neg (by omega), if_neg (by omega), if_pos (by omega), Nat.add_sub_cancel_left]
theorem hE_g {i : Nat} (hi : i < N) : hEnc G N r u hv ah ga (40 + i) = some (.inr (5 + gkP r i, gfs r i)) := by
  unfold hEnc
  rw [if_neg (by omega), if_neg (by omega), if_neg (by omega), if_neg (by omega), if_neg (by omega), if_neg (by omega), if_pos (by omega), Nat.add_sub_cancel_left]
theorem hE_some {q : Nat} (h : hEnc G N r u hv ah ga q ≠ none) : q < 5 ∨ (10 ≤ q ∧ q < 30) ∨ (40 ≤ q ∧ q < 40 + N) := by
  refine Classical.byContradiction fun hn => h ?_
  unfold hEnc
  rw [if_neg (by omega), if_neg (by omega), if_neg (by omega), if_neg (by omega), if_neg (by omega), if_neg (by omega), if_neg (by omega)]
theorem hAd_s {i : Nat} (hi : i < 20) : hAd ah ga (10 + i) = ah (10 + i) := if_pos (by omega)
theorem hAd_g {i : Nat} : hAd ah ga (40 + i) = ga i := by
  unfold hAd
  rw [if_neg (by omega), Nat.add_sub_cancel_left]
theorem HW.o (h : HW G A N r u hv ah ga H) : va_at G.1 vwCl (ah 0, .inr (1, hFs r u ah)) H := h.at (r := 0) rfl
theorem HW.sa (h : HW G A N r u hv ah ga H) : va_at G.1 vwCl (ah 1, .inl (G.2.1 4, 20, .inr (.inr (.inr (.inr (fun i => some (ah (10 + i)))))))) H := h.at (r := 1) rfl
theorem HW.nt (h : HW G A N r u hv ah ga H) : NtA G r (ah 2) H := h.at (r := 2) rfl
theorem HW.pr (h : HW G A N r u hv ah ga H) : va_at G.1 vwCl (ah 3, .inl (G.2.1 0, 6, .inl (u 1))) H := h.at (r := 3) rfl
theorem HW.bf (h : HW G A N r u hv ah ga H) : va_at G.1 vwCl (ah 4, .inl (G.2.1 0, 6, .inl (u 2))) H := h.at (r := 4) rfl
theorem HW.sl (h : HW G A N r u hv ah ga H) {i : Nat} (hi : i < 20) : va_at G.1 vwCl (ah (10 + i), .inr (2, [if i < N then .ref (ga i) else hv i])) H := by
  have := h.at (hE_s hi)
  rw [hAd_s hi] at this
  exact this
theorem HW.gp (h : HW G A N r u hv ah ga H) {i : Nat} (hi : i < N) : va_at G.1 vwCl (ga i, .inr (5 + gkP r i, gfs r i)) H := by
  have := h.at (hE_g hi)
  rw [hAd_g] at this
  exact this
theorem HW.mg (h : HW G A N r u hv ah ga H) {i : Nat} (hi : i < N) : A (ga i) := by
  have := h.mem (hE_g hi)
  rw [hAd_g] at this
  exact this
theorem gfs_ext {i : Nat} (h : ∀ w, w < 8 → r' (gp i w) = r (gp i w)) : gfs r' i = gfs r i ∧ gkP r' i = gkP r i := by
  unfold gfs gkP
  rw [h 0 (by decide), h 1 (by decide), h 2 (by decide), h 3 (by decide), h 4 (by decide), h 5 (by decide), h 6 (by decide), h 7 (by decide)]
  exact ⟨rfl, rfl⟩
/-- only what is looked at counts: all roles but the object -/
theorem hEnc_convQ {q : Nat} (hr : ∀ j, 2 ≤ j ∧ j < 8 → r' j = r j) (hgq : 40 ≤ q → q < 40 + N → gfs r' (q - 40) = gfs r (q - 40) ∧ gkP r' (q - 40) = gkP r (q - 40)) (hu1 : ∀ j, j < 6 → u' 1 j = u 1 j) (hu2 : ∀ j, j < 6 → u' 2 j = u 2 j) (hh : ∀ i, N ≤ i → hv' i = hv i) (hq : q ≠ 0) (e' : va_E) (he : hEnc G N r' u' hv' ah ga q = some e') :
    ∃ e, hEnc G N r u hv ah ga q = some e ∧ ∀ K : Heap, va_at G.1 vwCl (hAd ah ga q, e) K → va_at G.1 vwCl (hAd ah ga q, e') K := by
  unfold hEnc at he ⊢
  rw [if_neg hq] at he ⊢
  by_cases c1 : q = 1
  · rw [if_pos c1] at he ⊢
    cases he
    exact ⟨_, rfl, fun K h => h⟩
  rw [if_neg c1] at he ⊢
  by_cases c2 : q = 2
  · rw [if_pos c2] at he ⊢
    cases he
    exact ⟨_, rfl, at_ext fun j hj => hr _ (by omega)⟩
  rw [if_neg c2] at he ⊢
  by_cases c3 : q = 3
  · rw [if_pos c3] at he ⊢
    cases he
    exact ⟨_, rfl, at_ext hu1⟩
  rw [if_neg c3] at he ⊢
  by_cases c4 : q = 4
  · rw [if_pos c4] at he ⊢
    cases he
    exact ⟨_, rfl, at_ext hu2⟩
  rw [if_neg c4] at he ⊢
  by_cases c5 : 10 ≤ q ∧ q < 30
  · rw [if_pos c5] at he ⊢
    cases he
    refine ⟨_, rfl, fun K h => ?_⟩
    by_cases hi : q - 10 < N
    · rw [if_pos hi] at h ⊢
      exact h
    · rw [if_neg hi] at h ⊢
      rw [hh _ (by omega)]
      exact h
  rw [if_neg c5] at he ⊢
  by_cases c6 : 40 ≤ q ∧ q < 40 + N
  · rw [if_pos c6] at he ⊢
    cases he
    refine ⟨_, rfl, fun K h => ?_⟩
    have := hgq (by omega) (by omega)
    rw [this.1, this.2]
    exact h
  rw [if_neg c6] at he
  cases he
theorem hEnc_conv (hr : ∀ j, (2 ≤ j ∧ j < 8) ∨ (9 ≤ j ∧ j < 9 + 8 * N) → r' j = r j) (hu1 : ∀ j, j < 6 → u' 1 j = u 1 j) (hu2 : ∀ j, j < 6 → u' 2 j = u 2 j) (hh : ∀ i, N ≤ i → hv' i = hv i) {q : Nat} (hq : q ≠ 0) (e' : va_E) (he : hEnc G N r' u' hv' ah ga q = some e') :
    ∃ e, hEnc G N r u hv ah ga q = some e ∧ ∀ K : Heap, va_at G.1 vwCl (hAd ah ga q, e) K → va_at G.1 vwCl (hAd ah ga q, e') K :=
  hEnc_convQ (fun j hj => hr j (Or.inl hj)) (fun h1 h2 => gfs_ext (fun w hw => hr _ (Or.inr (by show 9 ≤ 9 + 8 * (q - 40) + w ∧ 9 + 8 * (q - 40) + w < _; omega)))) hu1 hu2 hh hq e' he
theorem HW.of0 (h : Wd G A (fun q => if q = 0 then some (.inr (1, hFs r' u' ah)) else hEnc G N r u hv ah ga q) (hAd ah ga) H) (hr : ∀ j, (2 ≤ j ∧ j < 8) ∨ (9 ≤ j ∧ j < 9 + 8 * N) → r' j = r j) (hu1 : ∀ j, j < 6 → u' 1 j = u 1 j) (hu2 : ∀ j, j < 6 → u' 2 j = u 2 j) : HW G A N r' u' hv ah ga H := by
  refine h.conv fun q e' he => ?_
  by_cases hq : q = 0
  · subst hq
    cases he
    exact ⟨_, rfl, fun K h => h⟩
  · obtain ⟨e, h1, h2⟩ := hEnc_conv (r := r) (u := u) (hv := hv) hr hu1 hu2 (fun _ _ => rfl) hq e' he
    exact ⟨e, (if_neg hq).trans h1, h2⟩
theorem HW.cv (h : HW G A N r u hv ah ga H) (h0 : r' 0 = r 0) (h1 : r' 1 = r 1) (h8 : r' 8 = r 8) (hr : ∀ j, (2 ≤ j ∧ j < 8) ∨ (9 ≤ j ∧ j < 9 + 8 * N) → r' j = r j) (hu0 : u' 0 0 = u 0 0) (hu3 : u' 3 0 = u 3 0) (hu4 : u' 4 0 = u 4 0) (hu1 : ∀ j, j < 6 → u' 1 j = u 1 j) (hu2 : ∀ j, j < 6 → u' 2 j = u 2 j) (hh : ∀ i, N ≤ i → hv' i = hv i) : HW G A N r' u' hv' ah ga H := by
  refine h.conv fun q e' he => ?_
  by_cases hq : q = 0
  · subst hq
    cases he
    refine ⟨_, rfl, fun K h => ?_⟩
    unfold hFs at h ⊢
    rw [h0, h1, h8, hu0, hu3, hu4]
    exact h
  · exact hEnc_conv hr hu1 hu2 hh hq e' he
/-- a world with fewer gaps: the slots hold what they held -/
theorem HW.drop (h : HW G A N r u hv ah ga H) : HW G A 0 r u (fun i => if i < N then .ref (ga i) else hv i) ah ga H := by
  refine h.conv fun q e' he => ?_
  have hq : q < 5 ∨ (10 ≤ q ∧ q < 30) := by
    have := hE_some (show hEnc G 0 r u (fun i => if i < N then .ref (ga i) else hv i) ah ga q ≠ none by rw [he]; exact fun z => by cases z)
    omega
  rcases hq with hq | hq
  · refine ⟨e', ?_, fun K h => h⟩
    rw [← he]
    rcases (show q = 0 ∨ q = 1 ∨ q = 2 ∨ q = 3 ∨ q = 4 by omega) with rfl | rfl | rfl | rfl | rfl <;> rfl
  · obtain ⟨i, rfl⟩ : ∃ i, q = 10 + i := ⟨q - 10, by omega⟩
    rw [hE_s (by omega)] at he
    cases he
    refine ⟨_, hE_s (by omega), fun K h => ?_⟩
    rw [if_neg (Nat.not_lt_zero i)]
    exact h
/-- the pressures that are kept are right -/
def HCok (r : Nat → Int32) (u : Nat → Nat → Int32) : Prop := (u 0 0 = 0 ∨ u 0 0 = 1) ∧ (u 0 0 = 1 → (∀ j, j < 6 → u 1 j = prP r j) ∧ u 3 0 = nI (rdP r) ∧ u 4 0 = b2i (rdP r = 60))
def HS (G : GD) (A : Nat → Prop) (N : Nat) (r : Nat → Int32) (ah ga : Nat → Nat) (H : Heap) : Prop := ∃ u hv, HCok r u ∧ HW G A N r u hv ah ga H
theorem HCok.of0 (h : u 0 0 = 0) : HCok r u := ⟨Or.inl h, fun h1 => absurd (h.symm.trans h1) (by decide)⟩
end HWA
section HWR
variable {p : Program} {l : Launch} {e : Env} {R : Room} {s : State} {m : MethodId} {args : Array Value} {below : List Frame} {meth : Method} {c : Code} {H H0 : Heap} {locs : List Loc} {cells slots : Nat} {Q : State → Prop}
variable {pc : Nat} {ls : Array Slot} {rest : List Value} {A : Nat → Prop} {G : GD} {cc : ByteArray} {nL index : Nat} {own : String} {N : Nat} {r r' : Nat → Int32} {u u' : Nat → Nat → Int32} {hv : Nat → Value} {ah ga : Nat → Nat}
theorem HW.recv (hK : KV G s) (hW : HW G A N r u hv ah ga H) : ∃ cell : Cell, H[ah 0]? = some cell ∧ cell.vm.isStatics = false ∧ s.vm.findClass RX1 = some cell.cls := o_recv hK hW.o rfl
theorem h_get (hc : Cx G p s m args c cc nL own) (hW : HW G A N r u hv ah ga H) (k : Nat) (hk : k < 10) {ref : String} (href : ref = RX1) (hlink : Cond.fieldLink own index ref (TX1 k).2.1 (TX1 k).2.2.1 ∈ lw_all) (hT : (TX1 k).1 = RX1) {v : Value} (hv' : (hFs r u ah)[k]? = some v) (hdg : decode cc pc = .ok (.getfield index, 3))
    (kk : W p l e R s m args below meth c H locs cells slots Q (F0 m (pc + 3) ls (v :: rest))) : W p l e R s m args below meth c H locs cells slots Q (F0 m pc ls (.ref (ah 0) :: rest)) := by
  obtain ⟨hx, hb, hml, hown, hts, hK⟩ := hc
  exact va_get hx hb hts in_X1 hown hK.1 (P1 hW.o) 0 rfl rfl k hk (hts _ hlink) (fun x h => by rw [href, ← hT]; exact h) hv' hdg kk
theorem h_put (hc : Cx G p s m args c cc nL own) (hW : HW G A N r u hv ah ga H) (hS : va_S A H0 H locs) (k : Nat) (hk : k < 10) {ref : String} (href : ref = RX1) (hlink : Cond.fieldLink own index ref (TX1 k).2.1 (TX1 k).2.2.1 ∈ lw_all) (hT : (TX1 k).1 = RX1) (hfin : (TX1 k).2.2.2 = false) {ty : FieldType} (hty : parseFieldDescriptor (TX1 k).2.2.1 = some ty) {x : Int32} (hn : narrow ty (.int x) = .int x) (hfit : fits ty (.int x) = true) (hfs : (hFs r u ah).set k (.int x) = hFs r' u' ah) (hr : ∀ j, (2 ≤ j ∧ j < 8) ∨ (9 ≤ j ∧ j < 9 + 8 * N) → r' j = r j) (hu1 : u' 1 = u 1) (hu2 : u' 2 = u 2) (hdg : decode cc pc = .ok (.putfield index, 3))
    (kk : ∀ (H1 : Heap) (locs1 : List Loc), HW G A N r' u' hv ah ga H1 → va_S A H0 H1 locs1 → H1.size = H.size → (∀ q : Nat, q ≠ ah 0 → H1[q]? = H[q]?) → W p l e R s m args below meth c H1 locs1 cells slots Q (F0 m (pc + 3) ls rest)) : W p l e R s m args below meth c H locs cells slots Q (F0 m pc ls (.int x :: .ref (ah 0) :: rest)) := by
  obtain ⟨hx, hb, hml, hown, hts, hK⟩ := hc
  refine s_put hx hb hts in_X1 tyX1 tyX1_ok nmX1 hown hK.1 hW.o rfl k hk (hts _ hlink) (fun x h => by rw [href, ← hT]; exact h) hfin hty hn hfit hk hdg fun H1 i e1 z oq => ?_
  rw [hfs] at e1
  have hW1 : Wd G A (fun q => if q = 0 then some (.inr (1, hFs r' u' ah)) else hEnc G N r u hv ah ga q) (hAd ah ga) H1 := hW.wr (r0 := 0) rfl (if_pos rfl) (fun q hq => if_neg hq) e1 oq
  exact kk H1 _ (HW.of0 hW1 hr (fun j _ => by rw [hu1]) (fun j _ => by rw [hu2])) (hS.put z oq (hW.mem (r := 0) rfl)) z oq
theorem h_sld (hc : Cx G p s m args c cc nL own) (hW : HW G A N r u hv ah ga H) {i : Int32} {j : Nat} (hi : IdxOk i j 20) (hdg : decode cc pc = .ok (.aaload, 1))
    (kk : W p l e R s m args below meth c H locs cells slots Q (F0 m (pc + 1) ls (.ref (ah (10 + j)) :: rest))) : W p l e R s m args below meth c H locs cells slots Q (F0 m pc ls (.int i :: .ref (ah 1) :: rest)) := by
  obtain ⟨hx, hb, hml, hown, hts, hK⟩ := hc
  exact va_aldq hx hb hK.1 (P1 hW.sa) 0 4 rfl rfl hi.1 hdg (by rw [hi.2]; exact kk)
theorem h_held (hc : Cx G p s m args c cc nL own) (hW : HW G A N r u hv ah ga H) {j : Nat} (hj : j < N) (hN : N ≤ 20) {ref : String} (href : ref = RX2) (hlink : Cond.fieldLink own index ref (TX2 0).2.1 (TX2 0).2.2.1 ∈ lw_all) (hdg : decode cc pc = .ok (.getfield index, 3))
    (kk : W p l e R s m args below meth c H locs cells slots Q (F0 m (pc + 3) ls (.ref (ga j) :: rest))) : W p l e R s m args below meth c H locs cells slots Q (F0 m pc ls (.ref (ah (10 + j)) :: rest)) := by
  obtain ⟨hx, hb, hml, hown, hts, hK⟩ := hc
  have hsl := hW.sl (i := j) (by omega)
  rw [if_pos hj] at hsl
  exact va_get hx hb hts in_X2 hown hK.1 (P1 hsl) 0 rfl rfl 0 (by decide) (hts _ hlink) (fun x h => by rw [href]; exact h) rfl hdg kk
theorem h_ild (hc : Cx G p s m args c cc nL own) {b n : Nat} {f : Nat → Int32} (hat : va_at G.1 vwCl (b, .inl (G.2.1 0, n, .inl f)) H) {i : Int32} {j : Nat} (hi : IdxOk i j n) (hdg : decode cc pc = .ok (.iaload, 1))
    (kk : W p l e R s m args below meth c H locs cells slots Q (F0 m (pc + 1) ls (.int (f j) :: rest))) : W p l e R s m args below meth c H locs cells slots Q (F0 m pc ls (.int i :: .ref b :: rest)) := by
  obtain ⟨hx, hb, hml, hown, hts, hK⟩ := hc
  exact va_iald hx hb hK.1 (P1 hat) 0 0 rfl rfl hi.1 hdg (by rw [hi.2]; exact kk)
theorem h_nst (hc : Cx G p s m args c cc nL own) (hW : HW G A N r u hv ah ga H) (hS : va_S A H0 H locs) {i x : Int32} {j : Nat} (hi : IdxOk i j 6) (hdg : decode cc pc = .ok (.iastore, 1))
    (kk : ∀ (H1 : Heap) (locs1 : List Loc), HW G A N (upd r (2 + j) x) u hv ah ga H1 → va_S A H0 H1 locs1 → H1.size = H.size → (∀ q : Nat, q ≠ ah 2 → H1[q]? = H[q]?) → W p l e R s m args below meth c H1 locs1 cells slots Q (F0 m (pc + 1) ls rest)) : W p l e R s m args below meth c H locs cells slots Q (F0 m pc ls (.int x :: .int i :: .ref (ah 2) :: rest)) := by
  obtain ⟨hx, hb, hml, hown, hts, hK⟩ := hc
  have hj := hi.lt
  refine s_iast hx hb hK.1 0 hW.nt rfl hi hdg fun H1 e1 z oq => ?_
  refine kk H1 _ (hW.wr (r0 := 2) rfl rfl (fun q hq => ?_) ?_ oq) (hS.put z oq (hW.mem (r := 2) rfl)) z oq
  · have h0 : upd r (2 + j) x 0 = r 0 := if_neg (by omega)
    have h1 : upd r (2 + j) x 1 = r 1 := if_neg (by omega)
    have h8 : upd r (2 + j) x 8 = r 8 := if_neg (by omega)
    have hg : ∀ i, gfs (upd r (2 + j) x) i = gfs r i ∧ gkP (upd r (2 + j) x) i = gkP r i := fun i => gfs_ext fun w _ => by
      have : gp i w ≠ 2 + j := by show 9 + 8 * i + w ≠ _; omega
      simp [upd, this]
    unfold hEnc hFs
    rw [h0, h1, h8, (hg (q - 40)).1, (hg (q - 40)).2]
    rw [if_neg hq, if_neg hq]
  · have e : (fun i => upd r (2 + j) x (2 + i)) = upd (fun i => r (2 + i)) j x := by
      funext i
      by_cases h : i = j
      · subst h; simp [upd]
      · simp [upd, h]
    show va_at G.1 vwCl (ah 2, .inl (G.2.1 0, 6, .inl (fun i => upd r (2 + j) x (2 + i)))) H1
    rw [e]
    exact e1
theorem h_pst (hc : Cx G p s m args c cc nL own) (hW : HW G A N r u hv ah ga H) (hS : va_S A H0 H locs) {i x : Int32} {j : Nat} (hi : IdxOk i j 6) (hdg : decode cc pc = .ok (.iastore, 1))
    (kk : ∀ (H1 : Heap) (locs1 : List Loc), HW G A N r (up2 u 1 j x) hv ah ga H1 → va_S A H0 H1 locs1 → H1.size = H.size → (∀ q : Nat, q ≠ ah 3 → H1[q]? = H[q]?) → W p l e R s m args below meth c H1 locs1 cells slots Q (F0 m (pc + 1) ls rest)) : W p l e R s m args below meth c H locs cells slots Q (F0 m pc ls (.int x :: .int i :: .ref (ah 3) :: rest)) := by
  obtain ⟨hx, hb, hml, hown, hts, hK⟩ := hc
  refine s_iast hx hb hK.1 0 hW.pr rfl hi hdg fun H1 e1 z oq => ?_
  refine kk H1 _ (hW.wr (r0 := 3) rfl rfl (fun q hq => ?_) ?_ oq) (hS.put z oq (hW.mem (r := 3) rfl)) z oq
  · unfold hEnc hFs
    rw [up2_ne (r := 0) (by decide), up2_ne (r := 3) (by decide), up2_ne (r := 4) (by decide), up2_ne (r := 2) (by decide), if_neg hq, if_neg hq]
  · rw [← up2_row] at e1
    exact e1
/-- gaps of any kind have the same fields -/
theorem tx_eq {j : Nat} (h : j < 7) : TX6 j = TX5 j ∧ TX7 j = TX5 j ∧ TX8 j = TX5 j ∧ TX9 j = TX5 j ∧ TX10 j = TX5 j := by
  rcases (show j = 0 ∨ j = 1 ∨ j = 2 ∨ j = 3 ∨ j = 4 ∨ j = 5 ∨ j = 6 by omega) with rfl | rfl | rfl | rfl | rfl | rfl | rfl <;> exact ⟨rfl, rfl, rfl, rfl, rfl⟩
theorem tx5_own {j : Nat} (h : j < 7) : (TX5 j).1 = RX5 := by
  rcases (show j = 0 ∨ j = 1 ∨ j = 2 ∨ j = 3 ∨ j = 4 ∨ j = 5 ∨ j = 6 by omega) with rfl | rfl | rfl | rfl | rfl | rfl | rfl <;> rfl
theorem gv_get (hc : Cx G p s m args c cc nL own) {a g k : Nat} (hk : k < 6) (hat : va_at G.1 vwCl (a, .inr (5 + k, gfs r g)) H) (j : Nat) (hj : j < 7) (hlink : Cond.fieldLink own index RX5 (TX5 j).2.1 (TX5 j).2.2.1 ∈ lw_all) {v : Value} (hv' : (gfs r g)[j]? = some v) (hdg : decode cc pc = .ok (.getfield index, 3))
    (kk : W p l e R s m args below meth c H locs cells slots Q (F0 m (pc + 3) ls (v :: rest))) : W p l e R s m args below meth c H locs cells slots Q (F0 m pc ls (.ref a :: rest)) := by
  obtain ⟨hx, hb, hml, hown, hts, hK⟩ := hc
  obtain ⟨t6, t7, t8, t9, t10⟩ := tx_eq hj
  have h5 := tx5_own hj
  rcases kd_cases hk with rfl | rfl | rfl | rfl | rfl | rfl
  · exact va_get hx hb hts in_X5 hown hK.1 (P1 hat) 0 rfl rfl j hj (hts _ hlink) (fun x h => by rw [← h5]; exact h) hv' hdg kk
  · exact va_get hx hb hts in_X6 hown hK.1 (P1 hat) 0 rfl rfl j hj (by rw [t6]; exact hts _ hlink) (fun x h => by rw [t6] at h ⊢; rw [← h5]; exact h) hv' hdg kk
  · exact va_get hx hb hts in_X7 hown hK.1 (P1 hat) 0 rfl rfl j hj (by rw [t7]; exact hts _ hlink) (fun x h => by rw [t7] at h ⊢; rw [← h5]; exact h) hv' hdg kk
  · exact va_get hx hb hts in_X8 hown hK.1 (P1 hat) 0 rfl rfl j hj (by rw [t8]; exact hts _ hlink) (fun x h => by rw [t8] at h ⊢; rw [← h5]; exact h) hv' hdg kk
  · exact va_get hx hb hts in_X9 hown hK.1 (P1 hat) 0 rfl rfl j hj (by rw [t9]; exact hts _ hlink) (fun x h => by rw [t9] at h ⊢; rw [← h5]; exact h) hv' hdg kk
  · exact va_get hx hb hts in_X10 hown hK.1 (P1 hat) 0 rfl rfl j hj (by rw [t10]; exact hts _ hlink) (fun x h => by rw [t10] at h ⊢; rw [← h5]; exact h) hv' hdg kk
/-- one field of a gap of any kind is stored -/
theorem gv_putR (hc : Cx G p s m args c cc nL own) {a k : Nat} {fs : List Value} (hk : k < 6) (hat : va_at G.1 vwCl (a, .inr (5 + k, fs)) H) (hl : fs.length = 7) (j : Nat) (hj : j < 7) (hlink : Cond.fieldLink own index RX5 (TX5 j).2.1 (TX5 j).2.2.1 ∈ lw_all) (hfin : (TX5 j).2.2.2 = false) {ty : FieldType} (hty : parseFieldDescriptor (TX5 j).2.2.1 = some ty) {v : Value} (hn : narrow ty v = v) (hfit : fits ty v = true) (hdg : decode cc pc = .ok (.putfield index, 3))
    (kk : ∀ (H1 : Heap) (i : Nat), va_at G.1 vwCl (a, .inr (5 + k, fs.set j v)) H1 → H1.size = H.size → (∀ q : Nat, q ≠ a → H1[q]? = H[q]?) → W p l e R s m args below meth c H1 (locs ++ [⟨a, i⟩]) cells slots Q (F0 m (pc + 3) ls rest)) : W p l e R s m args below meth c H locs cells slots Q (F0 m pc ls (v :: .ref a :: rest)) := by
  obtain ⟨hx, hb, hml, hown, hts, hK⟩ := hc
  obtain ⟨t6, t7, t8, t9, t10⟩ := tx_eq hj
  have h5 := tx5_own hj
  rcases kd_cases hk with rfl | rfl | rfl | rfl | rfl | rfl
  · exact s_put hx hb hts in_X5 tyX5 tyX5_ok nmX5 hown hK.1 hat rfl j hj (hts _ hlink) (fun x h => by rw [← h5]; exact h) hfin hty hn hfit (by omega) hdg kk
  · exact s_put hx hb hts in_X6 tyX6 tyX6_ok nmX6 hown hK.1 hat rfl j hj (by rw [t6]; exact hts _ hlink) (fun x h => by rw [t6] at h ⊢; rw [← h5]; exact h) (by rw [t6]; exact hfin) (by rw [t6]; exact hty) hn hfit (by omega) hdg kk
  · exact s_put hx hb hts in_X7 tyX7 tyX7_ok nmX7 hown hK.1 hat rfl j hj (by rw [t7]; exact hts _ hlink) (fun x h => by rw [t7] at h ⊢; rw [← h5]; exact h) (by rw [t7]; exact hfin) (by rw [t7]; exact hty) hn hfit (by omega) hdg kk
  · exact s_put hx hb hts in_X8 tyX8 tyX8_ok nmX8 hown hK.1 hat rfl j hj (by rw [t8]; exact hts _ hlink) (fun x h => by rw [t8] at h ⊢; rw [← h5]; exact h) (by rw [t8]; exact hfin) (by rw [t8]; exact hty) hn hfit (by omega) hdg kk
  · exact s_put hx hb hts in_X9 tyX9 tyX9_ok nmX9 hown hK.1 hat rfl j hj (by rw [t9]; exact hts _ hlink) (fun x h => by rw [t9] at h ⊢; rw [← h5]; exact h) (by rw [t9]; exact hfin) (by rw [t9]; exact hty) hn hfit (by omega) hdg kk
  · exact s_put hx hb hts in_X10 tyX10 tyX10_ok nmX10 hown hK.1 hat rfl j hj (by rw [t10]; exact hts _ hlink) (fun x h => by rw [t10] at h ⊢; rw [← h5]; exact h) (by rw [t10]; exact hfin) (by rw [t10]; exact hty) hn hfit (by omega) hdg kk
theorem gfs_2 {g : Nat} {x : Int32} : (gfs r g).set 2 (.int x) = gfs (upd r (gp g 3) x) g := by
  simp [gfs, upd, gp]
theorem gfs_6 {g : Nat} {x : Int32} : (gfs r g).set 6 (.int x) = gfs (upd r (gp g 7) x) g := by
  simp [gfs, upd, gp]
theorem h_gput (hc : Cx G p s m args c cc nL own) (hW : HW G A N r u hv ah ga H) (hS : va_S A H0 H locs) {g : Nat} (hg : g < N) (hkd : gkP r g < 6) (j w : Nat) (hj : j < 7) (hw : 0 < w ∧ w < 8) {x : Int32} (hset : (gfs r g).set j (.int x) = gfs (upd r (gp g w) x) g) (hlink : Cond.fieldLink own index RX5 (TX5 j).2.1 (TX5 j).2.2.1 ∈ lw_all) (hfin : (TX5 j).2.2.2 = false) {ty : FieldType} (hty : parseFieldDescriptor (TX5 j).2.2.1 = some ty) (hn : narrow ty (.int x) = .int x) (hfit : fits ty (.int x) = true) (hdg : decode cc pc = .ok (.putfield index, 3))
    (kk : ∀ (H1 : Heap) (locs1 : List Loc), HW G A N (upd r (gp g w) x) u hv ah ga H1 → va_S A H0 H1 locs1 → H1.size = H.size → (∀ q : Nat, q ≠ ga g → H1[q]? = H[q]?) → W p l e R s m args below meth c H1 locs1 cells slots Q (F0 m (pc + 3) ls rest)) : W p l e R s m args below meth c H locs cells slots Q (F0 m pc ls (.int x :: .ref (ga g) :: rest)) := by
  refine gv_putR hc hkd (hW.gp hg) rfl j hj hlink hfin hty hn hfit hdg fun H1 i e1 z oq => ?_
  have hgn : ∀ v, gp g v = 9 + 8 * g + v := fun v => rfl
  have hk : gkP (upd r (gp g w) x) g = gkP r g := by
    unfold gkP
    rw [show upd r (gp g w) x (gp g 0) = r (gp g 0) from if_neg (by rw [hgn, hgn]; omega)]
  have hW1 : Wd G A (fun q => if q = 40 + g then some (.inr (5 + gkP r g, gfs (upd r (gp g w) x) g)) else hEnc G N r u hv ah ga q) (hAd ah ga) H1 := by
    refine hW.wr (r0 := 40 + g) (hE_g hg) (if_pos rfl) (fun q hq => if_neg hq) ?_ (by rw [hAd_g]; exact oq)
    rw [hAd_g, ← hset]
    exact e1
  refine kk H1 _ (hW1.conv fun q e' he => ?_) (hS.put z oq (hW.mg hg)) z oq
  by_cases hq : q = 40 + g
  · subst hq
    rw [hE_g hg, hk] at he
    cases he
    exact ⟨_, if_pos rfl, fun K h => h⟩
  · have hlow : ∀ j, j < 9 → upd r (gp g w) x j = r j := fun j hj => if_neg (by rw [hgn]; omega)
    by_cases h0 : q = 0
    · subst h0
      cases he
      refine ⟨_, if_neg hq, fun K h => ?_⟩
      unfold hFs at h ⊢
      rw [hlow 0 (by decide), hlow 1 (by decide), hlow 8 (by decide)]
      exact h
    · obtain ⟨e, h1, h2⟩ := hEnc_convQ (r := r) (u := u) (hv := hv) (fun j hj => hlow j (by omega)) (fun h1 h2 => gfs_ext fun v hv => if_neg (by rw [hgn]; show 9 + 8 * (q - 40) + v ≠ _; omega)) (fun _ _ => rfl) (fun _ _ => rfl) (fun _ _ => rfl) h0 e' he
      exact ⟨e, (if_neg hq).trans h1, h2⟩
end HWR
