/-! the desk's world: the object (0), its sheets' slots (1, 10 + i), tape (2), found (3), order (4), leans (5), sheets (20 + i) -/
set_option maxRecDepth 100000
/-- a world behind something that changed the cells of S at most -/
theorem Wd.aft {ρ : Type} {G : GD} {A S : Nat → Prop} {ct : ρ → Option va_E} {ad : ρ → Nat} {H H1 : Heap} (h : Wd G A ct ad H) (hg : G.2.2.heap.size ≤ H.size) (hk : ∀ q : Nat, q < H.size → ¬ S q → H1[q]? = H[q]?) (hs : ∀ q, S q → G.2.2.heap.size ≤ q) (hd : ∀ q, ct q ≠ none → ¬ S (ad q)) : Wd G A ct ad H1 :=
  h.kept (fun q hq => hk q (by omega) (fun z => by have := hs q z; omega)) (fun q hq => hk _ (h.lt hq) (hd q hq))
/-- the cells of a house -/
def HR (N : Nat) (ah ga : Nat → Nat) (q : Nat) : Prop := ∃ k, (k < 5 ∨ (10 ≤ k ∧ k < 30) ∨ (40 ≤ k ∧ k < 40 + N)) ∧ hAd ah ga k = q
theorem hE_ne {G : GD} {N : Nat} {r : Nat → Int32} {u : Nat → Nat → Int32} {hv : Nat → Value} {ah ga : Nat → Nat} {k : Nat} (h : k < 5 ∨ (10 ≤ k ∧ k < 30) ∨ (40 ≤ k ∧ k < 40 + N)) : hEnc G N r u hv ah ga k ≠ none := by
  rcases h with h | h | h
  · rcases (show k = 0 ∨ k = 1 ∨ k = 2 ∨ k = 3 ∨ k = 4 by omega) with rfl | rfl | rfl | rfl | rfl <;> exact fun z => by cases z
  · obtain ⟨i, rfl⟩ : ∃ i, k = 10 + i := ⟨k - 10, by omega⟩
    rw [hE_s (by omega)]
    exact fun z => by cases z
  · obtain ⟨i, rfl⟩ : ∃ i, k = 40 + i := ⟨k - 40, by omega⟩
    rw [hE_g (by omega)]
    exact fun z => by cases z
section HRR
variable {G : GD} {A : Nat → Prop} {N : Nat} {r : Nat → Int32} {u : Nat → Nat → Int32} {hv : Nat → Value} {ah ga : Nat → Nat} {H : Heap}
theorem HR.mem (h : HW G A N r u hv ah ga H) {q : Nat} (hq : HR N ah ga q) : A q := by
  obtain ⟨k, h1, rfl⟩ := hq
  cases he : hEnc G N r u hv ah ga k with
  | none => exact absurd he (hE_ne h1)
  | some e => exact h.mem he
theorem HR.lt (h : HW G A N r u hv ah ga H) {q : Nat} (hq : HR N ah ga q) : q < H.size := by
  obtain ⟨k, h1, rfl⟩ := hq
  exact h.lt (hE_ne h1)
theorem HW.toR (h : HW G A N r u hv ah ga H) : HW G (HR N ah ga) N r u hv ah ga H := h.reA (fun q hq => h.1 q (HR.mem h hq)) (fun q hq => ⟨q, hE_some hq, rfl⟩)
theorem HW.ofR (h : HW G (HR N ah ga) N r u hv ah ga H) (hA : ∀ q, A q → G.2.2.heap.size ≤ q) (hHA : ∀ q, HR N ah ga q → A q) : HW G A N r u hv ah ga H := h.reA hA (fun q hq => hHA _ ⟨q, hE_some hq, rfl⟩)
theorem HS.toR (h : HS G A N r ah ga H) : HS G (HR N ah ga) N r ah ga H := by
  obtain ⟨u, hv, h1, h2⟩ := h
  exact ⟨u, hv, h1, h2.toR⟩
theorem HS.ofR (h : HS G (HR N ah ga) N r ah ga H) (hA : ∀ q, A q → G.2.2.heap.size ≤ q) (hHA : ∀ q, HR N ah ga q → A q) : HS G A N r ah ga H := by
  obtain ⟨u, hv, h1, h2⟩ := h
  exact ⟨u, hv, h1, h2.ofR hA hHA⟩
theorem HW.gle (h : HW G A N r u hv ah ga H) : G.2.2.heap.size ≤ H.size := by
  have h1 := h.1 _ (h.mem (r := 0) rfl)
  have h2 := h.lt (r := 0) (fun z => by cases z)
  omega
theorem HR.o : HR N ah ga (ah 0) := ⟨0, Or.inl (by decide), rfl⟩
theorem HR.n : HR N ah ga (ah 2) := ⟨2, Or.inl (by decide), rfl⟩
theorem HR.g {i : Nat} (h : i < N) : HR N ah ga (ga i) := ⟨40 + i, by omega, hAd_g⟩
theorem HR.s {i : Nat} (h : i < 20) : HR N ah ga (ah (10 + i)) := ⟨10 + i, by omega, hAd_s h⟩
end HRR
/-- a sheet of so many bits -/
def shE (G : GD) (bits : Int32) (n : Nat) (v : Nat → Int64) : Option va_E :=
  if bits = 8 then some (.inl (G.2.1 1, n, .inl (fun j => (v j).toInt32)))
  else if bits = 16 then some (.inl (G.2.1 3, n, .inl (fun j => (v j).toInt32)))
  else if bits = 64 then some (.inl (G.2.1 2, n, .inr (.inl v)))
  else none
def dFs (f b : Nat → Nat → Int32) (hh hk ht : Nat) (ad : Nat → Nat) : List Value := [.ref hh, .ref hk, .ref ht, .int (f 4 0), .ref (ad 2), .int (f 6 0), .ref (ad 1), .ref (ad 3), .int (b 0 0), .int (b 1 0), .ref (ad 4), .int (b 2 0), .ref (ad 5)]
def dEnc (G : GD) (f : Nat → Nat → Int32) (g : Nat → Nat → Int64) (b : Nat → Nat → Int32) (hh hk ht : Nat) (ad : Nat → Nat) (q : Nat) : Option va_E :=
  if q = 0 then some (.inr (0, dFs f b hh hk ht ad))
  else if q = 1 then some (.inl (G.2.1 4, 4, .inr (.inr (.inr (.inr (fun i => some (ad (10 + i))))))))
  else if q = 2 then some (.inl (G.2.1 1, 120, .inl (fun j => (f 5 j).toInt8.toInt32)))
  else if q = 3 then some (.inl (G.2.1 0, 7, .inl (f 3)))
  else if q = 4 then some (.inl (G.2.1 0, 20, .inl (b 3)))
  else if q = 5 then some (.inl (G.2.1 0, 20, .inl (b 4)))
  else if 10 ≤ q ∧ q < 14 then some (.inr (2, [if f 19 (q - 10) = 0 then .null else .ref (ad (20 + (q - 10)))]))
  else if 20 ≤ q ∧ q < 24 then shE G (f 19 (q - 20)) (f 20 (q - 20)).toNatClampNeg (fun j => g 21 (40 * (q - 20) + j))
  else none
abbrev DW (G : GD) (A : Nat → Prop) (f : Nat → Nat → Int32) (g : Nat → Nat → Int64) (b : Nat → Nat → Int32) (hh hk ht : Nat) (ad : Nat → Nat) (H : Heap) : Prop := Wd G A (dEnc G f g b hh hk ht ad) ad H
/-- roles that are there -/
def dS (z : Nat → Int32) (q : Nat) : Prop := q < 6 ∨ (10 ≤ q ∧ q < 14) ∨ (20 ≤ q ∧ q < 24 ∧ (z (q - 20) = 8 ∨ z (q - 20) = 16 ∨ z (q - 20) = 64))
section DWA
variable {G : GD} {A : Nat → Prop} {f f' : Nat → Nat → Int32} {g g' : Nat → Nat → Int64} {b b' : Nat → Nat → Int32} {hh hk ht : Nat} {ad : Nat → Nat} {H H1 : Heap}
theorem dE_some {q : Nat} (h : dEnc G f g b hh hk ht ad q ≠ none) : dS (f 19) q := by
  refine Classical.byContradiction fun hn => h ?_
  unfold dS at hn
  unfold dEnc
  rw [if_neg (by omega), if_neg (by omega), if_neg (by omega), if_neg (by omega), if_neg (by omega), if_neg (by omega), if_neg (by omega)]
  by_cases c : 20 ≤ q ∧ q < 24
  · rw [if_pos c]
    unfold shE
    rw [if_neg (fun z => hn (Or.inr (Or.inr ⟨c.1, c.2, Or.inl z⟩))), if_neg (fun z => hn (Or.inr (Or.inr ⟨c.1, c.2, Or.inr (Or.inl z)⟩))), if_neg (fun z => hn (Or.inr (Or.inr ⟨c.1, c.2, Or.inr (Or.inr z)⟩)))]
  · rw [if_neg c]
theorem DW.o (h : DW G A f g b hh hk ht ad H) : va_at G.1 vwCl (ad 0, .inr (0, dFs f b hh hk ht ad)) H := h.at (r := 0) rfl
theorem DW.sa (h : DW G A f g b hh hk ht ad H) : va_at G.1 vwCl (ad 1, .inl (G.2.1 4, 4, .inr (.inr (.inr (.inr (fun i => some (ad (10 + i)))))))) H := h.at (r := 1) rfl
theorem DW.tp (h : DW G A f g b hh hk ht ad H) : va_at G.1 vwCl (ad 2, .inl (G.2.1 1, 120, .inl (fun j => (f 5 j).toInt8.toInt32))) H := h.at (r := 2) rfl
theorem DW.fd (h : DW G A f g b hh hk ht ad H) : va_at G.1 vwCl (ad 3, .inl (G.2.1 0, 7, .inl (f 3))) H := h.at (r := 3) rfl
theorem DW.od (h : DW G A f g b hh hk ht ad H) : va_at G.1 vwCl (ad 4, .inl (G.2.1 0, 20, .inl (b 3))) H := h.at (r := 4) rfl
theorem DW.ln (h : DW G A f g b hh hk ht ad H) : va_at G.1 vwCl (ad 5, .inl (G.2.1 0, 20, .inl (b 4))) H := h.at (r := 5) rfl
theorem dE_sl {i : Nat} (hi : i < 4) : dEnc G f g b hh hk ht ad (10 + i) = some (.inr (2, [if f 19 i = 0 then .null else .ref (ad (20 + i))])) := by
  unfold dEnc
  rw [if_neg (by omega), if_neg (by omega), if_neg (by omega), if_neg (by omega), if_neg (by omega), if_neg (by omega), if_pos (by omega), Nat.add_sub_cancel_left]
theorem dE_sh {i : Nat} (hi : i < 4) : dEnc G f g b hh hk ht ad (20 + i) = shE G (f 19 i) (f 20 i).toNatClampNeg (fun j => g 21 (40 * i + j)) := by
  unfold dEnc
  rw [if_neg (by omega), if_neg (by omega), if_neg (by omega), if_neg (by omega), if_neg (by omega), if_neg (by omega), if_neg (by omega), if_pos (by omega), Nat.add_sub_cancel_left]
theorem dE_ne {q : Nat} (h : dS (f 19) q) : dEnc G f g b hh hk ht ad q ≠ none := by
  rcases h with h | h | h
  · rcases (show q = 0 ∨ q = 1 ∨ q = 2 ∨ q = 3 ∨ q = 4 ∨ q = 5 by omega) with rfl | rfl | rfl | rfl | rfl | rfl <;> exact fun z => by cases z
  · obtain ⟨i, rfl⟩ : ∃ i, q = 10 + i := ⟨q - 10, by omega⟩
    rw [dE_sl (by omega)]
    exact fun z => by cases z
  · obtain ⟨i, rfl⟩ : ∃ i, q = 20 + i := ⟨q - 20, by omega⟩
    rw [dE_sh (by omega)]
    have hz := h.2.2
    rw [Nat.add_sub_cancel_left] at hz
    unfold shE
    by_cases c1 : f 19 i = 8
    · rw [if_pos c1]; exact fun z => by cases z
    by_cases c2 : f 19 i = 16
    · rw [if_neg c1, if_pos c2]; exact fun z => by cases z
    · rw [if_neg c1, if_neg c2, if_pos ((hz.resolve_left c1).resolve_left c2)]; exact fun z => by cases z
theorem hdlt (h : DW G A f g b hh hk ht ad H) : ∀ z, dS (f 19) z → ad z < H.size := fun z hz => h.lt (dE_ne hz)
theorem DW.sl (h : DW G A f g b hh hk ht ad H) {i : Nat} (hi : i < 4) : va_at G.1 vwCl (ad (10 + i), .inr (2, [if f 19 i = 0 then .null else .ref (ad (20 + i))])) H := h.at (dE_sl hi)
theorem DW.gle (h : DW G A f g b hh hk ht ad H) : G.2.2.heap.size ≤ H.size := by
  have h1 := h.1 _ (h.mem (r := 0) rfl)
  have h2 := h.lt (r := 0) (fun z => by cases z)
  omega
/-- the same world told by other numbers -/
theorem DW.cv (h : DW G A f g b hh hk ht ad H) (h3 : ∀ j, j < 7 → f' 3 j = f 3 j) (h4 : f' 4 0 = f 4 0) (h5 : ∀ j, j < 120 → (f' 5 j).toInt8 = (f 5 j).toInt8) (h6 : f' 6 0 = f 6 0) (h19 : ∀ i, i < 4 → f' 19 i = f 19 i) (h20 : ∀ i, i < 4 → f' 20 i = f 20 i) (hg : ∀ i j, i < 4 → j < (f 20 i).toNatClampNeg → g' 21 (40 * i + j) = g 21 (40 * i + j)) (hb0 : b' 0 0 = b 0 0) (hb1 : b' 1 0 = b 1 0) (hb2 : b' 2 0 = b 2 0) (hb3 : ∀ j, j < 20 → b' 3 j = b 3 j) (hb4 : ∀ j, j < 20 → b' 4 j = b 4 j) : DW G A f' g' b' hh hk ht ad H := by
  refine h.conv fun q e' he => ?_
  have hs := dE_some (show dEnc G f' g' b' hh hk ht ad q ≠ none by rw [he]; exact fun z => by cases z)
  rcases hs with hs | hs | hs
  · rcases (show q = 0 ∨ q = 1 ∨ q = 2 ∨ q = 3 ∨ q = 4 ∨ q = 5 by omega) with rfl | rfl | rfl | rfl | rfl | rfl
    · cases he
      refine ⟨_, rfl, fun K h => ?_⟩
      unfold dFs at h ⊢
      rw [h4, h6, hb0, hb1, hb2]
      exact h
    · cases he
      exact ⟨_, rfl, fun K h => h⟩
    · cases he
      exact ⟨_, rfl, at_ext fun j hj => by rw [h5 j hj]⟩
    · cases he
      exact ⟨_, rfl, at_ext h3⟩
    · cases he
      exact ⟨_, rfl, at_ext hb3⟩
    · cases he
      exact ⟨_, rfl, at_ext hb4⟩
  · obtain ⟨i, rfl⟩ : ∃ i, q = 10 + i := ⟨q - 10, by omega⟩
    have hi : i < 4 := by omega
    rw [dE_sl hi] at he
    cases he
    refine ⟨_, dE_sl hi, fun K h => ?_⟩
    rw [h19 i hi]
    exact h
  · obtain ⟨i, rfl⟩ : ∃ i, q = 20 + i := ⟨q - 20, by omega⟩
    have hi : i < 4 := by omega
    rw [dE_sh hi, h19 i hi, h20 i hi] at he
    rw [dE_sh hi]
    unfold shE at he ⊢
    by_cases c1 : f 19 i = 8
    · rw [if_pos c1] at he ⊢
      cases he
      exact ⟨_, rfl, at_ext fun j hj => congrArg Int64.toInt32 (hg i j hi hj)⟩
    rw [if_neg c1] at he ⊢
    by_cases c2 : f 19 i = 16
    · rw [if_pos c2] at he ⊢
      cases he
      exact ⟨_, rfl, at_ext fun j hj => congrArg Int64.toInt32 (hg i j hi hj)⟩
    rw [if_neg c2] at he ⊢
    by_cases c3 : f 19 i = 64
    · rw [if_pos c3] at he ⊢
      cases he
      exact ⟨_, rfl, at_extL fun j hj => hg i j hi hj⟩
    rw [if_neg c3] at he
    cases he
/-- one role is written -/
theorem DW.w1 (h : DW G A f g b hh hk ht ad H) {q0 : Nat} {e0 e1 : va_E} (h0 : dEnc G f g b hh hk ht ad q0 = some e0) (h1 : dEnc G f' g' b' hh hk ht ad q0 = some e1) (hn : ∀ q, q ≠ q0 → ∀ e', dEnc G f' g' b' hh hk ht ad q = some e' → ∃ e, dEnc G f g b hh hk ht ad q = some e ∧ ∀ K : Heap, va_at G.1 vwCl (ad q, e) K → va_at G.1 vwCl (ad q, e') K) (ha : va_at G.1 vwCl (ad q0, e1) H1) (oq : ∀ q : Nat, q ≠ ad q0 → H1[q]? = H[q]?) : DW G A f' g' b' hh hk ht ad H1 := by
  have hW1 : Wd G A (updC (dEnc G f g b hh hk ht ad) q0 e1) ad H1 := Wd.wrU h h0 ha oq
  refine hW1.conv fun q e' he => ?_
  by_cases c : q = q0
  · subst c
    rw [h1] at he
    cases he
    exact ⟨_, updC_same, fun K h => h⟩
  · obtain ⟨e, h2, h3⟩ := hn q c e' he
    exact ⟨e, (updC_ne c).trans h2, h3⟩
end DWA
section DWR
variable {p : Program} {l : Launch} {e : Env} {R : Room} {s : State} {m : MethodId} {args : Array Value} {below : List Frame} {meth : Method} {c : Code} {H H0 : Heap} {locs : List Loc} {cells slots : Nat} {Q : State → Prop}
variable {pc : Nat} {ls : Array Slot} {rest : List Value} {A : Nat → Prop} {G : GD} {cc : ByteArray} {nL index : Nat} {own : String} {f f' : Nat → Nat → Int32} {g g' : Nat → Nat → Int64} {b b' : Nat → Nat → Int32} {hh hk ht : Nat} {ad : Nat → Nat}
theorem DW.recv (hK : KV G s) (hW : DW G A f g b hh hk ht ad H) : ∃ cell : Cell, H[ad 0]? = some cell ∧ cell.vm.isStatics = false ∧ s.vm.findClass RX0 = some cell.cls := o_recv hK hW.o rfl
theorem d_get (hc : Cx G p s m args c cc nL own) (hW : DW G A f g b hh hk ht ad H) (k : Nat) (hk' : k < 13) (hlink : Cond.fieldLink own index RX0 (TX0 k).2.1 (TX0 k).2.2.1 ∈ lw_all) (hT : (TX0 k).1 = RX0) {v : Value} (hv' : (dFs f b hh hk ht ad)[k]? = some v) (hdg : decode cc pc = .ok (.getfield index, 3))
    (kk : W p l e R s m args below meth c H locs cells slots Q (F0 m (pc + 3) ls (v :: rest))) : W p l e R s m args below meth c H locs cells slots Q (F0 m pc ls (.ref (ad 0) :: rest)) := by
  obtain ⟨hx, hb, hml, hown, hts, hK⟩ := hc
  exact va_get hx hb hts in_X0 hown hK.1 (P1 hW.o) 0 rfl rfl k hk' (hts _ hlink) (fun x h => by rw [← hT]; exact h) hv' hdg kk
theorem d_put (hc : Cx G p s m args c cc nL own) (hW : DW G A f g b hh hk ht ad H) (hS : va_S A H0 H locs) (k : Nat) (hk' : k < 13) (hlink : Cond.fieldLink own index RX0 (TX0 k).2.1 (TX0 k).2.2.1 ∈ lw_all) (hT : (TX0 k).1 = RX0) (hfin : (TX0 k).2.2.2 = false) {ty : FieldType} (hty : parseFieldDescriptor (TX0 k).2.2.1 = some ty) {x : Int32} (hn : narrow ty (.int x) = .int x) (hfit : fits ty (.int x) = true) (hfs : (dFs f b hh hk ht ad).set k (.int x) = dFs f' b' hh hk ht ad) (h3 : f' 3 = f 3) (h5 : f' 5 = f 5) (h19 : f' 19 = f 19) (h20 : f' 20 = f 20) (hb3 : b' 3 = b 3) (hb4 : b' 4 = b 4) (hdg : decode cc pc = .ok (.putfield index, 3))
    (kk : ∀ (H1 : Heap) (locs1 : List Loc), DW G A f' g b' hh hk ht ad H1 → va_S A H0 H1 locs1 → H1.size = H.size → (∀ q : Nat, q ≠ ad 0 → H1[q]? = H[q]?) → W p l e R s m args below meth c H1 locs1 cells slots Q (F0 m (pc + 3) ls rest)) : W p l e R s m args below meth c H locs cells slots Q (F0 m pc ls (.int x :: .ref (ad 0) :: rest)) := by
  obtain ⟨hx, hb, hml, hown, hts, hK⟩ := hc
  refine s_put hx hb hts in_X0 tyX0 tyX0_ok nmX0 hown hK.1 hW.o rfl k hk' (hts _ hlink) (fun x h => by rw [← hT]; exact h) hfin hty hn hfit hk' hdg fun H1 i e1 z oq => ?_
  rw [hfs] at e1
  refine kk H1 _ (hW.w1 (q0 := 0) rfl rfl (fun q hq e' he => ⟨e', ?_, fun K h => h⟩) e1 oq) (hS.put z oq (hW.mem (r := 0) rfl)) z oq
  rw [← he]
  unfold dEnc
  rw [if_neg hq, if_neg hq, h3, h5, h19, h20, hb3, hb4]
theorem d_fst (hc : Cx G p s m args c cc nL own) (hW : DW G A f g b hh hk ht ad H) (hS : va_S A H0 H locs) {i x : Int32} {j : Nat} (hi : IdxOk i j 7) (hdg : decode cc pc = .ok (.iastore, 1))
    (kk : ∀ (H1 : Heap) (locs1 : List Loc), DW G A (up2 f 3 j x) g b hh hk ht ad H1 → va_S A H0 H1 locs1 → H1.size = H.size → (∀ q : Nat, q ≠ ad 3 → H1[q]? = H[q]?) → W p l e R s m args below meth c H1 locs1 cells slots Q (F0 m (pc + 1) ls rest)) : W p l e R s m args below meth c H locs cells slots Q (F0 m pc ls (.int x :: .int i :: .ref (ad 3) :: rest)) := by
  obtain ⟨hx, hb, hml, hown, hts, hK⟩ := hc
  refine s_iast hx hb hK.1 0 hW.fd rfl hi hdg fun H1 e1 z oq => ?_
  refine kk H1 _ (hW.w1 (q0 := 3) rfl rfl (fun q hq e' he => ⟨e', ?_, fun K h => h⟩) (by rw [← up2_row] at e1; exact e1) oq) (hS.put z oq (hW.mem (r := 3) rfl)) z oq
  rw [← he]
  unfold dEnc dFs
  rw [if_neg hq, if_neg hq, up2_ne (r := 4) (by decide), up2_ne (r := 6) (by decide), up2_ne (r := 5) (by decide), up2_ne (r := 19) (by decide), up2_ne (r := 20) (by decide)]
/-- the desk's arrays of numbers that pass between methods -/
theorem d_bst (hc : Cx G p s m args c cc nL own) (hW : DW G A f g b hh hk ht ad H) (hS : va_S A H0 H locs) (k : Nat) (hk' : k = 3 ∨ k = 4) {i x : Int32} {j : Nat} (hi : IdxOk i j 20) (hdg : decode cc pc = .ok (.iastore, 1))
    (kk : ∀ (H1 : Heap) (locs1 : List Loc), DW G A f g (up2 b k j x) hh hk ht ad H1 → va_S A H0 H1 locs1 → H1.size = H.size → (∀ q : Nat, q ≠ ad (k + 1) → H1[q]? = H[q]?) → W p l e R s m args below meth c H1 locs1 cells slots Q (F0 m (pc + 1) ls rest)) : W p l e R s m args below meth c H locs cells slots Q (F0 m pc ls (.int x :: .int i :: .ref (ad (k + 1)) :: rest)) := by
  obtain ⟨hx, hb, hml, hown, hts, hK⟩ := hc
  rcases hk' with rfl | rfl
  · refine s_iast hx hb hK.1 0 hW.od rfl hi hdg fun H1 e1 z oq => ?_
    refine kk H1 _ (hW.w1 (q0 := 4) rfl rfl (fun q hq e' he => ⟨e', ?_, fun K h => h⟩) (by rw [← up2_row] at e1; exact e1) oq) (hS.put z oq (hW.mem (r := 4) rfl)) z oq
    rw [← he]
    unfold dEnc dFs
    rw [if_neg hq, if_neg hq, up2_ne (r := 0) (by decide), up2_ne (r := 1) (by decide), up2_ne (r := 2) (by decide), up2_ne (r := 4) (by decide)]
  · refine s_iast hx hb hK.1 0 hW.ln rfl hi hdg fun H1 e1 z oq => ?_
    refine kk H1 _ (hW.w1 (q0 := 5) rfl rfl (fun q hq e' he => ⟨e', ?_, fun K h => h⟩) (by rw [← up2_row] at e1; exact e1) oq) (hS.put z oq (hW.mem (r := 5) rfl)) z oq
    rw [← he]
    unfold dEnc dFs
    rw [if_neg hq, if_neg hq, up2_ne (r := 0) (by decide), up2_ne (r := 1) (by decide), up2_ne (r := 2) (by decide), up2_ne (r := 3) (by decide)]
end DWR
/-- the desk and its house; the other two houses are told by their places alone -/
def DC (G : GD) (A : Nat → Prop) (f : Nat → Nat → Int32) (g : Nat → Nat → Int64) (x hk ht : Nat) (H : Heap) : Prop := ∃ (b : Nat → Nat → Int32) (ad ah ga : Nat → Nat) (N R : Nat), ad 0 = x ∧ OkN (f 0) R N ∧ DW G A f g b (ah 0) hk ht ad H ∧ HS G A N (f 0) ah ga H ∧ ∀ q, dS (f 19) q → ¬ HR N ah ga (ad q)
abbrev MetH (l : Launch) (G : GD) (y : MethodName) (cc : ByteArray) (maxL : Nat) (ret : Option FieldType) (hh : List (Nat × Nat × Nat × Nat)) (lev mc ms : Nat) (A : Nat → Prop) (av : List Value) (H0 : Heap) (v : Option Value) (P : Heap → Prop) : Prop := Met l y (wsW_ y cc maxL ret hh) (rmL lev mc ms) (PcX G av H0) (QcW A (fun v' H => v' = v ∧ P H)) mc ms A
section AFT
variable {G : GD} {A : Nat → Prop} {f : Nat → Nat → Int32} {g : Nat → Nat → Int64} {b : Nat → Nat → Int32} {hh hk ht N a : Nat} {ad ah ga : Nat → Nat} {r : Nat → Int32} {u : Nat → Nat → Int32} {hv : Nat → Value} {H H1 : Heap}
theorem DW.aftH (h : DW G A f g b hh hk ht ad H) (hdj : ∀ q, dS (f 19) q → ¬ HR N ah ga (ad q)) (hHA : ∀ q, HR N ah ga q → A q) (ha : HR N ah ga a) (oq : ∀ q : Nat, q ≠ a → H1[q]? = H[q]?) : DW G A f g b hh hk ht ad H1 :=
  h.kept (fun q hq => oq q (fun e => by have := h.1 _ (hHA _ ha); omega)) (fun q hq => oq _ (fun e => hdj q (dE_some hq) (by rw [e]; exact ha)))
theorem DW.aftC (h : DW G A f g b hh hk ht ad H) (hdj : ∀ q, dS (f 19) q → ¬ HR N ah ga (ad q)) (hHA : ∀ q, HR N ah ga q → A q) (hk1 : ∀ q : Nat, q < H.size → ¬ HR N ah ga q → H1[q]? = H[q]?) : DW G A f g b hh hk ht ad H1 :=
  h.aft h.gle hk1 (fun q z => h.1 q (hHA q z)) (fun q hq => hdj q (dE_some hq))
theorem Wd.aftN {ρ : Type} {ct : ρ → Option va_E} {ad : ρ → Nat} (h : Wd G A ct ad H) (hg : G.2.2.heap.size ≤ H.size) (hk1 : ∀ q : Nat, q < H.size → ¬ H.size ≤ q → H1[q]? = H[q]?) : Wd G A ct ad H1 :=
  h.kept (fun q hq => hk1 q (by omega) (by omega)) (fun q hq => hk1 _ (h.lt hq) (by have := h.lt hq; omega))
theorem HW.aftD (h : HW G A N r u hv ah ga H) (ha : ¬ HR N ah ga a) (hge : G.2.2.heap.size ≤ a) (oq : ∀ q : Nat, q ≠ a → H1[q]? = H[q]?) : HW G A N r u hv ah ga H1 :=
  h.kept (fun q hq => oq q (by omega)) (fun q hq => oq _ (fun e => ha ⟨q, hE_some hq, e⟩))
end AFT
section CTF
variable {p : Program} {l : Launch} {e : Env} {R : Room} {s : State} {m : MethodId} {args : Array Value} {below : List Frame} {meth : Method} {c : Code} {H : Heap} {locs : List Loc} {cells slots : Nat} {Q : State → Prop}
variable {pc nL x : Nat} {ls : Array Slot} {st : List Value} {G : GD} {cc : ByteArray} {fs : List Value}
/-- a finding is caught -/
theorem ct_find (hc : Cx G p s m args c cc nL "SmokeLeans") {pre post : List ExceptionTableEntry} {y : ExceptionTableEntry} (htab : c.exceptionTable.toList = pre ++ y :: post) (hpre : ∀ z ∈ pre, covers z pc = false) (hy : covers y pc = true) (h0 : y.catchType = 1) (hat : va_at G.1 vwCl (x, .inr (4, fs)) H)
    (kk : W p l e R s m args below meth c H locs cells slots Q (F0 m y.handlerPc ls [.ref x])) : WT p l e R s m args below meth c H locs cells slots Q (F0 m pc ls st) x := by
  obtain ⟨hx, hb, hml, hown, hts, hK⟩ := hc
  obtain ⟨cell, h1, h2, h3⟩ := o_recv hK hat rfl
  obtain ⟨-, hfc, kC, hkC, -⟩ := hK.1.1 4 _ rfl
  exact wt_catch hown htab hpre hy (by rw [h0]; decide) (by rw [h0]; exact hts _ q206) h1 h2 h3 (by rw [← Option.some.inj (hfc.symm.trans h3)]; exact hkC) kk
end CTF
