/-! the reference's world: the object (role 23), its arrays by their fields' numbers; f k j: the ints, g k j: the longs -/
set_option maxRecDepth 100000
def mLen (k : Nat) : Nat := match k with
  | 0 => 169
  | 1 => 169
  | 2 => 169
  | 3 => 7
  | 5 => 120
  | 11 => 6
  | 12 => 6
  | 15 => 20
  | 16 => 21
  | 18 => 20
  | 19 => 4
  | 20 => 4
  | 21 => 160
  | 22 => 40
  | _ => 0
/-- 1: an array of ints, 2: of longs, 3: the object, 4: a number in a field -/
def mKnd (k : Nat) : Nat := match k with
  | 0 => 1
  | 1 => 1
  | 2 => 1
  | 3 => 1
  | 4 => 4
  | 5 => 1
  | 6 => 4
  | 7 => 4
  | 8 => 4
  | 9 => 4
  | 10 => 4
  | 11 => 1
  | 12 => 1
  | 13 => 4
  | 14 => 4
  | 15 => 1
  | 16 => 1
  | 17 => 4
  | 18 => 1
  | 19 => 1
  | 20 => 1
  | 21 => 2
  | 22 => 2
  | 23 => 3
  | _ => 0
def mFs (f : Nat → Nat → Int32) (ad : Nat → Nat) : List Value := [.ref (ad 0), .ref (ad 1), .ref (ad 2), .ref (ad 3), .int (f 4 0), .ref (ad 5), .int (f 6 0), .int (f 7 0), .int (f 8 0), .int (f 9 0), .int (f 10 0), .ref (ad 11), .ref (ad 12), .int (f 13 0), .int (f 14 0), .ref (ad 15), .ref (ad 16), .int (f 17 0), .ref (ad 18), .ref (ad 19), .ref (ad 20), .ref (ad 21), .ref (ad 22)]
def mEnc (G : GD) (f : Nat → Nat → Int32) (g : Nat → Nat → Int64) (ad : Nat → Nat) (k : Nat) : Option va_E := match mKnd k with
  | 1 => some (.inl (G.2.1 0, mLen k, .inl (f k)))
  | 2 => some (.inl (G.2.1 2, mLen k, .inr (.inl (g k))))
  | 3 => some (.inr (3, mFs f ad))
  | _ => none
abbrev MW (G : GD) (A : Nat → Prop) (f : Nat → Nat → Int32) (g : Nat → Nat → Int64) (ad : Nat → Nat) (H : Heap) : Prop := Wd G A (mEnc G f g ad) ad H
theorem mEnc_1 {G : GD} {f : Nat → Nat → Int32} {g : Nat → Nat → Int64} {ad : Nat → Nat} {k : Nat} (h : mKnd k = 1) : mEnc G f g ad k = some (.inl (G.2.1 0, mLen k, .inl (f k))) := by
  simp only [mEnc, h]
theorem mEnc_2 {G : GD} {f : Nat → Nat → Int32} {g : Nat → Nat → Int64} {ad : Nat → Nat} {k : Nat} (h : mKnd k = 2) : mEnc G f g ad k = some (.inl (G.2.1 2, mLen k, .inr (.inl (g k)))) := by
  simp only [mEnc, h]
theorem mFs_arr {f : Nat → Nat → Int32} {ad : Nat → Nat} {k j : Nat} {x : Int32} (h : mKnd k = 1) : mFs (up2 f k j x) ad = mFs f ad := by
  have hk : ∀ q, mKnd q = 4 → up2 f k j x q = f q := fun q hq => up2_ne (fun e => by rw [e, h] at hq; cases hq)
  unfold mFs
  rw [hk 4 rfl, hk 6 rfl, hk 7 rfl, hk 8 rfl, hk 9 rfl, hk 10 rfl, hk 13 rfl, hk 14 rfl, hk 17 rfl]
theorem mEnc_arr {G : GD} {f : Nat → Nat → Int32} {g : Nat → Nat → Int64} {ad : Nat → Nat} {k j r : Nat} {x : Int32} (h : mKnd k = 1) (hr : r ≠ k) : mEnc G (up2 f k j x) g ad r = mEnc G f g ad r := by
  unfold mEnc
  rw [mFs_arr h, up2_ne hr]
theorem mEnc_sc {G : GD} {f : Nat → Nat → Int32} {g : Nat → Nat → Int64} {ad : Nat → Nat} {k r : Nat} {x : Int32} (h : mKnd k = 4) (hr : r ≠ 23) : mEnc G (up2 f k 0 x) g ad r = mEnc G f g ad r := by
  by_cases q : r = k
  · subst q
    simp only [mEnc, h]
  · have h3 : mKnd r ≠ 3 := by
      intro e
      unfold mKnd at e
      split at e <;> first | exact absurd e (by decide) | exact absurd rfl hr
    unfold mEnc
    rw [up2_ne q]
    split <;> first | rfl | (rename_i e; exact absurd e h3)
theorem mEnc_lg {G : GD} {f : Nat → Nat → Int32} {g : Nat → Nat → Int64} {ad : Nat → Nat} {k j r : Nat} {x : Int64} (hr : r ≠ k) : mEnc G f (up2L g k j x) ad r = mEnc G f g ad r := by
  unfold mEnc
  rw [up2L_ne hr]
section MRW
variable {p : Program} {l : Launch} {e : Env} {R : Room} {s : State} {m : MethodId} {args : Array Value} {below : List Frame} {meth : Method} {c : Code} {H H0 : Heap} {locs : List Loc} {cells slots : Nat} {Q : State → Prop}
variable {pc : Nat} {ls : Array Slot} {rest : List Value} {A : Nat → Prop} {G : GD} {cc : ByteArray} {nL index : Nat} {own : String} {f : Nat → Nat → Int32} {g : Nat → Nat → Int64} {ad : Nat → Nat}
theorem MW.recv (hK : KV G s) (hW : MW G A f g ad H) : ∃ cell : Cell, H[ad 23]? = some cell ∧ cell.vm.isStatics = false ∧ s.vm.findClass RX3 = some cell.cls :=
  va_recv hK.1 (P1 (hW.at (r := 23) rfl)) (ci := 3) (q0 := 0) rfl rfl
theorem m_get (hc : Cx G p s m args c cc nL own) (hW : MW G A f g ad H) (k : Nat) (hk : k < 23) {ref : String} (href : ref = RX3) (hlink : Cond.fieldLink own index ref (TX3 k).2.1 (TX3 k).2.2.1 ∈ lw_all) (hT : (TX3 k).1 = RX3) {v : Value} (hv : (mFs f ad)[k]? = some v) (hdg : decode cc pc = .ok (.getfield index, 3))
    (kk : W p l e R s m args below meth c H locs cells slots Q (F0 m (pc + 3) ls (v :: rest))) : W p l e R s m args below meth c H locs cells slots Q (F0 m pc ls (.ref (ad 23) :: rest)) := by
  obtain ⟨hx, hb, hml, hown, hts, hK⟩ := hc
  exact va_get hx hb hts in_X3 hown hK.1 (P1 (hW.at (r := 23) rfl)) 0 rfl rfl k hk (hts _ hlink) (fun x h => by rw [href, ← hT]; exact h) hv hdg kk
theorem m_putS (hc : Cx G p s m args c cc nL own) (hW : MW G A f g ad H) (hS : va_S A H0 H locs) (k : Nat) (hk : k < 23) (h4 : mKnd k = 4) {ref : String} (href : ref = RX3) (hlink : Cond.fieldLink own index ref (TX3 k).2.1 (TX3 k).2.2.1 ∈ lw_all) (hT : (TX3 k).1 = RX3) (hfin : (TX3 k).2.2.2 = false) {ty : FieldType} (hty : parseFieldDescriptor (TX3 k).2.2.1 = some ty) {x : Int32} (hn : narrow ty (.int x) = .int x) (hfit : fits ty (.int x) = true) (hfs : (mFs f ad).set k (.int x) = mFs (up2 f k 0 x) ad) (hdg : decode cc pc = .ok (.putfield index, 3))
    (kk : ∀ (H1 : Heap) (locs1 : List Loc), MW G A (up2 f k 0 x) g ad H1 → va_S A H0 H1 locs1 → H1.size = H.size → W p l e R s m args below meth c H1 locs1 cells slots Q (F0 m (pc + 3) ls rest)) : W p l e R s m args below meth c H locs cells slots Q (F0 m pc ls (.int x :: .ref (ad 23) :: rest)) := by
  obtain ⟨hx, hb, hml, hown, hts, hK⟩ := hc
  refine s_put hx hb hts in_X3 tyX3 tyX3_ok nmX3 hown hK.1 (hW.at (r := 23) rfl) rfl k hk (hts _ hlink) (fun x h => by rw [href, ← hT]; exact h) hfin hty hn hfit hk hdg fun H1 i e1 z oq => ?_
  refine kk H1 _ (hW.wr (r0 := 23) rfl rfl (fun r hr => mEnc_sc h4 hr) ?_ oq) (hS.put z oq (hW.mem (r := 23) rfl)) z
  rw [← hfs]
  exact e1
theorem m_ild (hc : Cx G p s m args c cc nL own) (hW : MW G A f g ad H) (k : Nat) (h1 : mKnd k = 1) {n j : Nat} (hn : mLen k = n) {i : Int32} (hi : IdxOk i j n) (hdg : decode cc pc = .ok (.iaload, 1))
    (kk : W p l e R s m args below meth c H locs cells slots Q (F0 m (pc + 1) ls (.int (f k j) :: rest))) : W p l e R s m args below meth c H locs cells slots Q (F0 m pc ls (.int i :: .ref (ad k) :: rest)) := by
  obtain ⟨hx, hb, hml, hown, hts, hK⟩ := hc
  subst hn
  exact va_iald hx hb hK.1 (P1 (hW.at (mEnc_1 h1))) 0 0 rfl rfl hi.1 hdg (by rw [hi.2]; exact kk)
theorem m_ist (hc : Cx G p s m args c cc nL own) (hW : MW G A f g ad H) (hS : va_S A H0 H locs) (k : Nat) (h1 : mKnd k = 1) {n j : Nat} (hn : mLen k = n) {i x : Int32} (hi : IdxOk i j n) (hdg : decode cc pc = .ok (.iastore, 1))
    (kk : ∀ (H1 : Heap) (locs1 : List Loc), MW G A (up2 f k j x) g ad H1 → va_S A H0 H1 locs1 → H1.size = H.size → W p l e R s m args below meth c H1 locs1 cells slots Q (F0 m (pc + 1) ls rest)) : W p l e R s m args below meth c H locs cells slots Q (F0 m pc ls (.int x :: .int i :: .ref (ad k) :: rest)) := by
  obtain ⟨hx, hb, hml, hown, hts, hK⟩ := hc
  subst hn
  refine s_iast hx hb hK.1 0 (hW.at (mEnc_1 h1)) rfl hi hdg fun H1 e1 z oq => ?_
  refine kk H1 _ (hW.wr (mEnc_1 h1) (mEnc_1 h1) (fun r hr => mEnc_arr h1 hr) ?_ oq) (hS.put z oq (hW.mem (mEnc_1 h1))) z
  rw [up2_row]
  exact e1
theorem m_lld (hc : Cx G p s m args c cc nL own) (hW : MW G A f g ad H) (k : Nat) (h1 : mKnd k = 2) {n j : Nat} (hn : mLen k = n) {i : Int32} (hi : IdxOk i j n) (hdg : decode cc pc = .ok (.laload, 1))
    (kk : W p l e R s m args below meth c H locs cells slots Q (F0 m (pc + 1) ls (.long (g k j) :: rest))) : W p l e R s m args below meth c H locs cells slots Q (F0 m pc ls (.int i :: .ref (ad k) :: rest)) := by
  obtain ⟨hx, hb, hml, hown, hts, hK⟩ := hc
  subst hn
  exact va_lald hx hb hK.1 (P1 (hW.at (mEnc_2 h1))) 0 2 rfl rfl hi.1 hdg (by rw [hi.2]; exact kk)
theorem m_lst (hc : Cx G p s m args c cc nL own) (hW : MW G A f g ad H) (hS : va_S A H0 H locs) (k : Nat) (h1 : mKnd k = 2) {n j : Nat} (hn : mLen k = n) {i : Int32} {x : Int64} (hi : IdxOk i j n) (hdg : decode cc pc = .ok (.lastore, 1))
    (kk : ∀ (H1 : Heap) (locs1 : List Loc), MW G A f (up2L g k j x) ad H1 → va_S A H0 H1 locs1 → H1.size = H.size → W p l e R s m args below meth c H1 locs1 cells slots Q (F0 m (pc + 1) ls rest)) : W p l e R s m args below meth c H locs cells slots Q (F0 m pc ls (.long x :: .int i :: .ref (ad k) :: rest)) := by
  obtain ⟨hx, hb, hml, hown, hts, hK⟩ := hc
  subst hn
  refine s_last hx hb hK.1 2 (hW.at (mEnc_2 h1)) rfl hi hdg fun H1 e1 z oq => ?_
  refine kk H1 _ (hW.wr (mEnc_2 h1) (mEnc_2 h1) (fun r hr => mEnc_lg hr) ?_ oq) (hS.put z oq (hW.mem (mEnc_2 h1))) z
  rw [up2L_row]
  exact e1
end MRW
theorem arrV_ext {cI : ClassId} {N : Nat} {f f' : Nat → Value} (h : ∀ j, j < N → f' j = f j) : arrV cI N f' = arrV cI N f := by
  unfold arrV
  have : (fun j : Fin N => f' j.val) = fun j : Fin N => f j.val := funext fun j => h j.val j.isLt
  rw [this]
/-- what lies behind an array's end is nobody's -/
theorem MW.ext {G : GD} {A : Nat → Prop} {f f' : Nat → Nat → Int32} {g g' : Nat → Nat → Int64} {ad : Nat → Nat} {H : Heap} (h : MW G A f g ad H) (hs : ∀ k, mKnd k = 4 → f' k 0 = f k 0) (ha : ∀ k j, mKnd k = 1 → j < mLen k → f' k j = f k j) (hg : ∀ k j, mKnd k = 2 → j < mLen k → g' k j = g k j) : MW G A f' g' ad H := by
  have hfs : mFs f' ad = mFs f ad := by
    unfold mFs
    rw [hs 4 rfl, hs 6 rfl, hs 7 rfl, hs 8 rfl, hs 9 rfl, hs 10 rfl, hs 13 rfl, hs 14 rfl, hs 17 rfl]
  have hno : ∀ r, mEnc G f' g' ad r ≠ none → mEnc G f g ad r ≠ none := by
    intro r
    unfold mEnc
    split <;> simp
  refine ⟨h.1, h.2.1, fun r r' hr hr' e => h.2.2.1 r r' (hno r hr) (hno r' hr') e, fun r e he => ?_⟩
  by_cases h1 : mKnd r = 1
  · rw [mEnc_1 h1] at he
    cases he
    have q := h.2.2.2 r _ (mEnc_1 h1)
    refine ⟨q.1, ?_⟩
    have q2 : H[ad r]? = some (vp_cell _ _) := q.2
    show H[ad r]? = some (vp_cell _ _)
    rw [q2, vp_cell_i, vp_cell_i]
    exact congrArg some (arrV_ext fun j hj => by rw [ha r j h1 hj]).symm
  · by_cases h2 : mKnd r = 2
    · rw [mEnc_2 h2] at he
      cases he
      have q := h.2.2.2 r _ (mEnc_2 h2)
      refine ⟨q.1, ?_⟩
      have q2 : H[ad r]? = some (vp_cell _ _) := q.2
      show H[ad r]? = some (vp_cell _ _)
      rw [q2, vp_cell_l, vp_cell_l]
      exact congrArg some (arrV_ext fun j hj => by rw [hg r j h2 hj]).symm
    · refine h.2.2.2 r e ?_
      rw [← he]
      unfold mEnc
      rw [hfs]
      split <;> first | rfl | (rename_i q; exact absurd q h1) | (rename_i q; exact absurd q h2)
/-- a row replaced -/
def upA (f : Nat → Nat → Int32) (k : Nat) (a : Nat → Int32) : Nat → Nat → Int32 := fun q => if q = k then a else f q
theorem up2_upA {f : Nat → Nat → Int32} {k j : Nat} {a : Nat → Int32} {x : Int32} : up2 (upA f k a) k j x = upA f k (upd a j x) := by
  funext q b
  by_cases h : q = k
  · subst h
    by_cases h2 : b = j <;> simp [up2, upA, upd, h2]
  · simp [up2, upA, h]
/-- the rows of the air: pressures, now, how many rounds, restless -/
def airF (f : Nat → Nat → Int32) (a b : Nat → Int32) (n z : Int32) : Nat → Nat → Int32 := fun q => match q with
  | 11 => a
  | 12 => b
  | 13 => fun _ => n
  | 14 => fun _ => z
  | q => f q
/-- what a call leaves for the next one: the numbers that only pass from one method to another may be any -/
def Jk (f f' : Nat → Nat → Int32) : Prop := f' 0 = f 0 ∧ f' 1 = f 1 ∧ f' 3 = f 3 ∧ f' 4 = f 4 ∧ f' 5 = f 5 ∧ f' 6 = f 6 ∧ f' 19 = f 19 ∧ f' 20 = f 20
theorem Jk.rf {f : Nat → Nat → Int32} : Jk f f := ⟨rfl, rfl, rfl, rfl, rfl, rfl, rfl, rfl⟩
theorem Jk.tr {f f' f'' : Nat → Nat → Int32} (h : Jk f f') (h2 : Jk f' f'') : Jk f f'' := ⟨h2.1.trans h.1, h2.2.1.trans h.2.1, h2.2.2.1.trans h.2.2.1, h2.2.2.2.1.trans h.2.2.2.1, h2.2.2.2.2.1.trans h.2.2.2.2.1, h2.2.2.2.2.2.1.trans h.2.2.2.2.2.1, h2.2.2.2.2.2.2.1.trans h.2.2.2.2.2.2.1, h2.2.2.2.2.2.2.2.trans h.2.2.2.2.2.2.2⟩
def MP (G : GD) (A : Nat → Prop) (f : Nat → Nat → Int32) (g : Nat → Nat → Int64) (ad : Nat → Nat) (H : Heap) : Prop := ∃ f' g', Jk f f' ∧ g' 21 = g 21 ∧ MW G A f' g' ad H
theorem MW.mp {G : GD} {A : Nat → Prop} {f : Nat → Nat → Int32} {g : Nat → Nat → Int64} {ad : Nat → Nat} {H : Heap} (h : MW G A f g ad H) : MP G A f g ad H := ⟨f, g, Jk.rf, rfl, h⟩
