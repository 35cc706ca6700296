/-! sheets: arrays of bytes, shorts, longs; the tape -/
set_option maxRecDepth 100000
def IG (G : GD) : Prop := va_Nc "[S" "[B" G.2.2 ∧ va_Nc "[J" "[B" G.2.2 ∧ va_Nc "[J" "[S" G.2.2
section SBS
variable {p : Program} {l : Launch} {e : Env} {R : Room} {s : State} {m : MethodId} {args : Array Value} {below : List Frame} {meth : Method} {c : Code} {H H0 : Heap} {locs : List Loc} {cells slots : Nat} {Q : State → Prop}
variable {cc : ByteArray} {pc : Nat} {ls : Array Slot} {rest : List Value} {D : va_G} {cl : List vw_C} {a : Nat} {tys : List (ClassId × FieldType)}
theorem s_bast (hexec : p.tables.exec = Jvm.exec) (hb : c.code = cc) (hK : va_K D cl tys s) (t0 : Nat) {cA : ClassId} {n j : Nat} {f : Nat → Int32} (hat : va_at D cl (a, .inl (cA, n, .inl f)) H) (ht : tys[t0]? = some (cA, .byte)) {i x : Int32} (hin : IdxOk i j n) (hdg : decode cc pc = .ok (.bastore, 1))
    (kk : ∀ H1 : Heap, va_at D cl (a, .inl (cA, n, .inl (upd f j (vp_nar .byte x)))) H1 → H1.size = H.size → (∀ q : Nat, q ≠ a → H1[q]? = H[q]?) → W p l e R s m args below meth c H1 (locs ++ [⟨a, j⟩]) cells slots Q (F0 m (pc + 1) ls rest)) : W p l e R s m args below meth c H locs cells slots Q (F0 m pc ls (.int x :: .int i :: .ref a :: rest)) := by
  obtain ⟨hin, rfl⟩ := hin
  refine W.bast hexec hb hat ((hK.2 t0 _ ht).1 n (fun j => .int (f j))) (fun q => by cases q) (by show ¬ (i < 0 ∨ (arrV _ _ _).slots.size ≤ _); rw [arrV_size]; exact hin) rfl rfl hdg fun H1 e z oq => ?_
  refine kk H1 ?_ z oq
  show H1[a]? = some (vp_cell _ _)
  rw [e]
  rw [vp_cell_i, vp_cell_i, arrV_store]
  congr 2
  funext q
  by_cases hq : q = i.toNatClampNeg
  · subst hq
    simp [updV, upd, vp_nar]
    try rfl
  · simp [updV, upd, hq]
theorem s_sast (hexec : p.tables.exec = Jvm.exec) (hb : c.code = cc) (hK : va_K D cl tys s) (t0 : Nat) {cA : ClassId} {n j : Nat} {f : Nat → Int32} (hat : va_at D cl (a, .inl (cA, n, .inl f)) H) (ht : tys[t0]? = some (cA, .short)) {i x : Int32} (hin : IdxOk i j n) (hdg : decode cc pc = .ok (.sastore, 1))
    (kk : ∀ H1 : Heap, va_at D cl (a, .inl (cA, n, .inl (upd f j (vp_nar .short x)))) H1 → H1.size = H.size → (∀ q : Nat, q ≠ a → H1[q]? = H[q]?) → W p l e R s m args below meth c H1 (locs ++ [⟨a, j⟩]) cells slots Q (F0 m (pc + 1) ls rest)) : W p l e R s m args below meth c H locs cells slots Q (F0 m pc ls (.int x :: .int i :: .ref a :: rest)) := by
  obtain ⟨hin, rfl⟩ := hin
  refine W.sast hexec hb hat ((hK.2 t0 _ ht).1 n (fun j => .int (f j))) (fun q => by cases q) (by show ¬ (i < 0 ∨ (arrV _ _ _).slots.size ≤ _); rw [arrV_size]; exact hin) rfl rfl hdg fun H1 e z oq => ?_
  refine kk H1 ?_ z oq
  show H1[a]? = some (vp_cell _ _)
  rw [e]
  rw [vp_cell_i, vp_cell_i, arrV_store]
  congr 2
  funext q
  by_cases hq : q = i.toNatClampNeg
  · subst hq
    simp [updV, upd, vp_nar]
    try rfl
  · simp [updV, upd, hq]
theorem ar_cell {cA : ClassId} {x : vp_A} (hat : va_at D cl (a, .inl (cA, x)) H) {nm : String} (hnm : s.vm.findClass nm = some cA) : ∃ cell : Cell, H[a]? = some cell ∧ cell.vm.isStatics = false ∧ s.vm.findClass nm = some cell.cls := by
  refine ⟨vp_cell cA x, hat, ?_, ?_⟩
  · obtain ⟨n, f | f | f | f | f⟩ := x <;> rfl
  · obtain ⟨n, f | f | f | f | f⟩ := x <;> exact hnm
end SBS
theorem nm_B {G : GD} {s : State} (hK : KV G s) : s.vm.findClass "[B" = some (G.2.1 1) := (hK.1.2 1 _ rfl).2
theorem nm_S {G : GD} {s : State} (hK : KV G s) : s.vm.findClass "[S" = some (G.2.1 3) := (hK.1.2 3 _ rfl).2
theorem nm_J {G : GD} {s : State} (hK : KV G s) : s.vm.findClass "[J" = some (G.2.1 2) := (hK.1.2 2 _ rfl).2
/-- a sheet of so many bits at a -/
def ShA (G : GD) (bits : Int32) (n : Nat) (v : Nat → Int64) (a : Nat) (H : Heap) : Prop := ∃ e, shE G bits n v = some e ∧ va_at G.1 vwCl (a, e) H
def bitsOk (z : Int32) : Prop := z = 8 ∨ z = 16 ∨ z = 64
/-- what bytes and shorts can hold -/
def narOk (z : Int32) (x : Int64) : Prop := z = 64 ∨ x.toInt32.toInt64 = x
theorem shE_8 {G : GD} {n : Nat} {v : Nat → Int64} : shE G 8 n v = some (.inl (G.2.1 1, n, .inl (fun j => (v j).toInt32))) := if_pos rfl
theorem shE_16 {G : GD} {n : Nat} {v : Nat → Int64} : shE G 16 n v = some (.inl (G.2.1 3, n, .inl (fun j => (v j).toInt32))) := by
  unfold shE
  rw [if_neg (by decide), if_pos rfl]
theorem shE_64 {G : GD} {n : Nat} {v : Nat → Int64} : shE G 64 n v = some (.inl (G.2.1 2, n, .inr (.inl v))) := by
  unfold shE
  rw [if_neg (by decide), if_neg (by decide), if_pos rfl]
theorem ShA.b {G : GD} {n a : Nat} {v : Nat → Int64} {H : Heap} (h : ShA G 8 n v a H) : va_at G.1 vwCl (a, .inl (G.2.1 1, n, .inl (fun j => (v j).toInt32))) H := by
  obtain ⟨e, h1, h2⟩ := h
  rw [shE_8] at h1
  cases h1
  exact h2
theorem ShA.s {G : GD} {n a : Nat} {v : Nat → Int64} {H : Heap} (h : ShA G 16 n v a H) : va_at G.1 vwCl (a, .inl (G.2.1 3, n, .inl (fun j => (v j).toInt32))) H := by
  obtain ⟨e, h1, h2⟩ := h
  rw [shE_16] at h1
  cases h1
  exact h2
theorem ShA.j {G : GD} {n a : Nat} {v : Nat → Int64} {H : Heap} (h : ShA G 64 n v a H) : va_at G.1 vwCl (a, .inl (G.2.1 2, n, .inr (.inl v))) H := by
  obtain ⟨e, h1, h2⟩ := h
  rw [shE_64] at h1
  cases h1
  exact h2
theorem DW.sh {G : GD} {A : Nat → Prop} {f : Nat → Nat → Int32} {g : Nat → Nat → Int64} {b : Nat → Nat → Int32} {hh hk ht : Nat} {ad : Nat → Nat} {H : Heap} (h : DW G A f g b hh hk ht ad H) {i : Nat} (hi : i < 4) (hz : bitsOk (f 19 i)) : ShA G (f 19 i) (f 20 i).toNatClampNeg (fun j => g 21 (40 * i + j)) (ad (20 + i)) H := by
  cases he : shE G (f 19 i) (f 20 i).toNatClampNeg (fun j => g 21 (40 * i + j)) with
  | none =>
    exfalso
    have := dE_ne (G := G) (f := f) (g := g) (b := b) (hh := hh) (hk := hk) (ht := ht) (ad := ad) (q := 20 + i) (Or.inr (Or.inr ⟨by omega, by omega, by rw [Nat.add_sub_cancel_left]; exact hz⟩))
    rw [dE_sh hi, he] at this
    exact this rfl
  | some e => exact ⟨e, he, h.at ((dE_sh hi).trans he)⟩
theorem t64_32 {x : Int32} : x.toInt64.toInt32 = x := by
  exact Int32.toInt32_toInt64 x
theorem nar_b {x : Int32} : vp_nar .byte x = x.toInt8.toInt32 := rfl
theorem nar_s {x : Int32} : vp_nar .short x = x.toInt16.toInt32 := rfl
theorem i8_i8 {x : Int32} : x.toInt8.toInt32.toInt8 = x.toInt8 := Int8.toInt8_toInt32 _
theorem i16_i16 {x : Int32} : x.toInt16.toInt32.toInt16 = x.toInt16 := Int16.toInt16_toInt32 _
theorem upL_8 {v : Nat → Int64} {j : Nat} {x : Int64} : upd (fun j => (v j).toInt32) j (vp_nar .byte x.toInt32.toInt8.toInt32) = fun k => (vp_updL v j (narP 8 x) k).toInt32 := by
  funext k
  by_cases h : k = j
  · subst h
    rw [upd_at, show vp_updL v k (narP 8 x) k = narP 8 x from if_pos rfl, show narP 8 x = x.toInt32.toInt8.toInt32.toInt64 from if_pos rfl, nar_b, i8_i8, t64_32]
  · rw [upd_ne h, show vp_updL v j (narP 8 x) k = v k from if_neg h]
theorem upL_16 {v : Nat → Int64} {j : Nat} {x : Int64} : upd (fun j => (v j).toInt32) j (vp_nar .short x.toInt32.toInt16.toInt32) = fun k => (vp_updL v j (narP 16 x) k).toInt32 := by
  funext k
  by_cases h : k = j
  · subst h
    rw [upd_at, show vp_updL v k (narP 16 x) k = narP 16 x from if_pos rfl, show narP 16 x = x.toInt32.toInt16.toInt32.toInt64 from (if_neg (by decide)).trans (if_pos rfl), nar_s, i16_i16, t64_32]
  · rw [upd_ne h, show vp_updL v j (narP 16 x) k = v k from if_neg h]
theorem upL_64 {v : Nat → Int64} {j : Nat} {x : Int64} : vp_updL v j x = vp_updL v j (narP 64 x) := by
  unfold narP
  rw [if_neg (by decide), if_neg (by decide)]
