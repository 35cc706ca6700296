/-! rows for making: constructors' calls, new arrays, new objects, final fields; a world with one cell more -/
set_option maxRecDepth 100000
section MKC
variable {p : Program} {l : Launch} {e : Env} {R : Room} {s : State} {m : MethodId} {args : Array Value} {below : List Frame} {meth : Method} {c : Code} {H : Heap} {locs : List Loc} {cells slots : Nat} {Q : State → Prop}
variable {pc : Nat} {ls : Array Slot} {rest st : List Value} {A A0 A1 : Nat → Prop} {H0 : Heap} {mc ms : Nat} {G : GD} {cc bytes : ByteArray} {nL maxL n index lev : Nat} {own : String} {y : MethodName} {b : Nat} {As : List Value}
theorem ci_R (hc : Cx G p s m args c cc nL own) (hM : MetR l G y bytes maxL none lev (.ref b :: As) H none) (h1 : Cond.methodLink own index y ∈ lw_all) (h2 : Cond.instanceMethod y ∈ lw_all) (h4 : Cond.initialized y.cls ∈ lw_all) (h5 : Cond.code y bytes maxL none ∈ lw_all) (hy1 : y.name = "<init>")
    (hd : y.cls ≠ "java/lang/invoke/MethodHandle" ∧ y.cls ≠ "java/lang/invoke/VarHandle" ∧ (parseMethodDescriptor y.desc).map (fun d => d.parameters.length) = some n) (hR : lev + 1 ≤ R.frames ∧ 8 + (maxL + 11) + 42 * lev ≤ R.locals)
    (hn : As.length = n) (hsz : ls.size = nL) (hst : st = As.reverse ++ .ref b :: rest) (hW8 : (rest.map fun v => v.category).sum ≤ 8) (hdg : decode cc pc = .ok (.invokespecial index, 3)) (hf : cells ≤ R.cells ∧ slots ≤ R.slots)
    (kk : W p l e R s m args below meth c H locs cells slots Q (F0 m (pc + 3) ls rest)) : W p l e R s m args below meth c H locs cells slots Q (F0 m pc ls st) := by
  obtain ⟨hx, hb, hml, hown, hts, hK⟩ := hc
  exact x_callR (va_runI (As := As) (rest := rest) ⟨hx, hb, hml, hown, hts⟩ hM (cwI n hts (lw_meth h5) rfl rfl rfl (hts _ h4) (hts _ h1) (hts _ h2) hy1 hd hR) (sm_preS hK) rfl hn hsz hst (lv_room hW8) hdg hf) kk
theorem ci_W {P : Heap → Prop} (hc : Cx G p s m args c cc nL own) (hM : MetW l G y bytes maxL none lev mc ms A1 (.ref b :: As) H none P) (h1 : Cond.methodLink own index y ∈ lw_all) (h2 : Cond.instanceMethod y ∈ lw_all) (h4 : Cond.initialized y.cls ∈ lw_all) (h5 : Cond.code y bytes maxL none ∈ lw_all) (hy1 : y.name = "<init>")
    (hd : y.cls ≠ "java/lang/invoke/MethodHandle" ∧ y.cls ≠ "java/lang/invoke/VarHandle" ∧ (parseMethodDescriptor y.desc).map (fun d => d.parameters.length) = some n) (hR : lev + 1 ≤ R.frames ∧ 8 + (maxL + 11) + 42 * lev ≤ R.locals)
    (hn : As.length = n) (hsz : ls.size = nL) (hst : st = As.reverse ++ .ref b :: rest) (hW8 : (rest.map fun v => v.category).sum ≤ 8) (hdg : decode cc pc = .ok (.invokespecial index, 3)) (hf : cells + mc ≤ R.cells ∧ slots + ms ≤ R.slots)
    (hS : va_S A0 H0 H locs) (hA : ∀ q, A1 q → A0 q)
    (kk : ∀ (H1 : Heap) (locs1 : List Loc), P H1 → va_S A0 H0 H1 locs1 → H.size ≤ H1.size → (∀ q : Nat, q < H.size → ¬ A1 q → H1[q]? = H[q]?) → W p l e R s m args below meth c H1 locs1 (cells + mc) (slots + ms) Q (F0 m (pc + 3) ls rest)) : W p l e R s m args below meth c H locs cells slots Q (F0 m pc ls st) := by
  obtain ⟨hx, hb, hml, hown, hts, hK⟩ := hc
  refine x_callW (va_runI (As := As) (rest := rest) ⟨hx, hb, hml, hown, hts⟩ hM (cwI n hts (lw_meth h5) rfl rfl rfl (hts _ h4) (hts _ h1) (hts _ h2) hy1 hd hR) (sm_preS hK) rfl hn hsz hst (lv_room hW8) hdg hf) hS hA (fun v' H1 locs1 hq hz hk hS1 => ?_)
  obtain ⟨rfl, hp⟩ := hq
  exact kk H1 locs1 hp hS1 hz hk
end MKC
theorem a_oinit {p : Program} {l : Launch} {e : Env} {R : Room} {s : State} {m : MethodId} {args : Array Value} {below : List Frame} {meth : Method} {c : Code} {H : Heap} {locs : List Loc} {cells slots : Nat} {Q : State → Prop} {pc : Nat} {ls : Array Slot} {rest : List Value} {G : GD} {cc : ByteArray} {nL index b : Nat} {own : String}
    (hc : Cx G p s m args c cc nL own) (h1 : Cond.methodLink own index yJ8_init ∈ lw_all) (hsz : ls.size = nL) (hdg : decode cc pc = .ok (.invokespecial index, 3)) (hf : 1 ≤ R.frames) (hl : (rest.map fun v => v.category).sum + 12 ≤ R.locals)
    (kk : W p l e R s m args below meth c H locs cells slots Q (F0 m (pc + 3) ls rest)) : W p l e R s m args below meth c H locs cells slots Q (F0 m pc ls (.ref b :: rest)) := by
  obtain ⟨hx, hb, hml, hown, hts, hK⟩ := hc
  exact W.objInit (g := F0 m pc ls (.ref b :: rest)) hx hb hown (hts _ h1) (hts _ q95) (hts _ q96) rfl (by rw [hml]; exact hsz) rfl hdg hf (by show 2 * 0 + _ + 12 ≤ _; omega) kk
/-- the cell of a new array is above all, and others are as they were -/
theorem va_S.new {A : Nat → Prop} {H0 H H1 : Heap} {locs : List Loc} (hS : va_S A H0 H locs) (hz : H1.size = H.size + 1) (o1 : ∀ q : Nat, q < H.size → H1[q]? = H[q]?) : va_S A H0 H1 locs :=
  ⟨Nat.le_trans hS.1 (by omega), fun x h1 h2 => (o1 x (Nat.lt_of_lt_of_le h1 hS.1)).trans (hS.2.1 x h1 h2), hS.2.2⟩
section MKA
variable {p : Program} {l : Launch} {e : Env} {R : Room} {s : State} {m : MethodId} {args : Array Value} {below : List Frame} {meth : Method} {c : Code} {H : Heap} {locs : List Loc} {cells slots : Nat} {Q : State → Prop}
variable {pc : Nat} {ls : Array Slot} {rest : List Value} {A : Nat → Prop} {H0 : Heap} {G : GD} {cc : ByteArray} {nL : Nat} {own : String}
theorem a_newI (hc : Cx G p s m args c cc nL own) (hS : va_S A H0 H locs) {n : Int32} {N : Nat} (hN : n.toNatClampNeg = N) (hn : ¬ n < 0) (hbytes : N * 4 ≤ 536870912) (hcells : cells + 1 ≤ R.cells) (hslots : slots + N ≤ R.slots) (hdg : decode cc pc = .ok (.newarray .int, 2))
    (kk : ∀ (H1 : Heap), va_at G.1 vwCl (H.size, .inl (G.2.1 0, N, .inl (fun _ => 0))) H1 → va_S A H0 H1 locs → H1.size = H.size + 1 → (∀ q : Nat, q < H.size → H1[q]? = H[q]?) → W p l e R s m args below meth c H1 locs (cells + 1) (slots + N) Q (F0 m (pc + 2) ls (.ref H.size :: rest))) : W p l e R s m args below meth c H locs cells slots Q (F0 m pc ls (.int n :: rest)) := by
  obtain ⟨hx, hb, hml, hown, hts, hK⟩ := hc
  refine va_newaK hx hb (atype := .int) (hts _ q159) rfl hdg rfl hn hN hbytes hcells hslots rfl fun H1 cA e1 z1 o1 hAr hNm => ?_
  have hid : cA = G.2.1 0 := Option.some.inj (hNm.symm.trans (hK.1.2 0 _ rfl).2)
  subst hid
  exact kk H1 e1 (hS.new z1 o1) z1 o1
theorem a_newL (hc : Cx G p s m args c cc nL own) (hS : va_S A H0 H locs) {n : Int32} {N : Nat} (hN : n.toNatClampNeg = N) (hn : ¬ n < 0) (hbytes : N * 8 ≤ 536870912) (hcells : cells + 1 ≤ R.cells) (hslots : slots + N ≤ R.slots) (hdg : decode cc pc = .ok (.newarray .long, 2))
    (kk : ∀ (H1 : Heap), va_at G.1 vwCl (H.size, .inl (G.2.1 2, N, .inr (.inl (fun _ => 0)))) H1 → va_S A H0 H1 locs → H1.size = H.size + 1 → (∀ q : Nat, q < H.size → H1[q]? = H[q]?) → W p l e R s m args below meth c H1 locs (cells + 1) (slots + N) Q (F0 m (pc + 2) ls (.ref H.size :: rest))) : W p l e R s m args below meth c H locs cells slots Q (F0 m pc ls (.int n :: rest)) := by
  obtain ⟨hx, hb, hml, hown, hts, hK⟩ := hc
  refine va_newaK hx hb (atype := .long) (hts _ q951) rfl hdg rfl hn hN hbytes hcells hslots rfl fun H1 cA e1 z1 o1 hAr hNm => ?_
  have hid : cA = G.2.1 2 := Option.some.inj (hNm.symm.trans (hK.1.2 2 _ rfl).2)
  subst hid
  exact kk H1 e1 (hS.new z1 o1) z1 o1
theorem a_newB (hc : Cx G p s m args c cc nL own) (hS : va_S A H0 H locs) {n : Int32} {N : Nat} (hN : n.toNatClampNeg = N) (hn : ¬ n < 0) (hbytes : N * 1 ≤ 536870912) (hcells : cells + 1 ≤ R.cells) (hslots : slots + N ≤ R.slots) (hdg : decode cc pc = .ok (.newarray .byte, 2))
    (kk : ∀ (H1 : Heap), va_at G.1 vwCl (H.size, .inl (G.2.1 1, N, .inl (fun _ => 0))) H1 → va_S A H0 H1 locs → H1.size = H.size + 1 → (∀ q : Nat, q < H.size → H1[q]? = H[q]?) → W p l e R s m args below meth c H1 locs (cells + 1) (slots + N) Q (F0 m (pc + 2) ls (.ref H.size :: rest))) : W p l e R s m args below meth c H locs cells slots Q (F0 m pc ls (.int n :: rest)) := by
  obtain ⟨hx, hb, hml, hown, hts, hK⟩ := hc
  refine va_newaK hx hb (atype := .byte) (hts _ q201) rfl hdg rfl hn hN hbytes hcells hslots rfl fun H1 cA e1 z1 o1 hAr hNm => ?_
  have hid : cA = G.2.1 1 := Option.some.inj (hNm.symm.trans (hK.1.2 1 _ rfl).2)
  subst hid
  exact kk H1 e1 (hS.new z1 o1) z1 o1
theorem a_newS (hc : Cx G p s m args c cc nL own) (hS : va_S A H0 H locs) {n : Int32} {N : Nat} (hN : n.toNatClampNeg = N) (hn : ¬ n < 0) (hbytes : N * 2 ≤ 536870912) (hcells : cells + 1 ≤ R.cells) (hslots : slots + N ≤ R.slots) (hdg : decode cc pc = .ok (.newarray .short, 2))
    (kk : ∀ (H1 : Heap), va_at G.1 vwCl (H.size, .inl (G.2.1 3, N, .inl (fun _ => 0))) H1 → va_S A H0 H1 locs → H1.size = H.size + 1 → (∀ q : Nat, q < H.size → H1[q]? = H[q]?) → W p l e R s m args below meth c H1 locs (cells + 1) (slots + N) Q (F0 m (pc + 2) ls (.ref H.size :: rest))) : W p l e R s m args below meth c H locs cells slots Q (F0 m pc ls (.int n :: rest)) := by
  obtain ⟨hx, hb, hml, hown, hts, hK⟩ := hc
  refine va_newaK hx hb (atype := .short) (hts _ q950) rfl hdg rfl hn hN hbytes hcells hslots rfl fun H1 cA e1 z1 o1 hAr hNm => ?_
  have hid : cA = G.2.1 3 := Option.some.inj (hNm.symm.trans (hK.1.2 3 _ rfl).2)
  subst hid
  exact kk H1 e1 (hS.new z1 o1) z1 o1
/-- a new object, its fields at their defaults -/
theorem a_new {C : String} {T : u_T} {N ci index : Nat} (hc : Cx G p s m args c cc nL own) (hS : va_S A H0 H locs) (hin : ∀ w ∈ u_ws C T N, w ∈ lw_all) (ty : Nat → FieldType) (hty : ∀ k, k < N → parseFieldDescriptor (T k).2.2.1 = some (ty k)) (hcl : Cond.classLink own index C ∈ lw_all) (hinst : Cond.instantiable C N ∈ lw_all) (hini : Cond.initialized C ∈ lw_all)
    (hci : vwCl[ci]? = some (C, T, N)) {fs : List Value} (hfs : ∀ j, j < N → defaultValue (ty j) = vp_V fs j) (hcells : cells + 1 ≤ R.cells) (hslots : slots + N ≤ R.slots) (hdg : decode cc pc = .ok (.new index, 3))
    (kk : ∀ (H1 : Heap), va_at G.1 vwCl (H.size, .inr (ci, fs)) H1 → va_S A H0 H1 locs → H1.size = H.size + 1 → (∀ q : Nat, q < H.size → H1[q]? = H[q]?) → W p l e R s m args below meth c H1 locs (cells + 1) (slots + N) Q (F0 m (pc + 3) ls (.ref H.size :: rest))) : W p l e R s m args below meth c H locs cells slots Q (F0 m pc ls rest) := by
  obtain ⟨hx, hb, hml, hown, hts, hK⟩ := hc
  have hKn := hK.1.1 ci _ hci
  refine W.newcK hx hb hown (hts _ hcl) (hts _ hinst) (hts _ hini) rfl hdg hcells hslots hKn.2.1 rfl fun H1 kC hkC e1 z1 o1 => ?_
  exact kk H1 ⟨_, hci, (u_born ty hts hin hKn hkC e1 hty).to hfs⟩ (hS.new z1 o1) z1 o1
/-- a final field's store, in the constructor -/
theorem s_putF {D : va_G} {cl : List vw_C} {a : Nat} {tys : List (ClassId × FieldType)} (hexec : p.tables.exec = Jvm.exec) (hb : c.code = cc) {ref C : String} {T : u_T} {N ci index : Nat} {Ts : List Cond} (hts : ∀ w ∈ Ts, w.before args s = true) (hin : ∀ w ∈ u_ws C T N, w ∈ Ts) (ty0 : Nat → FieldType) (hty : ∀ k, k < N → parseFieldDescriptor (T k).2.2.1 = some (ty0 k)) (hnm : ∀ a, a < N → ∀ b, b < N → a ≠ b → (T a).2.1 ≠ (T b).2.1) (hown : s.vm.findClass own = some m.cls) (hK : va_K D cl tys s) {fs : List Value} (hat : va_at D cl (a, .inr (ci, fs)) H) (hc : cl[ci]? = some (C, T, N)) (k : Nat) (hk : k < N) (hlink : (Cond.fieldLink own index ref (T k).2.1 (T k).2.2.1).before args s = true) (hsame : ∀ x, s.fieldFound? (T k).1 (T k).2.1 (T k).2.2.1 = some x → s.fieldFound? ref (T k).2.1 (T k).2.2.1 = some x) (hfin : (T k).2.2.2 = true) (hin2 : meth.name = "<init>") (hdecl : (T k).1 = own) {ty : FieldType} {v : Value} (hd : parseFieldDescriptor (T k).2.2.1 = some ty) (hn : narrow ty v = v) (hfit : fits ty v = true) (hl : k < fs.length)
    (hdg : decode cc pc = .ok (.putfield index, 3)) (kk : ∀ (H1 : Heap) (i : Nat), va_at D cl (a, .inr (ci, fs.set k v)) H1 → H1.size = H.size → (∀ q : Nat, q ≠ a → H1[q]? = H[q]?) → W p l e R s m args below meth c H1 (locs ++ [⟨a, i⟩]) cells slots Q (F0 m (pc + 3) ls rest)) : W p l e R s m args below meth c H locs cells slots Q (F0 m pc ls (v :: .ref a :: rest)) := by
  have hap := va_apart (own := own) hts hin ty0 hty hnm hK hc
  obtain ⟨r, h1, cell, q1, q2, q3, q4⟩ := hat
  have hr : r = (C, T, N) := Option.some.inj (h1.symm.trans hc)
  subst hr
  obtain ⟨hS, hfc, kC, hkC, hkind⟩ := hK.1 ci _ hc
  obtain ⟨cf, kf, fi, f, hi, hsl⟩ := hS k hk
  have hlay := hts _ (hin _ (u_in_lay hk))
  unfold u_lay at hlay
  rw [if_pos hfin] at hlay
  have hst := (u_facts hfc hkC (u_lays hts hin hk) hi).1
  have hcf : m.cls = cf := by
    obtain ⟨_, _, c', _, _, _, -, -, hf', -, -, -, hown2, -⟩ := Cond.laysFinal_spec hlay
    have e1 : c' = cf := by have := hi.symm.trans hf'; simp at this; exact this.1.symm
    rw [hdecl] at hown2
    rw [← e1]; exact Option.some.inj (hown.symm.trans hown2)
  have h6 := u_fits hfc hkC hkind (Or.inr hlay) hi hd hn hfit
  refine W.putFinK hexec hb hown hlink (hsame _ hi) hst hcf hin2 (by rw [q2]; exact h6) q1 q3 (by rw [hsl]; exact k2_hasslot (q4 k hk)) rfl rfl hdg fun H' e1 e2 e3 => ?_
  rw [hsl] at e1 ⊢
  exact kk H' _ ⟨_, hc, t_OB.to (V := updV (vp_V fs) k v) ⟨_, e1, q2, q3, t_set q4 hap hk v⟩ (fun j _ => vp_updV_set hl v j)⟩ e2 e3
end MKA
/-! worlds grow -/
theorem Wd.lt {ρ : Type} {G : GD} {A : Nat → Prop} {ct : ρ → Option va_E} {ad : ρ → Nat} {H : Heap} (h : Wd G A ct ad H) {r : ρ} (hr : ct r ≠ none) : ad r < H.size := by
  cases he : ct r with
  | none => exact absurd he hr
  | some e => exact (h.at he).lt
theorem Wd.reA {ρ : Type} {G : GD} {A A' : Nat → Prop} {ct : ρ → Option va_E} {ad : ρ → Nat} {H : Heap} (h : Wd G A ct ad H) (h1 : ∀ q, A' q → G.2.2.heap.size ≤ q) (h2 : ∀ r, ct r ≠ none → A' (ad r)) : Wd G A' ct ad H :=
  ⟨h1, h.2.1, h.2.2.1, fun r e he => ⟨h2 r (by rw [he]; exact fun h => by cases h), h.at he⟩⟩
/-- a cell of a new role, at the heap's end -/
theorem Wd.add {ρ : Type} [DecidableEq ρ] {G : GD} {A : Nat → Prop} {ct ct' : ρ → Option va_E} {ad ad' : ρ → Nat} {H H1 : Heap} (h : Wd G A ct ad H) {r0 : ρ} {e0 : va_E} (h0 : ct' r0 = some e0) (ha0 : ad' r0 = H.size) (hn : ∀ r, r ≠ r0 → ct' r = ct r ∧ (ct r ≠ none → ad' r = ad r)) (hat : va_at G.1 vwCl (H.size, e0) H1) (hA : A H.size) (o1 : ∀ q : Nat, q < H.size → H1[q]? = H[q]?) (hg : G.2.2.heap.size ≤ H.size) : Wd G A ct' ad' H1 := by
  have hne : ∀ r, r ≠ r0 → ct' r ≠ none → ad' r = ad r ∧ ad r < H.size := fun r hr hc => by
    rw [(hn r hr).1] at hc
    exact ⟨(hn r hr).2 hc, h.lt hc⟩
  refine ⟨h.1, fun q hq => (o1 q (by omega)).trans (h.2.1 q hq), fun r r' hr hr' e => ?_, fun r e he => ?_⟩
  · by_cases q : r = r0
    · by_cases q' : r' = r0
      · rw [q, q']
      · have := hne r' q' hr'
        rw [q, ha0] at e
        omega
    · by_cases q' : r' = r0
      · have := hne r q hr
        rw [q', ha0] at e
        omega
      · have h1 := hne r q hr
        have h2 := hne r' q' hr'
        rw [(hn r q).1] at hr
        rw [(hn r' q').1] at hr'
        exact h.2.2.1 r r' hr hr' (by omega)
  · by_cases q : r = r0
    · subst q
      rw [h0] at he
      cases he
      rw [ha0]
      exact ⟨hA, hat⟩
    · have h1 := hne r q (by rw [he]; exact fun h => by cases h)
      rw [(hn r q).1] at he
      rw [h1.1]
      exact ⟨h.mem he, (h.at he).kept (o1 _ h1.2)⟩
