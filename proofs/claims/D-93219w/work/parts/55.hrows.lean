/-! more rows: a role more, casts of gaps, copies, ends with a reference -/
set_option maxRecDepth 100000
theorem Wd.plus {ρ : Type} [DecidableEq ρ] {G : GD} {A : Nat → Prop} {ct ct' : ρ → Option va_E} {ad ad' : ρ → Nat} {H : Heap} (h : Wd G A ct ad H) {r0 : ρ} {e0 : va_E} (h0 : ct' r0 = some e0) (hat : va_at G.1 vwCl (ad' r0, e0) H) (hA : A (ad' r0)) (hfr : ∀ q, ct q ≠ none → ad q ≠ ad' r0) (hn : ∀ q, q ≠ r0 → ∀ e', ct' q = some e' → ad' q = ad q ∧ ∃ e, ct q = some e ∧ ∀ K : Heap, va_at G.1 vwCl (ad q, e) K → va_at G.1 vwCl (ad q, e') K) : Wd G A ct' ad' H := by
  have hne : ∀ q, q ≠ r0 → ct' q ≠ none → ad' q = ad q ∧ ct q ≠ none := fun q hq hc => by
    cases he : ct' q with
    | none => exact absurd he hc
    | some e' =>
      obtain ⟨h1, e, h2, -⟩ := hn q hq e' he
      exact ⟨h1, by rw [h2]; exact fun z => by cases z⟩
  refine ⟨h.1, h.2.1, fun q q' hq hq' e => ?_, fun q e' he => ?_⟩
  · by_cases c1 : q = r0
    · by_cases c2 : q' = r0
      · rw [c1, c2]
      · have := hne q' c2 hq'
        rw [c1, this.1] at e
        exact absurd e.symm (hfr q' this.2)
    · have h1 := hne q c1 hq
      by_cases c2 : q' = r0
      · rw [c2, h1.1] at e
        exact absurd e (hfr q h1.2)
      · have h2 := hne q' c2 hq'
        rw [h1.1, h2.1] at e
        exact h.2.2.1 q q' h1.2 h2.2 e
  · by_cases c1 : q = r0
    · subst c1
      rw [h0] at he
      cases he
      exact ⟨hA, hat⟩
    · obtain ⟨h1, e, h2, h3⟩ := hn q c1 e' he
      rw [h1]
      exact ⟨h.mem h2, h3 H (h.at h2)⟩
def updN (f : Nat → Nat) (j x : Nat) : Nat → Nat := fun k => if k = j then x else f k
/-- slot N gets a gap; there is one more -/
theorem HW.hold {G : GD} {A : Nat → Prop} {N : Nat} {r r' : Nat → Int32} {u : Nat → Nat → Int32} {hv : Nat → Value} {ah ga : Nat → Nat} {H H1 : Heap} {x : Nat} (hW : HW G A N r u hv ah ga H) (hN : N < 20) (hat : va_at G.1 vwCl (x, .inr (5 + gkP r' N, gfs r' N)) H) (hA : A x) (hfr : ∀ q, hEnc G N r u hv ah ga q ≠ none → hAd ah ga q ≠ x) (h0 : r' 0 = r 0) (h1 : r' 1 = r 1) (h8 : r' 8 = r 8) (hr : ∀ j, (2 ≤ j ∧ j < 8) ∨ (9 ≤ j ∧ j < 9 + 8 * N) → r' j = r j)
    (e1 : va_at G.1 vwCl (ah (10 + N), .inr (2, [.ref x])) H1) (oq : ∀ q : Nat, q ≠ ah (10 + N) → H1[q]? = H[q]?) : HW G A (N + 1) r' u hv ah (updN ga N x) H1 := by
  have hx : x ≠ ah (10 + N) := fun e => hfr (10 + N) (by rw [hE_s hN]; exact fun z => by cases z) (by rw [hAd_s hN]; exact e.symm)
  have hW1 : Wd G A (fun q => if q = 10 + N then some (.inr (2, [.ref x])) else hEnc G N r u hv ah ga q) (hAd ah ga) H1 := by
    refine hW.wr (r0 := 10 + N) (hE_s hN) (if_pos rfl) (fun q hq => if_neg hq) ?_ (by rw [hAd_s hN]; exact oq)
    rw [hAd_s hN]
    exact e1
  have hadg : hAd ah (updN ga N x) (40 + N) = x := by rw [hAd_g]; exact if_pos rfl
  refine hW1.plus (r0 := 40 + N) (hE_g (Nat.lt_succ_self N)) ?_ ?_ (fun q hq => ?_) (fun q hq e' he => ?_)
  · rw [hadg]
    exact hat.kept (oq x hx)
  · rw [hadg]
    exact hA
  · rw [hadg]
    by_cases c1 : q = 10 + N
    · subst c1
      rw [hAd_s hN]
      exact hx.symm
    · exact hfr q (by rw [← if_neg (c := q = 10 + N) (t := some (.inr (2, [.ref x]))) c1 (e := hEnc G N r u hv ah ga q)]; exact hq)
  · have hadq : hAd ah (updN ga N x) q = hAd ah ga q := by
      unfold hAd updN
      by_cases c1 : q < 40
      · rw [if_pos c1, if_pos c1]
      · rw [if_neg c1, if_neg c1, if_neg (by omega)]
    refine ⟨hadq, ?_⟩
    by_cases c1 : q = 10 + N
    · subst c1
      rw [hE_s hN, if_pos (Nat.lt_succ_self N)] at he
      cases he
      refine ⟨_, if_pos rfl, fun K h => ?_⟩
      show va_at G.1 vwCl (_, .inr (2, [.ref (updN ga N x N)])) K
      rw [show updN ga N x N = x from if_pos rfl]
      exact h
    · have hs := hE_some (show hEnc G (N + 1) r' u hv ah (updN ga N x) q ≠ none by rw [he]; exact fun z => by cases z)
      rcases hs with hs | hs | hs
      · rcases (show q = 0 ∨ q = 1 ∨ q = 2 ∨ q = 3 ∨ q = 4 by omega) with rfl | rfl | rfl | rfl | rfl
        · cases he
          refine ⟨_, if_neg c1, fun K h => ?_⟩
          unfold hFs at h ⊢
          rw [h0, h1, h8]
          exact h
        · cases he
          exact ⟨_, if_neg c1, fun K h => h⟩
        · cases he
          exact ⟨_, if_neg c1, at_ext fun j hj => hr _ (by omega)⟩
        · cases he
          exact ⟨_, if_neg c1, fun K h => h⟩
        · cases he
          exact ⟨_, if_neg c1, fun K h => h⟩
      · obtain ⟨i, rfl⟩ : ∃ i, q = 10 + i := ⟨q - 10, by omega⟩
        have hi : i < 20 := by omega
        have hiN : i ≠ N := fun e => c1 (by rw [e])
        rw [hE_s hi] at he
        cases he
        refine ⟨_, (if_neg c1).trans (hE_s hi), fun K h => ?_⟩
        by_cases c2 : i < N
        · rw [if_pos c2] at h
          rw [if_pos (show i < N + 1 by omega), show updN ga N x i = ga i from if_neg hiN]
          exact h
        · rw [if_neg c2] at h
          rw [if_neg (show ¬ i < N + 1 by omega)]
          exact h
      · obtain ⟨i, rfl⟩ : ∃ i, q = 40 + i := ⟨q - 40, by omega⟩
        have hi : i < N := by omega
        rw [hE_g (show i < N + 1 by omega)] at he
        cases he
        refine ⟨_, (if_neg c1).trans (hE_g hi), fun K h => ?_⟩
        have := gfs_ext (r := r) (r' := r') (i := i) (fun w hw => hr _ (Or.inr (by show 9 ≤ 9 + 8 * i + w ∧ 9 + 8 * i + w < _; omega)))
        rw [this.1, this.2]
        exact h
/-- casts to a gap -/
def CG (G : GD) : Prop := va_Nw (.castable RX6 RX5) G.2.2 ∧ va_Nw (.castable RX7 RX5) G.2.2 ∧ va_Nw (.castable RX8 RX5) G.2.2 ∧ va_Nw (.castable RX9 RX5) G.2.2 ∧ va_Nw (.castable RX10 RX5) G.2.2
section HRW
variable {p : Program} {l : Launch} {e : Env} {R : Room} {s : State} {m : MethodId} {args : Array Value} {below : List Frame} {meth : Method} {c : Code} {H H0 : Heap} {locs : List Loc} {cells slots : Nat} {Q : State → Prop}
variable {pc : Nat} {ls : Array Slot} {rest : List Value} {A : Nat → Prop} {G : GD} {cc : ByteArray} {nL index : Nat} {own : String} {N : Nat} {r r' : Nat → Int32} {u u' : Nat → Nat → Int32} {hv : Nat → Value} {ah ga : Nat → Nat} {a : Nat}
theorem gv_cast (hc : Cx G p s m args c cc nL own) (hC : CG G) {k : Nat} (hk : k < 6) {fs : List Value} (hat : va_at G.1 vwCl (a, .inr (5 + k, fs)) H) (hlink : Cond.classLink own index RX5 ∈ lw_all) (hdg : decode cc pc = .ok (.checkcast index, 3))
    (kk : W p l e R s m args below meth c H locs cells slots Q (F0 m (pc + 3) ls (.ref a :: rest))) : W p l e R s m args below meth c H locs cells slots Q (F0 m pc ls (.ref a :: rest)) := by
  obtain ⟨hx, hb, hml, hown, hts, hK⟩ := hc
  obtain ⟨c6, c7, c8, c9, c10⟩ := hC
  rcases kd_cases hk with rfl | rfl | rfl | rfl | rfl | rfl
  · exact va_castS hx hb hown (hts _ hlink) (hK.1.1 5 _ rfl).2 (o_recv hK hat rfl) hdg kk
  · exact va_castY hx hb hown (hts _ hlink) (c6.warmC hK.2) (o_recv hK hat rfl) hdg kk
  · exact va_castY hx hb hown (hts _ hlink) (c7.warmC hK.2) (o_recv hK hat rfl) hdg kk
  · exact va_castY hx hb hown (hts _ hlink) (c8.warmC hK.2) (o_recv hK hat rfl) hdg kk
  · exact va_castY hx hb hown (hts _ hlink) (c9.warmC hK.2) (o_recv hK hat rfl) hdg kk
  · exact va_castY hx hb hown (hts _ hlink) (c10.warmC hK.2) (o_recv hK hat rfl) hdg kk
/-- slot N is given a gap -/
theorem h_hold (hc : Cx G p s m args c cc nL own) (hW : HW G A N r u hv ah ga H) (hS : va_S A H0 H locs) (hN : N < 20) {x : Nat} (hat : va_at G.1 vwCl (x, .inr (5 + gkP r' N, gfs r' N)) H) (hA : A x) (hfr : ∀ q, hEnc G N r u hv ah ga q ≠ none → hAd ah ga q ≠ x) (h0 : r' 0 = r 0) (h1 : r' 1 = r 1) (h8 : r' 8 = r 8) (hr : ∀ j, (2 ≤ j ∧ j < 8) ∨ (9 ≤ j ∧ j < 9 + 8 * N) → r' j = r j)
    {ref : String} (href : ref = RX2) (hlink : Cond.fieldLink own index ref (TX2 0).2.1 (TX2 0).2.2.1 ∈ lw_all) (hdg : decode cc pc = .ok (.putfield index, 3))
    (kk : ∀ (H1 : Heap) (locs1 : List Loc), HW G A (N + 1) r' u hv ah (updN ga N x) H1 → va_S A H0 H1 locs1 → H1.size = H.size → (∀ q : Nat, q ≠ ah (10 + N) → H1[q]? = H[q]?) → W p l e R s m args below meth c H1 locs1 cells slots Q (F0 m (pc + 3) ls rest)) : W p l e R s m args below meth c H locs cells slots Q (F0 m pc ls (.ref x :: .ref (ah (10 + N)) :: rest)) := by
  obtain ⟨hx, hb, hml, hown, hts, hK⟩ := hc
  refine s_put (ty := .object "java/lang/Object") hx hb hts in_X2 tyX2 tyX2_ok nmX2 hown hK.1 (hW.sl hN) rfl 0 (by decide) (hts _ hlink) (fun x h => by rw [href]; exact h) rfl (by decide +kernel) rfl rfl (Nat.zero_lt_one) hdg fun H1 i e1 z oq => ?_
  exact kk H1 _ (hW.hold hN hat hA hfr h0 h1 h8 hr e1 oq) (hS.put z oq (by have := hW.mem (hE_s hN); rw [hAd_s hN] at this; exact this)) z oq
theorem va_S.putL {H1 : Heap} {L : List Loc} (hS : va_S A H0 H locs) (z : H1.size = H.size) (oq : ∀ q : Nat, q ≠ a → H1[q]? = H[q]?) (ha : A a) (hL : ∀ q ∈ L, q.base = a) : va_S A H0 H1 (locs ++ L) :=
  ⟨by rw [z]; exact hS.1, fun q h1 h2 => (oq q (fun e => h2 (by rw [e]; exact ha))).trans (hS.2.1 q h1 h2), fun q hq => by
    rcases List.mem_append.mp hq with h | h
    · exact hS.2.2 q h
    · rw [hL q h]; exact ha⟩
/-- copies of runs of ints (bytes, shorts), of longs -/
theorem s_copyi {D : va_G} {cl : List vw_C} {tys : List (ClassId × FieldType)} (hexec : p.tables.exec = Jvm.exec) (hb : c.code = cc) (hml : c.maxLocals = ls.size) (hown : s.vm.findClass own = some m.cls) (hlink : (Cond.methodLink own index arraycopyName).before args s = true) (hnat : (Cond.native arraycopyName).before args s = true) (hstat : (Cond.static arraycopyName).before args s = true) (hini : (Cond.initialized "java/lang/System").before args s = true)
    (hK : va_K D cl tys s) (t0 t1 : Nat) {a0 : Nat} {c0 c1 : ClassId} {n0 n1 : Nat} {f g : Nat → Int32} {ty : FieldType} (hat0 : va_at D cl (a0, .inl (c0, n0, .inl f)) H) (hat1 : va_at D cl (a, .inl (c1, n1, .inl g)) H) (ht0 : tys[t0]? = some (c0, ty)) (ht1 : tys[t1]? = some (c1, ty)) (hprim : refKind ty = false)
    {sp dp n : Int32} (h1 : ¬ sp < 0) (h2 : ¬ dp < 0) (h3 : ¬ n < 0) (h4 : sp.toNatClampNeg + n.toNatClampNeg ≤ n0) (h5 : dp.toNatClampNeg + n.toNatClampNeg ≤ n1) (hfit : ∀ i, i < n.toNatClampNeg → fits ty (.int (f (sp.toNatClampNeg + i))) = true)
    (hframes : 1 ≤ R.frames) (hlocals : (rest.map fun v => v.category).sum + (nativeFrameWords "java/lang/System" "arraycopy" 5 + 11) ≤ R.locals) (hdg : decode cc pc = .ok (.invokestatic index, 3))
    (kk : ∀ (H1 : Heap) (L : List Loc), va_at D cl (a, .inl (c1, n1, .inl (va_cpy f g sp.toNatClampNeg dp.toNatClampNeg n.toNatClampNeg))) H1 → H1.size = H.size → (∀ q : Nat, q ≠ a → H1[q]? = H[q]?) → (∀ q ∈ L, q.base = a) → W p l e R s m args below meth c H1 (locs ++ L) cells slots Q (F0 m (pc + 3) ls rest)) : W p l e R s m args below meth c H locs cells slots Q (F0 m pc ls (.int n :: .int dp :: .ref a :: .int sp :: .ref a0 :: rest)) := by
  have nn : ∀ z : Int32, ¬ z < 0 → z.toInt = (z.toNatClampNeg : Int) := by
    intro z hz
    have hz0 : (0 : Int) ≤ z.toInt := by
      have := Int32.not_lt.mp hz
      simpa using Int32.le_iff_toInt_le.mp this
    show z.toInt = ((z.toInt.toNat : Nat) : Int)
    omega
  intro T hT X
  have hc0 : H[a0]? = some (vp_cell c0 (n0, .inl f)) := hat0
  have hc1 : H[a]? = some (vp_cell c1 (n1, .inl g)) := hat1
  obtain ⟨-, k0, hk0, cm0, hkk0⟩ := (hK.2 t0 _ ht0).1 n0 (fun j => .int (f j))
  obtain ⟨-, k1, hk1, cm1, hkk1⟩ := (hK.2 t1 _ ht1).1 n1 (fun j => .int (g j))
  obtain ⟨vm', X', step⟩ := X.arraycopy hexec hown hlink hnat hstat hini (src := a0) (dst := a) (cs := vp_cell c0 (n0, .inl f)) (cd := vp_cell c1 (n1, .inl g)) (srcPos := sp) (destPos := dp) (n := n) (by rw [hT]; exact hc0) (by rw [hT]; exact hc1)
    (fun _ h => by cases h) (fun _ h => by cases h) (fun h => by cases h) (fun h => by cases h) hk0 hk1 hkk0 hkk1 (by simp [hprim]) h1 h2 h3
    (by rw [nn sp h1, nn n h3]; show ¬ _ > ((arrV c0 n0 (fun j => .int (f j))).slots.size : Int); rw [arrV_size]; omega)
    (by rw [nn dp h2, nn n h3]; show ¬ _ > ((arrV c1 n1 (fun j => .int (g j))).slots.size : Int); rw [arrV_size]; omega)
    (fun vm₁ _ i hi => by
      have e : (vp_cell c0 (n0, .inl f)).slots.getD (sp.toNatClampNeg + i) .null = .int (f (sp.toNatClampNeg + i)) := by
        show (arrV c0 n0 (fun j => .int (f j))).slots.getD _ _ = _
        rw [Array.getD_eq_getD_getElem?, arrV_read _ _ (by omega)]
        rfl
      refine ⟨?_, ?_⟩
      · rw [e]
        exact hfit i hi
      · rw [e]
        exact trivial)
    (g := F0 m pc ls (.int n :: .int dp :: .ref a :: .int sp :: .ref a0 :: rest)) rfl (by rw [hml]) (rest := rest) rfl (by rw [hb]; exact hdg) hframes (by show 2 * 0 + _ + _ ≤ _; omega)
  have e1 : copied (vp_cell c0 (n0, .inl f)) (vp_cell c1 (n1, .inl g)) sp dp n = vp_cell c1 (n1, .inl (va_cpy f g sp.toNatClampNeg dp.toNatClampNeg n.toNatClampNeg)) := va_copied (fun z => .int z) c0 c1 f g h4
  rw [e1] at X' step
  have hl : a < H.size := (Array.getElem?_eq_some_iff.mp hc1).1
  have hheap : ((T.setVm vm').setCell a (vp_cell c1 (n1, .inl (va_cpy f g sp.toNatClampNeg dp.toNatClampNeg n.toNatClampNeg)))).heap = H.setIfInBounds a (vp_cell c1 (n1, .inl (va_cpy f g sp.toNatClampNeg dp.toNatClampNeg n.toNatClampNeg))) := by rw [← hT]; rfl
  have oq : ∀ q : Nat, q ≠ a → (H.setIfInBounds a (vp_cell c1 (n1, .inl (va_cpy f g sp.toNatClampNeg dp.toNatClampNeg n.toNatClampNeg))))[q]? = H[q]? := fun q hq => by simp [Array.getElem?_setIfInBounds, Ne.symm hq]
  obtain ⟨t, a1, b1⟩ := kk _ _ (show (H.setIfInBounds a _)[a]? = some _ by simp [Array.getElem?_setIfInBounds, hl]) (by simp) oq (fun q hq => by
      obtain ⟨z, -, hz⟩ := List.mem_map.mp hq
      rw [← hz]) _ hheap X'
  exact ⟨t, step t a1, b1⟩
theorem ra_R {rt : FieldType} (hexec : p.tables.exec = Jvm.exec) (hb : c.code = cc) (hr : meth.sig.returnType = some rt) (hrt : (∃ n, rt = .object n) ∨ ∃ t, rt = .array t) (hlk : meth.locks = false) {v : Value} (hv : v = .null ∨ ∃ a, v = .ref a) (hdg : decode cc pc = .ok (.areturn, 1)) : W p l e R s m args below meth c s.heap [] cells slots (MQ below (QcR (some v)) args s cells slots A) (F0 m pc ls [v]) :=
  W.aret hexec hb hr hrt hv (fun t ht _ => ⟨rfl, ht⟩) (fun _ h => by cases h) hdg hlk
theorem ra_W {rt : FieldType} (hexec : p.tables.exec = Jvm.exec) (hb : c.code = cc) (hr : meth.sig.returnType = some rt) (hrt : (∃ n, rt = .object n) ∨ ∃ t, rt = .array t) (hlk : meth.locks = false) {P : Heap → Prop} {x v : Value} (hv : x = .null ∨ ∃ a, x = .ref a) (hS : va_S A s.heap H locs) (he : x = v) (hq : P H) (hdg : decode cc pc = .ok (.areturn, 1)) : W p l e R s m args below meth c H locs cells slots (MQ below (QcW A (fun v' H => v' = some v ∧ P H)) args s cells slots A) (F0 m pc ls [x]) := by
  subst he
  exact W.aret hexec hb hr hrt hv (fun t ht _ => ⟨⟨_, rfl, rfl, by rw [ht]; exact hq⟩, hS.F ht⟩) hS.2.2 hdg hlk
end HRW
