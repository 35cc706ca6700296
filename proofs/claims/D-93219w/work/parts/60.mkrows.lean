/-! rows for making houses: worlds that grow by roles, arrays of slots -/
set_option maxRecDepth 100000
theorem Wd.cvA {ρ : Type} {G : GD} {A : Nat → Prop} {ct ct' : ρ → Option va_E} {ad ad' : ρ → Nat} {H : Heap} (h : Wd G A ct ad H) (hc : ∀ q e', ct' q = some e' → ad' q = ad q ∧ ∃ e, ct q = some e ∧ ∀ K : Heap, va_at G.1 vwCl (ad q, e) K → va_at G.1 vwCl (ad q, e') K) : Wd G A ct' ad' H := by
  have hn : ∀ q, ct' q ≠ none → ad' q = ad q ∧ ct q ≠ none := fun q hq => by
    cases he : ct' q with
    | none => exact absurd he hq
    | some e' =>
      obtain ⟨h0, e, h1, -⟩ := hc q e' he
      exact ⟨h0, by rw [h1]; exact fun z => by cases z⟩
  refine ⟨h.1, h.2.1, fun q q' hq hq' e => ?_, fun q e' he => ?_⟩
  · have h1 := hn q hq
    have h2 := hn q' hq'
    rw [h1.1, h2.1] at e
    exact h.2.2.1 q q' h1.2 h2.2 e
  · obtain ⟨h0, e, h1, h2⟩ := hc q e' he
    rw [h0]
    exact ⟨h.mem h1, h2 H (h.at h1)⟩
def updC (ct : Nat → Option va_E) (q0 : Nat) (e : va_E) : Nat → Option va_E := fun q => if q = q0 then some e else ct q
theorem updC_same {ct : Nat → Option va_E} {q0 : Nat} {e : va_E} : updC ct q0 e q0 = some e := if_pos rfl
theorem updC_ne {ct : Nat → Option va_E} {q0 q : Nat} {e : va_E} (h : q ≠ q0) : updC ct q0 e q = ct q := if_neg h
theorem updN_same {f : Nat → Nat} {j x : Nat} : updN f j x j = x := if_pos rfl
theorem updN_ne {f : Nat → Nat} {j x k : Nat} (h : k ≠ j) : updN f j x k = f k := if_neg h
section GRW
variable {G : GD} {A : Nat → Prop} {ct : Nat → Option va_E} {ad : Nat → Nat} {H H1 : Heap} {q0 : Nat} {e0 e1 : va_E}
theorem Wd.addU (h : Wd G A ct ad H) (h0 : ct q0 = none) (hat : va_at G.1 vwCl (H.size, e0) H1) (hA : A H.size) (o1 : ∀ q : Nat, q < H.size → H1[q]? = H[q]?) (hg : G.2.2.heap.size ≤ H.size) : Wd G A (updC ct q0 e0) (updN ad q0 H.size) H1 :=
  h.add (r0 := q0) updC_same updN_same (fun q hq => ⟨updC_ne hq, fun _ => updN_ne hq⟩) hat hA o1 hg
theorem Wd.wrU (h : Wd G A ct ad H) (h0 : ct q0 = some e0) (hat : va_at G.1 vwCl (ad q0, e1) H1) (oq : ∀ q : Nat, q ≠ ad q0 → H1[q]? = H[q]?) : Wd G A (updC ct q0 e1) ad H1 :=
  h.wr h0 updC_same (fun q hq => updC_ne hq) hat oq
/-- n slots, an array of them at b -/
def SLP (G : GD) (n b i : Nat) (H : Heap) : Prop := va_at G.1 vwCl (b, .inl (G.2.1 4, n, .inr (.inr (.inr (.inr (fun j => if j < i then some (b + 1 + j) else none)))))) H ∧ (∀ j, j < i → va_at G.1 vwCl (b + 1 + j, .inr (2, [.null])) H) ∧ H.size = b + 1 + i
def slC (G : GD) (n b : Nat) (ct : Nat → Option va_E) : Nat → Option va_E := fun q => if q = 1 then some (.inl (G.2.1 4, n, .inr (.inr (.inr (.inr (fun j => if j < n then some (b + 1 + j) else none)))))) else if 10 ≤ q ∧ q < 10 + n then some (.inr (2, [.null])) else ct q
def slA (n b : Nat) (ad : Nat → Nat) : Nat → Nat := fun q => if q = 1 then b else if 10 ≤ q ∧ q < 10 + n then b + 1 + (q - 10) else ad q
theorem Wd.addS {n : Nat} (h : Wd G A ct ad H) (hP : SLP G n H.size n H1) (hA : ∀ q, H.size ≤ q → A q) (hk : ∀ q : Nat, q < H.size → H1[q]? = H[q]?) (hg : G.2.2.heap.size ≤ H.size) : Wd G A (slC G n H.size ct) (slA n H.size ad) H1 := by
  have hlow : ∀ q, q ≠ 1 → ¬ (10 ≤ q ∧ q < 10 + n) → slC G n H.size ct q = ct q ∧ slA n H.size ad q = ad q := fun q h1 h2 => by
    unfold slC slA
    rw [if_neg h1, if_neg h1, if_neg h2, if_neg h2]
    exact ⟨rfl, rfl⟩
  have hsl : ∀ q, q ≠ 1 → 10 ≤ q ∧ q < 10 + n → slC G n H.size ct q = some (.inr (2, [.null])) ∧ slA n H.size ad q = H.size + 1 + (q - 10) := fun q h1 h2 => by
    unfold slC slA
    rw [if_neg h1, if_neg h1, if_pos h2, if_pos h2]
    exact ⟨rfl, rfl⟩
  have h1 : slA n H.size ad 1 = H.size := if_pos rfl
  have addr : ∀ q, slC G n H.size ct q ≠ none → (q = 1 ∧ slA n H.size ad q = H.size) ∨ ((10 ≤ q ∧ q < 10 + n) ∧ slA n H.size ad q = H.size + 1 + (q - 10)) ∨ (slA n H.size ad q = ad q ∧ ct q ≠ none ∧ ad q < H.size) := fun q hq => by
    by_cases c1 : q = 1
    · subst c1
      exact Or.inl ⟨rfl, h1⟩
    · by_cases c2 : 10 ≤ q ∧ q < 10 + n
      · exact Or.inr (Or.inl ⟨c2, (hsl q c1 c2).2⟩)
      · have := hlow q c1 c2
        rw [this.1] at hq
        exact Or.inr (Or.inr ⟨this.2, hq, h.lt hq⟩)
  refine ⟨h.1, fun q hq => (hk q (by omega)).trans (h.2.1 q hq), fun q q' hq hq' e => ?_, fun q e he => ?_⟩
  · rcases addr q hq with ⟨a1, a2⟩ | ⟨a1, a2⟩ | ⟨a1, a2, a3⟩ <;> rcases addr q' hq' with ⟨b1, b2⟩ | ⟨b1, b2⟩ | ⟨b1, b2, b3⟩
    · omega
    · omega
    · omega
    · omega
    · omega
    · omega
    · omega
    · omega
    · exact h.2.2.1 q q' a2 b2 (by omega)
  · by_cases c1 : q = 1
    · subst c1
      have e2 : slC G n H.size ct 1 = some (.inl (G.2.1 4, n, .inr (.inr (.inr (.inr (fun j => if j < n then some (H.size + 1 + j) else none)))))) := if_pos rfl
      rw [e2] at he
      cases he
      rw [h1]
      exact ⟨hA _ (Nat.le_refl _), hP.1⟩
    · by_cases c2 : 10 ≤ q ∧ q < 10 + n
      · have h2 := hsl q c1 c2
        rw [h2.1] at he
        cases he
        rw [h2.2]
        exact ⟨hA _ (by omega), hP.2.1 _ (by omega)⟩
      · have h2 := hlow q c1 c2
        rw [h2.1] at he
        rw [h2.2]
        exact ⟨h.mem he, (h.at he).kept (hk _ (h.lt (by rw [he]; exact fun z => by cases z)))⟩
/-- a world that lies outside what is changed -/
theorem Wd.side {ρ : Type} {B : Nat → Prop} {ct : ρ → Option va_E} {ad : ρ → Nat} {H0 H : Heap} {locs : List Loc} (hB : Wd G B ct ad H0) (hS : va_S A H0 H locs) (hA : ∀ q, A q → G.2.2.heap.size ≤ q) (hg : G.2.2.heap.size ≤ H0.size) (hd : ∀ q, ct q ≠ none → ¬ A (ad q)) : Wd G B ct ad H :=
  hB.kept (fun q hq => hS.2.1 q (by omega) (fun h => by have := hA q h; omega)) (fun q hq => hS.2.1 _ (hB.lt hq) (hd q hq))
end GRW
section MKR
variable {p : Program} {l : Launch} {e : Env} {R : Room} {s : State} {m : MethodId} {args : Array Value} {below : List Frame} {meth : Method} {c : Code} {H H0 : Heap} {locs : List Loc} {cells slots : Nat} {Q : State → Prop}
variable {pc : Nat} {ls : Array Slot} {rest : List Value} {A : Nat → Prop} {G : GD} {cc : ByteArray} {nL index : Nat} {own : String} {a : Nat}
/-- more may have been made -/
theorem w_more {cells' slots' : Nat} {g : JFrame} (h1 : cells ≤ cells') (h2 : slots ≤ slots') (k : W p l e R s m args below meth c H locs cells' slots' Q g) : W p l e R s m args below meth c H locs cells slots Q g := fun T hT X =>
  k T hT ⟨X.admits, X.cas, X.clock, X.frames, X.room, X.hears, X.method, X.code, X.here, X.tail, X.warmed, X.limits, X.bytes, X.same.mono h1 h2⟩
theorem a_newq (hc : Cx G p s m args c cc nL own) (hS : va_S A H0 H locs) (hover : va_AO "SmokeLeans$Slot" s) (hlink : Cond.classLink own index "SmokeLeans$Slot" ∈ lw_all) {n : Int32} {N : Nat} (hN : n.toNatClampNeg = N) (hn : ¬ n < 0) (hbytes : N * 4 ≤ 536870912) (hcells : cells + 1 ≤ R.cells) (hslots : slots + N ≤ R.slots) (hdg : decode cc pc = .ok (.anewarray index, 3))
    (kk : ∀ (H1 : Heap), va_at G.1 vwCl (H.size, .inl (G.2.1 4, N, .inr (.inr (.inr (.inr (fun _ => none)))))) H1 → va_S A H0 H1 locs → H1.size = H.size + 1 → (∀ q : Nat, q < H.size → H1[q]? = H[q]?) → W p l e R s m args below meth c H1 locs (cells + 1) (slots + N) Q (F0 m (pc + 3) ls (.ref H.size :: rest))) : W p l e R s m args below meth c H locs cells slots Q (F0 m pc ls (.int n :: rest)) := by
  obtain ⟨hx, hb, hml, hown, hts, hK⟩ := hc
  subst hN
  refine W.anew hx hb hown (hts _ hlink) (va_AO.use hover) rfl hdg rfl hn hbytes hcells hslots fun cA kA comp f1 f2 f3 f4 => ?_
  generalize hH1 : H.push ({ cls := cA, slots := Array.replicate n.toNatClampNeg .null, vm := .none } : Cell) = H1
  have z1 : H1.size = H.size + 1 := by rw [← hH1, Array.size_push]
  have e1 : H1[H.size]? = some (arrV cA n.toNatClampNeg (fun _ => .null)) := by rw [← hH1, Array.getElem?_push_size, ← arrV_new]
  have o1 : ∀ q : Nat, q < H.size → H1[q]? = H[q]? := fun q hq => by rw [← hH1, Array.getElem?_push, if_neg (Nat.ne_of_lt hq)]
  obtain ⟨kA', comp', g2, g3, g4, g1⟩ := (hK.1.2 4 _ rfl).2
  have hid : cA = G.2.1 4 := Option.some.inj (f1.symm.trans g1)
  subst hid
  refine kk H1 ?_ (hS.new z1 o1) z1 o1
  show H1[H.size]? = some (vp_cell _ _)
  rw [vp_cell_q]
  exact e1
theorem s_aastq {D : va_G} {cl : List vw_C} {tys : List (ClassId × FieldType)} (hexec : p.tables.exec = Jvm.exec) (hb : c.code = cc) (hK : va_K D cl tys s) (t0 ci : Nat) {cA : ClassId} {r : vw_C} {n v j : Nat} {vs : List Value} {f : Nat → Option Nat} (hat : va_at D cl (a, .inl (cA, n, .inr (.inr (.inr (.inr f))))) H) (ht : tys[t0]? = some (cA, .object r.1)) (hv : va_at D cl (v, .inr (ci, vs)) H) (hc : cl[ci]? = some r) {i : Int32} (hin : IdxOk i j n) (hdg : decode cc pc = .ok (.aastore, 1))
    (kk : ∀ (H1 : Heap), va_at D cl (a, .inl (cA, n, .inr (.inr (.inr (.inr (va_up f j (some v))))))) H1 → H1.size = H.size → (∀ q : Nat, q ≠ a → H1[q]? = H[q]?) → W p l e R s m args below meth c H1 (locs ++ [⟨a, j⟩]) cells slots Q (F0 m (pc + 1) ls rest)) : W p l e R s m args below meth c H locs cells slots Q (F0 m pc ls (.ref v :: .int i :: .ref a :: rest)) := by
  obtain ⟨hin, rfl⟩ := hin
  have hlt : i.toNatClampNeg < n := Nat.not_le.mp fun q => hin (Or.inr q)
  have h0 : ¬ i < 0 := fun q => hin (Or.inl q)
  obtain ⟨r', hr', cellV, g1, g2, g3, -⟩ := hv
  have hcls := (hK.1 ci r hc).2
  obtain ⟨kA, comp, k1, k2, k3, -⟩ := (hK.2 t0 _ ht).2
  have hcomp : comp = D.1 ci := Option.some.inj (k3.symm.trans hcls.1)
  subst hcomp
  obtain ⟨kC, hkC, -⟩ := hcls.2
  have hcell : H[a]? = some (vp_cell cA (n, .inr (.inr (.inr (.inr f))))) := hat
  refine W.aast hexec hb hcell (fun q h => by cases h) (fun h => by cases h) k1 k2 rfl hkC ⟨h0, by show _ < (arrV _ _ _).slots.size; rw [arrV_size]; exact hlt⟩ g1 (fun q h => by rw [g3] at h; cases h) (by rw [g2]; exact hkC) (by rw [g2]; exact va_assign hcls) rfl rfl hdg fun H1 e z oq => ?_
  refine kk H1 ?_ z oq
  show H1[a]? = some (vp_cell _ _)
  rw [e]
  rw [vp_cell_q, vp_cell_q, arrV_store]
  congr 2
  funext q
  by_cases hq : q = i.toNatClampNeg
  · subst hq
    simp [updV, va_up, va_rf]
  · simp [updV, va_up, hq]
/-- an object's field in a world that grows -/
theorem g_put {C : String} {T : u_T} {N ci q0 : Nat} {ct : Nat → Option va_E} {ad : Nat → Nat} {fs : List Value} (hc : Cx G p s m args c cc nL own) (hW : Wd G A ct ad H) (hS : va_S A H0 H locs) (hin : ∀ w ∈ u_ws C T N, w ∈ lw_all) (ty0 : Nat → FieldType) (hty0 : ∀ k, k < N → parseFieldDescriptor (T k).2.2.1 = some (ty0 k)) (hnm : ∀ a, a < N → ∀ b, b < N → a ≠ b → (T a).2.1 ≠ (T b).2.1) (h0 : ct q0 = some (.inr (ci, fs))) (hci : vwCl[ci]? = some (C, T, N)) (k : Nat) (hk : k < N) (hlink : Cond.fieldLink own index C (T k).2.1 (T k).2.2.1 ∈ lw_all) (hT : (T k).1 = C) (hfin : (T k).2.2.2 = false ∨ ((T k).2.2.2 = true ∧ meth.name = "<init>" ∧ C = own)) {ty : FieldType} {v : Value} (hd : parseFieldDescriptor (T k).2.2.1 = some ty) (hn : narrow ty v = v) (hfit : fits ty v = true) (hl : k < fs.length) (hdg : decode cc pc = .ok (.putfield index, 3))
    (kk : ∀ (H1 : Heap) (locs1 : List Loc), Wd G A (updC ct q0 (.inr (ci, fs.set k v))) ad H1 → va_S A H0 H1 locs1 → H1.size = H.size → (∀ q : Nat, q ≠ ad q0 → H1[q]? = H[q]?) → W p l e R s m args below meth c H1 locs1 cells slots Q (F0 m (pc + 3) ls rest)) : W p l e R s m args below meth c H locs cells slots Q (F0 m pc ls (v :: .ref (ad q0) :: rest)) := by
  obtain ⟨hx, hb, hml, hown, hts, hK⟩ := hc
  rcases hfin with hfin | ⟨hfin, hini, hCo⟩
  · refine s_put hx hb hts hin ty0 hty0 hnm hown hK.1 (hW.at h0) hci k hk (hts _ hlink) (fun x h => by rw [← hT]; exact h) hfin hd hn hfit hl hdg fun H1 i e1 z oq => ?_
    exact kk H1 _ (hW.wrU h0 e1 oq) (hS.put z oq (hW.mem h0)) z oq
  · refine s_putF hx hb hts hin ty0 hty0 hnm hown hK.1 (hW.at h0) hci k hk (hts _ hlink) (fun x h => by rw [← hT]; exact h) hfin hini (hT.trans hCo) hd hn hfit hl hdg fun H1 i e1 z oq => ?_
    exact kk H1 _ (hW.wrU h0 e1 oq) (hS.put z oq (hW.mem h0)) z oq
end MKR
/-! calls among nest mates -/
def NG (G : GD) : Prop := va_Nw (.methodLinkNest "SmokeLeans" 84 yX1_init "SmokeLeans") G.2.2 ∧ va_Nw (.methodLinkNest "SmokeLeans" 9 yX2_init "SmokeLeans") G.2.2 ∧ va_Nw (.methodLinkNest "SmokeLeans$House" 9 yX0_slots "SmokeLeans") G.2.2 ∧ va_Nw (.methodLinkNest "SmokeLeans$House" 42 yX0_copyOf "SmokeLeans") G.2.2 ∧ va_Nw (.methodLinkNest "SmokeLeans$Reader" 23 yX0_in "SmokeLeans") G.2.2 ∧ va_Nw (.methodLinkNest "SmokeLeans$Reader" 108 yX0_gapOf "SmokeLeans") G.2.2 ∧ va_AO "SmokeLeans$Slot" G.2.2
section NST
variable {p : Program} {l : Launch} {e : Env} {R : Room} {s : State} {m : MethodId} {args : Array Value} {below : List Frame} {meth : Method} {c : Code} {H : Heap} {locs : List Loc} {cells slots : Nat} {Q : State → Prop}
variable {pc : Nat} {ls : Array Slot} {rest st : List Value} {A0 A1 : Nat → Prop} {H0 : Heap} {mc ms : Nat} {G : GD} {cc bytes : ByteArray} {nL maxL n index lev : Nat} {own host : String} {y : MethodName} {ret : Option FieldType} {b : Nat} {As : List Value}
theorem cn_R1 {v : Value} (hc : Cx G p s m args c cc nL own) (hM : MetR l G y bytes maxL ret lev As H (some v)) (h1 : va_Nw (.methodLinkNest own index y host) G.2.2) (h2 : Cond.static y ∈ lw_all) (h4 : Cond.initialized y.cls ∈ lw_all) (h5 : Cond.code y bytes maxL ret ∈ lw_all)
    (hd : y.cls ≠ "java/lang/invoke/MethodHandle" ∧ y.cls ≠ "java/lang/invoke/VarHandle" ∧ (parseMethodDescriptor y.desc).map (fun d => d.parameters.length) = some n) (hR : lev + 1 ≤ R.frames ∧ 8 + (maxL + 11) + 42 * lev ≤ R.locals)
    (hn : As.length = n) (hsz : ls.size = nL) (hst : st = As.reverse ++ rest) (hW8 : (rest.map fun v => v.category).sum ≤ 8) (hdg : decode cc pc = .ok (.invokestatic index, 3)) (hf : cells ≤ R.cells ∧ slots ≤ R.slots)
    (kk : W p l e R s m args below meth c H locs cells slots Q (F0 m (pc + 3) ls (v :: rest))) : W p l e R s m args below meth c H locs cells slots Q (F0 m pc ls st) := by
  obtain ⟨hx, hb, hml, hown, hts, hK⟩ := hc
  exact x_callR (va_runSN (As := As) (rest := rest) (host := host) ⟨hx, hb, hml, hown, hts⟩ hM ⟨va_cnB n hts (lw_meth h5) rfl rfl rfl (h1.warmM hK.2) (hts _ h4) hd hR, hts _ h2, trivial⟩ (sm_preS hK) rfl hn hsz hst (lv_room hW8) hdg hf) kk
theorem cn_W1 {v : Value} {P : Heap → Prop} (hc : Cx G p s m args c cc nL own) (hM : MetW l G y bytes maxL ret lev mc ms A1 As H (some v) P) (h1 : va_Nw (.methodLinkNest own index y host) G.2.2) (h2 : Cond.static y ∈ lw_all) (h4 : Cond.initialized y.cls ∈ lw_all) (h5 : Cond.code y bytes maxL ret ∈ lw_all)
    (hd : y.cls ≠ "java/lang/invoke/MethodHandle" ∧ y.cls ≠ "java/lang/invoke/VarHandle" ∧ (parseMethodDescriptor y.desc).map (fun d => d.parameters.length) = some n) (hR : lev + 1 ≤ R.frames ∧ 8 + (maxL + 11) + 42 * lev ≤ R.locals)
    (hn : As.length = n) (hsz : ls.size = nL) (hst : st = As.reverse ++ rest) (hW8 : (rest.map fun v => v.category).sum ≤ 8) (hdg : decode cc pc = .ok (.invokestatic index, 3)) (hf : cells + mc ≤ R.cells ∧ slots + ms ≤ R.slots)
    (hS : va_S A0 H0 H locs) (hA : ∀ q, A1 q → A0 q)
    (kk : ∀ (H1 : Heap) (locs1 : List Loc), P H1 → va_S A0 H0 H1 locs1 → H.size ≤ H1.size → (∀ q : Nat, q < H.size → ¬ A1 q → H1[q]? = H[q]?) → W p l e R s m args below meth c H1 locs1 (cells + mc) (slots + ms) Q (F0 m (pc + 3) ls (v :: rest))) : W p l e R s m args below meth c H locs cells slots Q (F0 m pc ls st) := by
  obtain ⟨hx, hb, hml, hown, hts, hK⟩ := hc
  refine x_callW (va_runSN (As := As) (rest := rest) (host := host) ⟨hx, hb, hml, hown, hts⟩ hM ⟨va_cnB n hts (lw_meth h5) rfl rfl rfl (h1.warmM hK.2) (hts _ h4) hd hR, hts _ h2, trivial⟩ (sm_preS hK) rfl hn hsz hst (lv_room hW8) hdg hf) hS hA (fun v' H1 locs1 hq hz hk hS1 => ?_)
  obtain ⟨rfl, hp⟩ := hq
  exact kk H1 locs1 hp hS1 hz hk
theorem cni_R (hc : Cx G p s m args c cc nL own) (hM : MetR l G y bytes maxL none lev (.ref b :: As) H none) (h1 : va_Nw (.methodLinkNest own index y host) G.2.2) (h2 : Cond.instanceMethod y ∈ lw_all) (h4 : Cond.initialized y.cls ∈ lw_all) (h5 : Cond.code y bytes maxL none ∈ lw_all) (hy1 : y.name = "<init>")
    (hd : y.cls ≠ "java/lang/invoke/MethodHandle" ∧ y.cls ≠ "java/lang/invoke/VarHandle" ∧ (parseMethodDescriptor y.desc).map (fun d => d.parameters.length) = some n) (hR : lev + 1 ≤ R.frames ∧ 8 + (maxL + 11) + 42 * lev ≤ R.locals)
    (hn : As.length = n) (hsz : ls.size = nL) (hst : st = As.reverse ++ .ref b :: rest) (hW8 : (rest.map fun v => v.category).sum ≤ 8) (hdg : decode cc pc = .ok (.invokespecial index, 3)) (hf : cells ≤ R.cells ∧ slots ≤ R.slots)
    (kk : W p l e R s m args below meth c H locs cells slots Q (F0 m (pc + 3) ls rest)) : W p l e R s m args below meth c H locs cells slots Q (F0 m pc ls st) := by
  obtain ⟨hx, hb, hml, hown, hts, hK⟩ := hc
  exact x_callR (va_runIN (As := As) (rest := rest) (host := host) ⟨hx, hb, hml, hown, hts⟩ hM ⟨va_cnB n hts (lw_meth h5) rfl rfl rfl (h1.warmM hK.2) (hts _ h4) hd hR, hy1, hts _ h2⟩ (sm_preS hK) rfl hn hsz hst (lv_room hW8) hdg hf) kk
theorem cni_W {P : Heap → Prop} (hc : Cx G p s m args c cc nL own) (hM : MetW l G y bytes maxL none lev mc ms A1 (.ref b :: As) H none P) (h1 : va_Nw (.methodLinkNest own index y host) G.2.2) (h2 : Cond.instanceMethod y ∈ lw_all) (h4 : Cond.initialized y.cls ∈ lw_all) (h5 : Cond.code y bytes maxL none ∈ lw_all) (hy1 : y.name = "<init>")
    (hd : y.cls ≠ "java/lang/invoke/MethodHandle" ∧ y.cls ≠ "java/lang/invoke/VarHandle" ∧ (parseMethodDescriptor y.desc).map (fun d => d.parameters.length) = some n) (hR : lev + 1 ≤ R.frames ∧ 8 + (maxL + 11) + 42 * lev ≤ R.locals)
    (hn : As.length = n) (hsz : ls.size = nL) (hst : st = As.reverse ++ .ref b :: rest) (hW8 : (rest.map fun v => v.category).sum ≤ 8) (hdg : decode cc pc = .ok (.invokespecial index, 3)) (hf : cells + mc ≤ R.cells ∧ slots + ms ≤ R.slots)
    (hS : va_S A0 H0 H locs) (hA : ∀ q, A1 q → A0 q)
    (kk : ∀ (H1 : Heap) (locs1 : List Loc), P H1 → va_S A0 H0 H1 locs1 → H.size ≤ H1.size → (∀ q : Nat, q < H.size → ¬ A1 q → H1[q]? = H[q]?) → W p l e R s m args below meth c H1 locs1 (cells + mc) (slots + ms) Q (F0 m (pc + 3) ls rest)) : W p l e R s m args below meth c H locs cells slots Q (F0 m pc ls st) := by
  obtain ⟨hx, hb, hml, hown, hts, hK⟩ := hc
  refine x_callW (va_runIN (As := As) (rest := rest) (host := host) ⟨hx, hb, hml, hown, hts⟩ hM ⟨va_cnB n hts (lw_meth h5) rfl rfl rfl (h1.warmM hK.2) (hts _ h4) hd hR, hy1, hts _ h2⟩ (sm_preS hK) rfl hn hsz hst (lv_room hW8) hdg hf) hS hA (fun v' H1 locs1 hq hz hk hS1 => ?_)
  obtain ⟨rfl, hp⟩ := hq
  exact kk H1 locs1 hp hS1 hz hk
end NST
