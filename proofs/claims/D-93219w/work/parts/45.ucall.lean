/-! calls that go to an inherited or an overriding method; calls of a superclass's own method; calls of methods with handlers -/
set_option maxRecDepth 100000
section UCA
variable {p : Program} {l : Launch} {e : Env} {R : Room} {s : State} {m : MethodId} {args : Array Value} {below : List Frame} {meth : Method} {c : Code} {H : Heap} {locs : List Loc} {cells slots : Nat} {Q : State → Prop}
variable {pc nL maxL n index lev mc ms : Nat} {ls : Array Slot} {rest st : List Value} {A0 A1 : Nat → Prop} {H0 : Heap} {G : GD} {cc bytes : ByteArray} {own C owner : String} {x y : MethodName} {ret : Option FieldType} {b : Nat} {As : List Value}
/-- the words of such a call -/
theorem lw_O {own C owner : String} {idx : Nat} {x y : MethodName} {b : ByteArray} {L : Nat} {r : Option FieldType} (h1 : Cond.methodLink own idx x ∈ lw_all) (h2 : Cond.sameMethod x.cls owner x.name x.desc ∈ lw_all) (h3 : Cond.instanceMethod ⟨owner, x.name, x.desc⟩ ∈ lw_all) (h4 : Cond.selects C x y ∈ lw_all) (h5 : Cond.instanceMethod y ∈ lw_all) (h6 : Cond.initialized y.cls ∈ lw_all) (h7 : Cond.code y b L r ∈ lw_all) : GoodIn lw_all (va_wsO own idx C owner x y (ws_ y b L r)) := by
  refine lw_app ?_ (lw_meth h7)
  intro w hw
  simp only [List.mem_cons, List.not_mem_nil, or_false] at hw
  rcases hw with e | e | e | e | e | e
  · rw [e]; exact h1
  · rw [e]; exact h2
  · rw [e]; exact h3
  · rw [e]; exact h4
  · rw [e]; exact h5
  · rw [e]; exact h6
theorem cu_R1 {v : Value} {b0 : ByteArray} {m0 : Nat} {r0 : Option FieldType} (hc : Cx G p s m args c cc nL own) (hM : MetR l G y bytes maxL ret lev (.ref b :: As) H (some v)) (hT : GoodIn lw_all (va_wsO own index C owner x y (ws_ y bytes maxL ret))) (h0 : Cond.code ⟨owner, x.name, x.desc⟩ b0 m0 r0 ∈ lw_all)
    (hd : owner ≠ "java/lang/invoke/MethodHandle" ∧ owner ≠ "java/lang/invoke/VarHandle" ∧ (parseMethodDescriptor x.desc).map (fun d => d.parameters.length) = some n) (hR : lev + 1 ≤ R.frames ∧ 8 + (maxL + 11) + 42 * lev ≤ R.locals)
    (hr : ∃ cell : Cell, H[b]? = some cell ∧ cell.vm.isStatics = false ∧ s.vm.findClass C = some cell.cls) (hn : As.length = n) (hsz : ls.size = nL) (hst : st = As.reverse ++ .ref b :: rest) (hW8 : (rest.map fun v => v.category).sum ≤ 8) (hdg : decode cc pc = .ok (.invokevirtual index, 3)) (hf : cells ≤ R.cells ∧ slots ≤ R.slots)
    (kk : W p l e R s m args below meth c H locs cells slots Q (F0 m (pc + 3) ls (v :: rest))) : W p l e R s m args below meth c H locs cells slots Q (F0 m pc ls st) := by
  obtain ⟨hx, hb, hml, hown, hts, hK⟩ := hc
  exact x_callR (va_runU (As := As) (rest := rest) ⟨hx, hb, hml, hown, hts⟩ hM (va_cwO n hts hT rfl rfl rfl h0 hd hR) (sm_preV hK hr) rfl hn hsz hst (lv_room hW8) hdg hf) kk
/-- the class named is the superclass; the method may be declared further up -/
theorem su_R1 {v : Value} (hc : Cx G p s m args c cc nL own) (hM : MetR l G y bytes maxL ret lev (.ref b :: As) H (some v)) (hy : y = ⟨owner, x.name, x.desc⟩) (h1 : Cond.methodLink own index x ∈ lw_all) (h2 : Cond.sameMethod x.cls owner x.name x.desc ∈ lw_all) (h3 : Cond.superclass own x.cls ∈ lw_all) (h4 : Cond.instanceMethod y ∈ lw_all) (h5 : Cond.initialized y.cls ∈ lw_all) (h6 : Cond.code y bytes maxL ret ∈ lw_all)
    (hsub : ∀ cn cO, s.vm.findClass x.cls = some cn → s.vm.findClass owner = some cO → s.vm.isSubclass cn cO = true)
    (hd : x.name ≠ "<init>" ∧ (parseMethodDescriptor x.desc).map (fun d => d.parameters.length) = some n) (hR : lev + 1 ≤ R.frames ∧ 8 + (maxL + 11) + 42 * lev ≤ R.locals)
    (hr : ∃ (cell : Cell) (kB : Class), H[b]? = some cell ∧ cell.vm.isStatics = false ∧ s.vm.classes[cell.cls]? = some kB) (hn : As.length = n) (hsz : ls.size = nL) (hst : st = As.reverse ++ .ref b :: rest) (hW8 : (rest.map fun v => v.category).sum ≤ 8) (hdg : decode cc pc = .ok (.invokespecial index, 3)) (hf : cells ≤ R.cells ∧ slots ≤ R.slots)
    (kk : W p l e R s m args below meth c H locs cells slots Q (F0 m (pc + 3) ls (v :: rest))) : W p l e R s m args below meth c H locs cells slots Q (F0 m pc ls st) := by
  obtain ⟨hx, hb, hml, hown, hts, hK⟩ := hc
  have hK2 : Back l R p e below s args y 3 8 (PreOf R 0 0 (PcX G (.ref b :: As) H)) (PostOf (QcR (some v)) 0 0 (fun _ => False)) :=
    back_of (bytes := bytes) (maxL := maxL) (ret := ret) hM PcX.blind rfl rfl hR.1 hR.2 (fun w hw a' U hW => word_at hW (lw_meth h6 w hw).2 (hts w (lw_meth h6 w hw).1)) List.mem_cons_self (fun a' U hW => word_at hW (Or.inl (by first | rfl | simp [Cond.onTables, Cond.keeps, Cond.steady])) (hts _ h5))
  obtain ⟨cellB, kB, hcB, hoB, hkB⟩ := hr
  refine x_callR (v := some v) (a := (Value.ref b :: As).toArray) (rest := rest) ?_ kk
  intro T hT X
  obtain ⟨mk, methM, hnamed, hmethM, hstM, habM⟩ := Cond.instanceMethod_spec (hts _ h4)
  obtain ⟨methM', cM, hmethM', -, -, -, -, -, -, hsigM⟩ := Cond.code_spec hnamed (hts _ h6)
  cases hmethM.symm.trans hmethM'
  obtain ⟨ps, dk, kp, hps, hdk, hkp, hsuper, -, -, hnid⟩ := Cond.superclass_spec hown (hts _ h3)
  have hn2 : s.methodNamed? ⟨owner, x.name, x.desc⟩ = some mk := by rw [← hy]; exact hnamed
  have hlen : As.length = methM.sig.parameters.length := by
    have h7 := hd.2
    have h8 : parseMethodDescriptor x.desc = some methM.sig := by rw [hy] at hsigM; exact hsigM
    rw [h8] at h7
    exact hn.trans (Option.some.inj h7).symm
  obtain ⟨vm₁, X₁, hstep₁⟩ := X.invokespecialUp hx hown (hts _ h1) (hts _ h2) hn2 hmethM hstM habM hd.1 hdk hnid hps hsuper (hsub ps mk.cls hps (findClass_of_methodNamed hn2)) (a := b) (cell := cellB) (by rw [hT]; exact hcB)
    (fun z h => by rw [h] at hoB; cases hoB) hkB (g := F0 m pc ls st) rfl (argsL := As) (rest := rest) hlen hst (by rw [hb]; exact hdg)
  obtain ⟨v', ⟨U', l2, c2, s2⟩, X', ⟨g', mk', t, L, e1, e2, hq, h7, hL, h8, h9⟩, hsteps⟩ := hK2 m meth c ⟨T.setVm vm₁, locs, cells, slots⟩ (F0 m pc ls rest) (.invokespecial index) mk (Value.ref b :: As).toArray X₁ rfl (hsz.trans hml.symm) (by rw [hb]; exact hdg) (lv_room hW8) (X₁.named hnamed) ⟨hf.1, hf.2, rfl, hT, hK.warm X₁.warmed⟩
  dsimp only [Pt.U, Pt.locs, Pt.cells, Pt.slots] at X' e1 e2 h7 h8 h9 hsteps
  subst h7; subst h8; subst h9
  exact ⟨v', (T.setVm vm₁).calling g' mk' (Value.ref b :: As).toArray, t, U', L, hT, X', hL, e1, e2, hq, fun target h => hstep₁ _ (by rw [doInvoke_state]; exact hsteps.trans h)⟩
theorem sub_self {vm : Vm} {x : String} : ∀ cn cO, vm.findClass x = some cn → vm.findClass x = some cO → vm.isSubclass cn cO = true := fun cn cO h1 h2 => by
  cases h1.symm.trans h2
  simp [Vm.isSubclass, Vm.isSubclassAux]
end UCA
