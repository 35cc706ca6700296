/-! the call that lands in a default method -/
set_option maxRecDepth 100000
section DFC
theorem wp_df {Q : Unit → Pre} {E : CtlPost} {e : Env} {d : Bool} {acts : List Action} {s : State} {f : JFrame} {index a : Nat} {r : MethodId} {c' : ClassId} {k' mk : Class} {rmeth : Method} {args rest : List Value} {cell : Cell}
    (hs : s.topJava?.isSome) (hnamed : namesResolved s.vm f.method.cls index c') (hk' : s.vm.classes[c']? = some k') (hclass : k'.isInterface = false) (hr : s.vm.methodReady f.method.cls index r)
    (hrm : s.vm.method? r = some rmeth) (hmk : s.vm.classes[r.cls]? = some mk) (hpoly : signaturePolymorphic mk rmeth = false) (hst : rmeth.isStatic = false) (hab : rmeth.isAbstract = false) (hitf : mk.isInterface = true)
    (hlen : args.length = rmeth.sig.parameters.length) (hstack : f.stack = args.reverse ++ .ref a :: rest) (hcell : s.heap[a]? = some cell) (hobj : ∀ c, cell.vm ≠ .statics c)
    (hsel : selectMethod e.platform s.vm cell.cls r = .method r) (hd : DfOk s.vm cell.cls rmeth.name rmeth.desc r) :
    wp (Op.invokevirtual.sem index) Q E e d acts (s.setTop f) ↔ E (.invoke r (.ref a :: args).toArray) acts (s.setTop { f with stack := rest }) := by
  obtain ⟨kc, cf, ci, n, h1, h2, h3, h4⟩ := hnamed
  have named : ∀ {Q' : ClassId → Pre}, wp (Jvm.refClassAt index) Q' E e d acts (s.setTop f) ↔ Q' c' d acts (s.setTop f) := fun {Q'} => by
    rcases h3 with h3 | h3 <;> simp [Jvm.refClassAt, Jvm.constantAt, State.method?_setTop f hs, h1, h2, h3, W.resolveClassAt_ready (State.method?_setTop f hs) h4]
  simp only [Op.invokevirtual.sem, wp_bind', named, W.theClass, State.vm_setTop, hk', Option.some.injEq, exists_eq_left', W.ite, hclass, Bool.false_eq_true, if_false, wp_pure', W.resolveMethodAt_ready (State.method?_setTop f hs) hr]
  simp only [W.theMethod, State.vm_setTop, hrm, Option.some.injEq, exists_eq_left', Seam.isPolymorphic, wp_bind', W.theClass, hmk, wp_pure', hpoly, W.ite, Bool.false_eq_true, if_false, hst, Jvm.popArgs, ← hlen, Op.popN_top hs hstack]
  simp [hs, hcell, hobj, sel_df (s := s.setTop _) (show selectMethod e.platform (s.setTop _).vm cell.cls r = .method r from hsel) hrm hrm hmk hitf hd, hrm, hab]
variable {p : Program} {l : Launch} {e : Env} {R : Room} {s : State} {m : MethodId} {args : Array Value} {below : List Frame} {meth : Method} {c : Code} {H : Heap} {locs : List Loc} {cells slots : Nat} {Q : State → Prop}
variable {pc nL maxL n index lev : Nat} {ls : Array Slot} {rest st : List Value} {G : GD} {cc bytes : ByteArray} {own C : String} {x y : MethodName} {ret : Option FieldType} {b : Nat} {As : List Value}
theorem cd_R1 {v : Value} (hc : Cx G p s m args c cc nL own) (hM : MetR l G y bytes maxL ret lev (.ref b :: As) H (some v)) (hlink : (Cond.methodLink own index x).before args s = true) (hsame : (Cond.sameMethod x.cls y.cls x.name x.desc).before args s = true) (hland : LandF C y s)
    (hy : y = ⟨y.cls, x.name, x.desc⟩) (h4 : Cond.instanceMethod y ∈ lw_all) (h5 : Cond.initialized y.cls ∈ lw_all) (h6 : Cond.code y bytes maxL ret ∈ lw_all)
    (hd : y.cls ≠ "java/lang/invoke/MethodHandle" ∧ y.cls ≠ "java/lang/invoke/VarHandle" ∧ (parseMethodDescriptor y.desc).map (fun d => d.parameters.length) = some n) (hR : lev + 1 ≤ R.frames ∧ 8 + (maxL + 11) + 42 * lev ≤ R.locals)
    (hr : ∃ cell : Cell, H[b]? = some cell ∧ cell.vm.isStatics = false ∧ s.vm.findClass C = some cell.cls) (hn : As.length = n) (hsz : ls.size = nL) (hst : st = As.reverse ++ .ref b :: rest) (hW8 : (rest.map fun v => v.category).sum ≤ 8) (hdg : decode cc pc = .ok (.invokevirtual index, 3)) (hf : cells ≤ R.cells ∧ slots ≤ R.slots)
    (kk : W p l e R s m args below meth c H locs cells slots Q (F0 m (pc + 3) ls (v :: rest))) : W p l e R s m args below meth c H locs cells slots Q (F0 m pc ls st) := by
  obtain ⟨hx, hb, hml, hown, hts, hK⟩ := hc
  have hK2 : Back l R p e below s args y 3 8 (PreOf R 0 0 (PcX G (.ref b :: As) H)) (PostOf (QcR (some v)) 0 0 (fun _ => False)) :=
    back_of (bytes := bytes) (maxL := maxL) (ret := ret) hM PcX.blind rfl rfl hR.1 hR.2 (fun w hw a' U hW => word_at hW (lw_meth h6 w hw).2 (hts w (lw_meth h6 w hw).1)) List.mem_cons_self (fun a' U hW => word_at hW (Or.inl (by first | rfl | simp [Cond.onTables, Cond.keeps, Cond.steady])) (hts _ h5))
  obtain ⟨cellB, hcB, hoB, hclB⟩ := hr
  refine x_callR (v := some v) (a := (Value.ref b :: As).toArray) (rest := rest) ?_ kk
  intro T hT X
  obtain ⟨mk, methM, hnamed, hmethM, hstM, habM⟩ := Cond.instanceMethod_spec (hts _ h4)
  obtain ⟨methM', cM, hmethM', -, -, -, -, -, -, hsigM⟩ := Cond.code_spec hnamed (hts _ h6)
  cases hmethM.symm.trans hmethM'
  have hlen : As.length = methM.sig.parameters.length := by
    have h7 := hd.2.2
    rw [hsigM] at h7
    exact hn.trans (Option.some.inj h7).symm
  have hpl : e.platform.magicAccessors = ({} : Platform).magicAccessors := by rw [X.admits.platform]
  obtain ⟨cn, ck, r1, hcn, hck, hni, hfd, hn1⟩ := Cond.sameMethod_found hsame
  have er : r1 = mk := Option.some.inj (hn1.symm.trans (by rw [← hy]; exact hnamed))
  subst er
  obtain ⟨hsel, ⟨kI, hkI, hitf⟩, hdf⟩ := hland _ _ _ hclB hnamed hmethM
  obtain ⟨ci, hl, hright⟩ := Cond.methodLink_specUp hown hcn hck hni hfd hlink e.platform hpl (by rw [X.admits.platform])
  have hE : s.MethodEntryUp e T.vm m.cls index cn r1 ci := State.methodEntryUp X.warmed hl hright
  obtain ⟨kr, hkr, hnr⟩ := className_of_methodNamed hnamed
  cases hkI.symm.trans hkr
  obtain ⟨dk, cfile, nt, _, _, _, _, _, hdd, hcf, hcp, -⟩ := hl.here
  have al := hE.warmed.alike
  obtain ⟨dk₂, hdk₂, hres⟩ := hE.classReady
  obtain ⟨dk₃, hdk₃, hed⟩ := al.2.2 _ _ hdd
  cases hdk₂.symm.trans hdk₃
  obtain ⟨kI2, hkI2, heI⟩ := al.2.2 _ _ hkI
  obtain ⟨ck2, hck2, hec⟩ := al.2.2 _ _ hck
  have X₁ := X.noted hE.warmed
  have hstep : ∀ target, (∀ acts, Steps p.tables e below (doInvoke e ((T.setVm (T.vm.calledUp m.cls ci index cn r1)).setTop (F0 m pc ls rest)) acts r1 (Value.ref b :: As).toArray).1 target) → Steps p.tables e below (T.setTop (F0 m pc ls st)) target := by
    intro target hrest
    have h : At T (F0 m pc ls st).method c below := X.here
    have hdg2 : decode c.code (F0 m pc ls st).pc = .ok (.invokevirtual index, 3) := by rw [hb]; exact hdg
    jvm_step h [hx, hdg2, Op.invokevirtual.wp_coldUp (e := e) (s := T) (s₀ := s) (f := F0 m pc ls st) X.here.top X.warmed hE hdd hcf (Or.inl hcp) hck hni,
      wp_df (e := e) (s := T.setVm (T.vm.calledUp m.cls ci index cn r1)) (f := F0 m pc ls st) (r := r1) (c' := cn) (k' := ck2) (mk := kI2) (rmeth := methM) (a := b) (args := As) (rest := rest) (cell := cellB)
        X.here.top ⟨dk₂, cfile, ci, nt, hdk₂, by rw [hed]; exact hcf, Or.inl hcp, dk₂, hdk₂, hres⟩ hck2 (by rw [hec]; exact hni) hE.ready
        (by show (T.vm.calledUp m.cls ci index cn r1).method? r1 = some methM; rw [al.method?]; exact hmethM) hkI2
        (by rw [heI]; show signaturePolymorphic kI methM = false; simp [signaturePolymorphic, hnr, hd.1, hd.2.1]) hstM habM (by rw [heI]; exact hitf) hlen hst (by show T.heap[b]? = _; rw [hT]; exact hcB) (fun z hz => by rw [hz] at hoB; cases hoB)
        (by show selectMethod e.platform (T.vm.calledUp m.cls ci index cn r1) cellB.cls r1 = .method r1; rw [al.selectMethod, Launch.admits_selectMethod X.admits]; exact hsel) (hdf.alike al)]
    exact hrest
  obtain ⟨v', ⟨U', l2, c2, s2⟩, X', ⟨g', mk', t, L, e1, e2, hq, h7, hL, h8, h9⟩, hsteps⟩ := hK2 m meth c ⟨T.setVm (T.vm.calledUp m.cls ci index cn r1), locs, cells, slots⟩ (F0 m pc ls rest) (.invokevirtual index) r1 (Value.ref b :: As).toArray X₁ rfl (hsz.trans hml.symm) (by rw [hb]; exact hdg) (lv_room hW8) (X₁.named hnamed) ⟨hf.1, hf.2, rfl, hT, hK.warm X₁.warmed⟩
  dsimp only [Pt.U, Pt.locs, Pt.cells, Pt.slots] at X' e1 e2 h7 h8 h9 hsteps
  subst h7; subst h8; subst h9
  exact ⟨v', (T.setVm (T.vm.calledUp m.cls ci index cn r1)).calling g' mk' (Value.ref b :: As).toArray, t, U', L, hT, X', hL, e1, e2, hq, fun target h => hstep _ fun acts => by rw [doInvoke_state]; exact hsteps.trans h⟩
end DFC
