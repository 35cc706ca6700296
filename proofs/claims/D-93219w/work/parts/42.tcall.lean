/-! calls of methods that throw -/
set_option maxRecDepth 100000
section TCA
variable {p : Program} {l : Launch} {e : Env} {R : Room} {s : State} {m : MethodId} {args : Array Value} {below : List Frame} {meth : Method} {c : Code} {H : Heap} {locs : List Loc} {cells slots : Nat} {Q : State → Prop}
/-- the call is made, and x flies over the caller's frame -/
def FlyT (p : Program) (l : Launch) (e : Env) (R : Room) (s : State) (m : MethodId) (args : Array Value) (below : List Frame) (meth : Method) (c : Code) (locs : List Loc) (cells slots mc ms : Nat) (U : State) (g : JFrame) (mk : MethodId) (a : Array Value) (Qc : Array Value → State → Outcome → State → Prop) (free : Addr → Prop) : Prop :=
  ∃ (x : Addr) (T' t : State) (L : List Loc), Stand p l e R s m args below meth c T' (locs ++ L) (cells + mc) (slots + ms) ∧ T'.heap = t.heap ∧ Qc a (U.calling g mk a) (.threw x) t ∧ (∀ q ∈ L, free q.base) ∧ Steps p.tables e below (doInvoke e (U.setTop g) [] mk a).1 ((T'.setTop g).pushFrame (.throwing x))
theorem flyT_of {y : MethodName} {ws : List Cond} {rm : Room} {Pc : Array Value → State → Prop} {Qc : Array Value → State → Outcome → State → Prop} {mc ms wt : Nat} {free : Addr → Prop} {bytes : ByteArray} {maxL : Nat} {ret : Option FieldType}
    (hM : MetT l y ws rm Pc Qc mc ms free) (hblind : FrameBlind Pc) (hrc : rm.cells = mc) (hrs : rm.slots = ms)
    (hframes : rm.frames + 1 ≤ R.frames) (hlocals : wt + (maxL + 11) + rm.locals ≤ R.locals)
    (hws : ∀ w ∈ ws, ∀ a' U, s.WarmedH U.vm → w.before a' U = true) (hcode : Cond.code y bytes maxL ret ∈ ws) (hinit : ∀ a' U, s.WarmedH U.vm → (Cond.initialized y.cls).before a' U = true)
    {U : State} {g : JFrame} {ig : Instr} {len : Nat} {mk : MethodId} {a : Array Value} (X : Stand p l e R s m args below meth c U locs cells slots) (hg : g.method = m) (hsize : g.locals.size = c.maxLocals) (hdg : decode c.code g.pc = .ok (ig, len)) (hwt : 2 * g.monitorRoom + (g.stack.map fun v => v.category).sum ≤ wt) (hn : U.methodNamed? y = some mk)
    (hf : cells + mc ≤ R.cells ∧ slots + ms ≤ R.slots) (hP : Pc a U) : FlyT p l e R s m args below meth c locs cells slots mc ms U g mk a Qc free := by
  have h2 : (Cond.code y bytes maxL ret).before a U = true := hws _ hcode _ _ X.warmed
  obtain ⟨methY, cY, hmY, hcY, -, hlY, -⟩ := Cond.code_spec hn h2
  obtain ⟨kY, hkY, -⟩ := className_of_methodNamed hn
  have hinitY : kY.init = .initialized := Cond.initialized_spec (findClass_of_methodNamed hn) hkY (hinit a U X.warmed)
  have h : At U g.method c below := by rw [hg]; exact X.here
  have hpre : (headSpec ws rm).pre.before a U = true := atoms_intro fun w hw => hws w hw _ _ X.warmed
  have happ : (headSpec ws rm).appliesLoose y e.platform (U.calling g mk a) = true :=
    Spec.appliesLoose_calling (g := g) h hdg hn hkY hinitY (X.room_calling (g := g) (R' := (headSpec ws rm).room) hsize hmY hcY hframes (by rw [hlY]; show _ + (maxL + 11) + rm.locals ≤ _; omega) (by show cells + rm.cells ≤ _; omega) (by show slots + rm.slots ≤ _; omega)) hpre
  have hfr : (U.setTop g).frames = [.java g] ++ below := by rw [State.frames_setTop' g h.top, X.tail]; rfl
  obtain ⟨o, t, hsteps, -, hend, hq, L, ⟨⟨x, rfl⟩, hW2, hsame⟩, hL⟩ := Steps.callFree hM p X.admits X.cas X.clock (acts := []) hfr happ (hblind a U g mk hP) trivial
  rw [hfr] at hend
  obtain ⟨T', X', -, -, et⟩ := X.outOfThrown hg hend hW2 hsame
  refine ⟨x, T', t, L, X', ?_, hq, hL, ?_⟩
  · rw [et, Stand.throwing_heap]
  · rw [← et]; exact hsteps
variable {pc nL maxL n index lev mc ms : Nat} {ls : Array Slot} {rest st : List Value} {A0 A1 : Nat → Prop} {H0 : Heap} {G : GD} {cc bytes : ByteArray} {own C : String} {y : MethodName} {ret : Option FieldType} {b : Nat} {As : List Value}
/-- it throws an x, and x and the heap satisfy P; outside A nothing has changed -/
def QcT (A : Nat → Prop) (P : Nat → Heap → Prop) : Array Value → State → Outcome → State → Prop := fun _ st o t => (∃ x, o = .threw x ∧ P x t.heap) ∧ va_F A st t
abbrev MetX (l : Launch) (G : GD) (y : MethodName) (cc : ByteArray) (maxL : Nat) (ret : Option FieldType) (lev mc ms : Nat) (A : Nat → Prop) (av : List Value) (H0 : Heap) (P : Nat → Heap → Prop) : Prop := MetT l y (ws_ y cc maxL ret) (rmL lev mc ms) (PcX G av H0) (QcT A P) mc ms A
theorem fly_k {P : Nat → Heap → Prop} {U : State} {g : JFrame} {mk : MethodId} {a : Array Value} (hF : FlyT p l e R s m args below meth c locs cells slots mc ms U g mk a (QcT A1 P) A1) (hU : U.heap = H) (hS : va_S A0 H0 H locs) (hA : ∀ q, A1 q → A0 q)
    (kk : ∀ (x : Nat) (H1 : Heap) (locs1 : List Loc), P x H1 → va_S A0 H0 H1 locs1 → H.size ≤ H1.size → (∀ q : Nat, q < H.size → ¬ A1 q → H1[q]? = H[q]?) → WT p l e R s m args below meth c H1 locs1 (cells + mc) (slots + ms) Q g x) :
    ∃ t, Steps p.tables e below (doInvoke e (U.setTop g) [] mk a).1 t ∧ Q t := by
  obtain ⟨x, T', t, L, X', e1, ⟨⟨x', hx, hp⟩, hz, hk⟩, hL, hst⟩ := hF
  cases hx
  have h0 : (U.calling g mk a).heap = H := hU
  rw [h0] at hz hk
  obtain ⟨t2, a1, b1⟩ := kk x T'.heap (locs ++ L) (by rw [e1]; exact hp)
    ⟨Nat.le_trans hS.1 (by rw [e1]; exact hz), fun q h1 h2 => by rw [e1, hk q (Nat.lt_of_lt_of_le h1 hS.1) (fun z => h2 (hA q z))]; exact hS.2.1 q h1 h2, fun q hq => by
      rcases List.mem_append.mp hq with h | h
      · exact hS.2.2 q h
      · exact hA _ (hL q h)⟩ (by rw [e1]; exact hz) (fun q h1 h2 => by rw [e1]; exact hk q h1 h2) T' rfl X'
  exact ⟨t2, hst.trans a1, b1⟩
/-- a static call that throws -/
theorem cs_T {P : Nat → Heap → Prop} (hc : Cx G p s m args c cc nL own) (hM : MetX l G y bytes maxL ret lev mc ms A1 As H P) (h1 : Cond.methodLink own index y ∈ lw_all) (h2 : Cond.static y ∈ lw_all) (h3 : Cond.initialized y.cls ∈ lw_all) (h4 : Cond.code y bytes maxL ret ∈ lw_all)
    (hd : y.cls ≠ "java/lang/invoke/MethodHandle" ∧ y.cls ≠ "java/lang/invoke/VarHandle" ∧ (parseMethodDescriptor y.desc).map (fun d => d.parameters.length) = some n) (hR : lev + 1 ≤ R.frames ∧ 8 + (maxL + 11) + 42 * lev ≤ R.locals)
    (hn : As.length = n) (hsz : ls.size = nL) (hst : st = As.reverse ++ rest) (hW8 : (rest.map fun v => v.category).sum ≤ 8) (hdg : decode cc pc = .ok (.invokestatic index, 3)) (hf : cells + mc ≤ R.cells ∧ slots + ms ≤ R.slots)
    (hS : va_S A0 H0 H locs) (hA : ∀ q, A1 q → A0 q)
    (kk : ∀ (x : Nat) (H1 : Heap) (locs1 : List Loc), P x H1 → va_S A0 H0 H1 locs1 → H.size ≤ H1.size → (∀ q : Nat, q < H.size → ¬ A1 q → H1[q]? = H[q]?) → WT p l e R s m args below meth c H1 locs1 (cells + mc) (slots + ms) Q (F0 m pc ls rest) x) : W p l e R s m args below meth c H locs cells slots Q (F0 m pc ls st) := by
  intro T hT X
  obtain ⟨hx, hb, hml, hown, hts, hK⟩ := hc
  have hcode := hts _ h4
  obtain ⟨mk, hnamed⟩ := Cond.code_named hcode
  obtain ⟨methM, cM, hmethM, -, -, -, -, -, -, hsigM⟩ := Cond.code_spec hnamed hcode
  have hstatic : methM.isStatic = true := Cond.static_spec hnamed hmethM (hts _ h2)
  obtain ⟨kP, hkP, -⟩ := className_of_methodNamed hnamed
  have hinitP : kP.init = .initialized := Cond.initialized_spec (findClass_of_methodNamed hnamed) hkP (hts _ h3)
  have hlen : As.length = methM.sig.parameters.length := by
    have := hd.2.2
    rw [hsigM] at this
    exact hn.trans (Option.some.inj this).symm
  obtain ⟨vm₁, X₁, hstep₁⟩ := X.invokestatic hx hown (hts _ h1) hnamed hmethM hstatic hkP hinitP ⟨hd.1, hd.2.1⟩ (g := F0 m pc ls st) rfl (argsL := As) (rest := rest) hlen hst (by rw [hb]; exact hdg)
  obtain ⟨t, a1, b1⟩ := fly_k (flyT_of (wt := 8) (bytes := bytes) (maxL := maxL) (ret := ret) hM PcX.blind rfl rfl hR.1 hR.2 (fun w hw a' U hW => word_at hW (lw_meth h4 w hw).2 (hts w (lw_meth h4 w hw).1)) List.mem_cons_self (fun a' U hW => word_at hW (Or.inl (by first | rfl | simp [Cond.onTables, Cond.keeps, Cond.steady])) (hts _ h3)) (g := F0 m pc ls rest) (a := As.toArray) X₁ rfl (hsz.trans hml.symm) (by rw [hb]; exact hdg) (lv_room hW8) (X₁.named hnamed) hf ⟨rfl, hT, hK.warm X₁.warmed⟩) hT hS hA kk
  exact ⟨t, hstep₁ _ fun acts => by rw [doInvoke_state]; exact a1, b1⟩
/-- a call through an object that throws -/
theorem cv_T {P : Nat → Heap → Prop} (hc : Cx G p s m args c cc nL own) (hM : MetX l G y bytes maxL ret lev mc ms A1 (.ref b :: As) H P) (h1 : Cond.methodLink own index y ∈ lw_all) (h2 : Cond.instanceMethod y ∈ lw_all) (h5 : Cond.selects C y y ∈ lw_all) (h3 : Cond.initialized C ∈ lw_all) (h4 : Cond.code y bytes maxL ret ∈ lw_all)
    (hd : y.cls = C ∧ y.cls ≠ "java/lang/invoke/MethodHandle" ∧ y.cls ≠ "java/lang/invoke/VarHandle" ∧ (parseMethodDescriptor y.desc).map (fun d => d.parameters.length) = some n) (hR : lev + 1 ≤ R.frames ∧ 8 + (maxL + 11) + 42 * lev ≤ R.locals)
    (hr : ∃ cell : Cell, H[b]? = some cell ∧ cell.vm.isStatics = false ∧ s.vm.findClass C = some cell.cls)
    (hn : As.length = n) (hsz : ls.size = nL) (hst : st = As.reverse ++ .ref b :: rest) (hW8 : (rest.map fun v => v.category).sum ≤ 8) (hdg : decode cc pc = .ok (.invokevirtual index, 3)) (hf : cells + mc ≤ R.cells ∧ slots + ms ≤ R.slots)
    (hS : va_S A0 H0 H locs) (hA : ∀ q, A1 q → A0 q)
    (kk : ∀ (x : Nat) (H1 : Heap) (locs1 : List Loc), P x H1 → va_S A0 H0 H1 locs1 → H.size ≤ H1.size → (∀ q : Nat, q < H.size → ¬ A1 q → H1[q]? = H[q]?) → WT p l e R s m args below meth c H1 locs1 (cells + mc) (slots + ms) Q (F0 m pc ls rest) x) : W p l e R s m args below meth c H locs cells slots Q (F0 m pc ls st) := by
  intro T hT X
  obtain ⟨hx, hb, hml, hown, hts, hK⟩ := hc
  obtain ⟨hC, hd⟩ := hd
  subst hC
  obtain ⟨cellB, hcell, hobj, hcls⟩ := hr
  obtain ⟨mk, methM, hnamed, hmethM, hstM, habM⟩ := Cond.instanceMethod_spec (hts _ h2)
  obtain ⟨methM', cM, hmethM', -, -, -, -, -, -, hsigM⟩ := Cond.code_spec hnamed (hts _ h4)
  cases hmethM.symm.trans hmethM'
  obtain ⟨c2, r2, m2, q1, q2, q3, q4, kP, hkP, hkPi⟩ := Cond.selects_spec (hts _ h5)
  cases hcls.symm.trans q1
  cases (State.methodFound?_of_named hnamed ⟨hd.1, hd.2.1⟩).symm.trans q2
  cases hnamed.symm.trans q3
  have hselP : selectMethod e.platform s.vm cellB.cls mk = .method mk := by rw [Launch.admits_selectMethod X.admits]; exact q4
  have hlen : As.length = methM.sig.parameters.length := by
    have := hd.2.2
    rw [hsigM] at this
    exact hn.trans (Option.some.inj this).symm
  obtain ⟨vm₁, X₁, hstep₁⟩ := X.invokevirtual hx hown (hts _ h1) hnamed hmethM hstM hkP hkPi ⟨hd.1, hd.2.1⟩ (a := b) (cell := cellB) (by rw [hT]; exact hcell)
    (fun z h => by rw [h] at hobj; cases hobj) hselP hmethM habM hkP hkPi (g := F0 m pc ls st) rfl (argsL := As) (rest := rest) hlen hst (by rw [hb]; exact hdg)
  obtain ⟨t, a1, b1⟩ := fly_k (flyT_of (wt := 8) (bytes := bytes) (maxL := maxL) (ret := ret) hM PcX.blind rfl rfl hR.1 hR.2 (fun w hw a' U hW => word_at hW (lw_meth h4 w hw).2 (hts w (lw_meth h4 w hw).1)) List.mem_cons_self (fun a' U hW => word_at hW (Or.inl (by first | rfl | simp [Cond.onTables, Cond.keeps, Cond.steady])) (hts _ h3)) (g := F0 m pc ls rest) (a := (Value.ref b :: As).toArray) X₁ rfl (hsz.trans hml.symm) (by rw [hb]; exact hdg) (lv_room hW8) (X₁.named hnamed) hf ⟨rfl, hT, hK.warm X₁.warmed⟩) hT hS hA kk
  exact ⟨t, hstep₁ _ fun acts => by rw [doInvoke_state]; exact a1, b1⟩
/-- contracts: of a method without handlers that throws; of one with handlers that returns -/
theorem mt_of {av : List Value} {Qc : Array Value → State → Outcome → State → Prop} {rm : Room} {A : Nat → Prop}
    (hy : plainName y.cls = true) (hn : (lg_sl av).length ≤ maxL)
    (body : ∀ (p : Program) (e : Env) (s : State) (m : MethodId) (below : List Frame) (meth : Method) (c : Code), p.tables.exec = Jvm.exec → c.code = cc → meth.sig.returnType = ret → Cx G p s m av.toArray c cc maxL y.cls → meth.locks = false → meth.name = y.name → (∀ pc, ∀ z ∈ c.exceptionTable.toList, covers z pc = false) → s.heap = H0 → ∀ ls : Array Slot, lv_has ls maxL (lv_args 0 av) →
      W p l e rm s m av.toArray below meth c s.heap [] 0 0 (MQT below Qc av.toArray s mc ms A) (F0 m 0 ls [])) : MetT l y (ws_ y cc maxL ret) rm (PcX G av H0) Qc mc ms A := by
  refine MetT.ofW (cc := cc) (maxL := maxL) (ret := ret) hy rfl ?_
  intro p e s m args below meth c s₁ B hml hv
  obtain ⟨rfl, hs0, hK⟩ := hv
  have hts0 := atoms_spec (ws := ws_ y cc maxL ret) B.pre
  have hts : ∀ w ∈ lw_all, w.before _ s = true := fun w h => hts0 w (List.mem_cons_of_mem _ h)
  have hl := lv_entry av (n := maxL) hn
  rw [lg_entry_eq]
  generalize (lg_sl av ++ List.replicate (maxL - (lg_sl av).length) Slot.unset).toArray = ls at hl ⊢
  exact body p e s m below meth c B.exec B.bytes B.returns ⟨B.exec, B.bytes, hml, findClass_of_methodNamed B.named, hts, hK⟩ B.notSynchronized (name_of_methodNamed B.named B.method).1 (covers_of_empty (B.noHandlers (hts0 _ List.mem_cons_self))) hs0 ls hl
theorem tab_eq {t : List ExceptionTableEntry} {hh : List (Nat × Nat × Nat × Nat)} (h : t.map (fun h => (h.startPc, h.endPc, h.handlerPc, h.catchType)) = hh) : t = hh.map (fun z => ⟨z.1, z.2.1, z.2.2.1, z.2.2.2⟩) := by
  subst h
  rw [List.map_map]
  exact (List.map_id t).symm
theorem mw_of {av : List Value} {Qc : Array Value → State → Outcome → State → Prop} {rm : Room} {A : Nat → Prop} {hh : List (Nat × Nat × Nat × Nat)}
    (hy : plainName y.cls = true) (hn : (lg_sl av).length ≤ maxL)
    (body : ∀ (p : Program) (e : Env) (s : State) (m : MethodId) (below : List Frame) (meth : Method) (c : Code), p.tables.exec = Jvm.exec → c.code = cc → meth.sig.returnType = ret → Cx G p s m av.toArray c cc maxL y.cls → meth.locks = false → meth.name = y.name → c.exceptionTable.toList = hh.map (fun z => ⟨z.1, z.2.1, z.2.2.1, z.2.2.2⟩) → s.heap = H0 → ∀ ls : Array Slot, lv_has ls maxL (lv_args 0 av) →
      W p l e rm s m av.toArray below meth c s.heap [] 0 0 (MQ below Qc av.toArray s mc ms A) (F0 m 0 ls [])) : Met l y (wsW_ y cc maxL ret hh) rm (PcX G av H0) Qc mc ms A := by
  refine va_MetW (cc := cc) (maxL := maxL) (ret := ret) (hh := hh) hy rfl ?_
  intro p e s m args below meth c s₁ B hml hv
  obtain ⟨rfl, hs0, hK⟩ := hv
  have hts0 := atoms_spec (ws := wsW_ y cc maxL ret hh) B.pre
  have hts : ∀ w ∈ lw_all, w.before _ s = true := fun w h => hts0 w (List.mem_cons_of_mem _ h)
  have htab : c.exceptionTable.toList = hh.map (fun z => ⟨z.1, z.2.1, z.2.2.1, z.2.2.2⟩) := by
    obtain ⟨m9, meth9, c9, hn9, h1, h2, h3, h4, h5, -⟩ := Cond.codeWith_spec (hts0 _ List.mem_cons_self)
    cases hn9.symm.trans B.named
    cases h1.symm.trans B.method
    cases h2.symm.trans (Stand.of_body B).code
    exact tab_eq h5
  have hl := lv_entry av (n := maxL) hn
  rw [lg_entry_eq]
  generalize (lg_sl av ++ List.replicate (maxL - (lg_sl av).length) Slot.unset).toArray = ls at hl ⊢
  exact body p e s m below meth c B.exec B.bytes B.returns ⟨B.exec, B.bytes, hml, findClass_of_methodNamed B.named, hts, hK⟩ B.notSynchronized (name_of_methodNamed B.named B.method).1 htab hs0 ls hl
end TCA
