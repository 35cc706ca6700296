/-! base: what a run knows, worlds by roles, the forms of contracts, and the rows over them -/
set_option maxRecDepth 100000
abbrev vwCl : List vw_C := [(RX0, TX0, 13), (RX1, TX1, 10), (RX2, TX2, 1), (RX3, TX3, 23), (RX4, TX4, 7), (RX5, TX5, 7), (RX6, TX6, 7), (RX7, TX7, 7), (RX8, TX8, 7), (RX9, TX9, 7), (RX10, TX10, 7), (RX11, TX11, 6), (RX12, TX12, 7)]
/-- classes' numbers and slots, array classes' numbers, the state at the law's start -/
abbrev GD : Type := va_G × (Nat → ClassId) × State
abbrev sm_tys (G : GD) : List (ClassId × FieldType) := [(G.2.1 0, .int), (G.2.1 1, .byte), (G.2.1 2, .long), (G.2.1 3, .short), (G.2.1 4, .object "SmokeLeans$Slot")]
def KV (G : GD) (U : State) : Prop := va_K G.1 vwCl (sm_tys G) U ∧ G.2.2.WarmedH U.vm
theorem KV.warm {G : GD} {s U : State} (hW : s.WarmedH U.vm) (h : KV G s) : KV G U := ⟨va_K.moved hW.alike h.1, State.WarmedH.trans h.2 hW⟩
/-- a contract's start: the arguments, the heap, what the run knows -/
def PcX (G : GD) (av : List Value) (H0 : Heap) : Array Value → State → Prop := fun a U => a = av.toArray ∧ U.heap = H0 ∧ KV G U
theorem PcX.blind {G : GD} {av : List Value} {H0 : Heap} : FrameBlind (PcX G av H0) := fun a U g mk h => ⟨h.1, h.2.1, va_K.moved (u := U) (U := U.calling g mk a) (Vm.Alike.refl U.vm) h.2.2.1, h.2.2.2⟩
/-- it answers v and the heap is what it was -/
def QcR (v : Option Value) : Array Value → State → Outcome → State → Prop := fun _ st o t => o = .returned v ∧ t.heap = st.heap
/-- it answers; answer and heap satisfy Q; outside A nothing has changed -/
def QcW (A : Nat → Prop) (Q : Option Value → Heap → Prop) : Array Value → State → Outcome → State → Prop := fun _ st o t => (∃ v, o = .returned v ∧ Q v t.heap) ∧ va_F A st t
abbrev rmL (lev mc ms : Nat) : Room := { frames := lev, cells := mc, slots := ms, locals := 42 * lev }
abbrev MetR (l : Launch) (G : GD) (y : MethodName) (cc : ByteArray) (maxL : Nat) (ret : Option FieldType) (lev : Nat) (av : List Value) (H0 : Heap) (v : Option Value) : Prop := Met l y (ws_ y cc maxL ret) (rmL lev 0 0) (PcX G av H0) (QcR v) 0 0 (fun _ => False)
abbrev MetW (l : Launch) (G : GD) (y : MethodName) (cc : ByteArray) (maxL : Nat) (ret : Option FieldType) (lev mc ms : Nat) (A : Nat → Prop) (av : List Value) (H0 : Heap) (v : Option Value) (P : Heap → Prop) : Prop := Met l y (ws_ y cc maxL ret) (rmL lev mc ms) (PcX G av H0) (QcW A (fun v' H => v' = v ∧ P H)) mc ms A
/-- what a walk has at hand all through -/
def Cx (G : GD) (p : Program) (s : State) (m : MethodId) (args : Array Value) (c : Code) (cc : ByteArray) (nL : Nat) (own : String) : Prop := p.tables.exec = Jvm.exec ∧ c.code = cc ∧ c.maxLocals = nL ∧ s.vm.findClass own = some m.cls ∧ (∀ w ∈ lw_all, w.before args s = true) ∧ KV G s
theorem mx_of {l : Launch} {G : GD} {y : MethodName} {cc : ByteArray} {maxL : Nat} {ret : Option FieldType} {rm : Room} {mc ms : Nat} {A : Nat → Prop} {av : List Value} {H0 : Heap} {Qc : Array Value → State → Outcome → State → Prop}
    (hy : plainName y.cls = true) (hn : (lg_sl av).length ≤ maxL)
    (body : ∀ (p : Program) (e : Env) (s : State) (m : MethodId) (below : List Frame) (meth : Method) (c : Code), p.tables.exec = Jvm.exec → c.code = cc → meth.sig.returnType = ret → Cx G p s m av.toArray c cc maxL y.cls → meth.locks = false → meth.name = y.name → s.heap = H0 → ∀ ls : Array Slot, lv_has ls maxL (lv_args 0 av) →
      W p l e rm s m av.toArray below meth c s.heap [] 0 0 (MQ below Qc av.toArray s mc ms A) (F0 m 0 ls [])) : Met l y (ws_ y cc maxL ret) rm (PcX G av H0) Qc mc ms A := by
  refine Met.ofW (cc := cc) (maxL := maxL) (ret := ret) hy rfl ?_
  intro p e s m args below meth c s₁ B hml hv
  obtain ⟨rfl, hs0, hK⟩ := hv
  have hts0 := atoms_spec (ws := ws_ y cc maxL ret) B.pre
  have hts : ∀ w ∈ lw_all, w.before _ s = true := fun w h => hts0 w (List.mem_cons_of_mem _ h)
  have hl := lv_entry av (n := maxL) hn
  rw [lg_entry_eq]
  generalize (lg_sl av ++ List.replicate (maxL - (lg_sl av).length) Slot.unset).toArray = ls at hl ⊢
  exact body p e s m below meth c B.exec B.bytes B.returns ⟨B.exec, B.bytes, hml, findClass_of_methodNamed B.named, hts, hK⟩ B.notSynchronized (name_of_methodNamed B.named B.method).1 hs0 ls hl
theorem sm_preV {G : GD} {s : State} {H : Heap} {C : String} {b : Nat} {As : List Value} (hK : KV G s) (hr : ∃ cell : Cell, H[b]? = some cell ∧ cell.vm.isStatics = false ∧ s.vm.findClass C = some cell.cls) : PreV s H C b (PcX G (.ref b :: As) H) As := ⟨PcX.blind, hr, fun U hU hW => ⟨rfl, hU, hK.warm hW⟩⟩
theorem sm_preS {G : GD} {s : State} {H : Heap} {As : List Value} (hK : KV G s) : PreS s H (PcX G As H) As := ⟨PcX.blind, fun U hU hW => ⟨rfl, hU, hK.warm hW⟩⟩
section SMC
variable {p : Program} {l : Launch} {e : Env} {R : Room} {s : State} {m : MethodId} {args : Array Value} {below : List Frame} {meth : Method} {c : Code} {H : Heap} {locs : List Loc} {cells slots : Nat} {Q : State → Prop}
variable {pc : Nat} {ls : Array Slot} {rest st st0 : List Value} {a : Array Value} {A A0 A1 : Nat → Prop} {H0 : Heap} {mc ms : Nat} {G : GD} {cc bytes : ByteArray} {nL maxL n index lev : Nat} {own C : String} {y : MethodName} {ret : Option FieldType} {b : Nat} {As : List Value}
/-- behind a call that changes nothing -/
theorem x_callR {v : Option Value} (hr : va_Run p l e R s m args below meth c H locs cells slots 0 0 (F0 m pc ls st0) rest (QcR v a) (fun _ => False)) (kk : W p l e R s m args below meth c H locs cells slots Q (F0 m (pc + 3) ls (v.toList ++ rest))) : W p l e R s m args below meth c H locs cells slots Q (F0 m pc ls st0) := by
  intro T hT X
  obtain ⟨v', st₀, t, T', L, h0, X', hL, e1, e2, ⟨hv, hh⟩, st⟩ := hr T hT X
  cases hv
  obtain ⟨t2, a1, b1⟩ := kk T' (by rw [e1, hh, h0]) (Stand.forget X' (fun q h => (hL q h).elim))
  exact ⟨t2, st t2 a1, b1⟩
/-- behind a call that may change A1's cells -/
theorem x_callW {Qv : Option Value → Heap → Prop} (hr : va_Run p l e R s m args below meth c H locs cells slots mc ms (F0 m pc ls st0) rest (QcW A1 Qv a) A1) (hS : va_S A0 H0 H locs) (hA : ∀ q, A1 q → A0 q)
    (kk : ∀ (v : Option Value) (H1 : Heap) (locs1 : List Loc), Qv v H1 → H.size ≤ H1.size → (∀ q : Nat, q < H.size → ¬ A1 q → H1[q]? = H[q]?) → va_S A0 H0 H1 locs1 → W p l e R s m args below meth c H1 locs1 (cells + mc) (slots + ms) Q (F0 m (pc + 3) ls (v.toList ++ rest))) : W p l e R s m args below meth c H locs cells slots Q (F0 m pc ls st0) := by
  intro T hT X
  obtain ⟨v, st₀, t, T', L, h0, X', hL, e1, e2, ⟨⟨v', hv, hq⟩, hz, hk⟩, st⟩ := hr T hT X
  cases hv
  rw [h0] at hz hk
  obtain ⟨t2, a1, b1⟩ := kk v T'.heap (locs ++ L) (by rw [e1]; exact hq) (by rw [e1]; exact hz) (fun q h1 h2 => by rw [e1]; exact hk q h1 h2)
    ⟨Nat.le_trans hS.1 (by rw [e1]; exact hz), fun q h1 h2 => by rw [e1, hk q (Nat.lt_of_lt_of_le h1 hS.1) (fun z => h2 (hA q z))]; exact hS.2.1 q h1 h2, fun q hq => by
      rcases List.mem_append.mp hq with h | h
      · exact hS.2.2 q h
      · exact hA _ (hL q h)⟩ T' rfl X'
  exact ⟨t2, st t2 a1, b1⟩
theorem cv_R1 {v : Value} (hc : Cx G p s m args c cc nL own) (hM : MetR l G y bytes maxL ret lev (.ref b :: As) H (some v)) (hT : GoodIn lw_all (wsV own index C y (ws_ y bytes maxL ret)))
    (hd : y.cls = C ∧ y.cls ≠ "java/lang/invoke/MethodHandle" ∧ y.cls ≠ "java/lang/invoke/VarHandle" ∧ (parseMethodDescriptor y.desc).map (fun d => d.parameters.length) = some n) (hR : lev + 1 ≤ R.frames ∧ 8 + (maxL + 11) + 42 * lev ≤ R.locals)
    (hr : ∃ cell : Cell, H[b]? = some cell ∧ cell.vm.isStatics = false ∧ s.vm.findClass C = some cell.cls) (hn : As.length = n) (hsz : ls.size = nL) (hst : st = As.reverse ++ .ref b :: rest) (hW8 : (rest.map fun v => v.category).sum ≤ 8) (hdg : decode cc pc = .ok (.invokevirtual index, 3)) (hf : cells ≤ R.cells ∧ slots ≤ R.slots)
    (kk : W p l e R s m args below meth c H locs cells slots Q (F0 m (pc + 3) ls (v :: rest))) : W p l e R s m args below meth c H locs cells slots Q (F0 m pc ls st) := by
  obtain ⟨hx, hb, hml, hown, hts, hK⟩ := hc
  exact x_callR (va_runV (As := As) (rest := rest) ⟨hx, hb, hml, hown, hts⟩ hM (cwV n hts hT rfl rfl rfl hd hR) (sm_preV hK hr) rfl hn hsz hst (lv_room hW8) hdg hf) kk
theorem cv_W1 {v : Value} {P : Heap → Prop} (hc : Cx G p s m args c cc nL own) (hM : MetW l G y bytes maxL ret lev mc ms A1 (.ref b :: As) H (some v) P) (hT : GoodIn lw_all (wsV own index C y (ws_ y bytes maxL ret)))
    (hd : y.cls = C ∧ y.cls ≠ "java/lang/invoke/MethodHandle" ∧ y.cls ≠ "java/lang/invoke/VarHandle" ∧ (parseMethodDescriptor y.desc).map (fun d => d.parameters.length) = some n) (hR : lev + 1 ≤ R.frames ∧ 8 + (maxL + 11) + 42 * lev ≤ R.locals)
    (hr : ∃ cell : Cell, H[b]? = some cell ∧ cell.vm.isStatics = false ∧ s.vm.findClass C = some cell.cls) (hn : As.length = n) (hsz : ls.size = nL) (hst : st = As.reverse ++ .ref b :: rest) (hW8 : (rest.map fun v => v.category).sum ≤ 8) (hdg : decode cc pc = .ok (.invokevirtual index, 3)) (hf : cells + mc ≤ R.cells ∧ slots + ms ≤ R.slots)
    (hS : va_S A0 H0 H locs) (hA : ∀ q, A1 q → A0 q)
    (kk : ∀ (H1 : Heap) (locs1 : List Loc), P H1 → va_S A0 H0 H1 locs1 → H.size ≤ H1.size → (∀ q : Nat, q < H.size → ¬ A1 q → H1[q]? = H[q]?) → W p l e R s m args below meth c H1 locs1 (cells + mc) (slots + ms) Q (F0 m (pc + 3) ls (v :: rest))) : W p l e R s m args below meth c H locs cells slots Q (F0 m pc ls st) := by
  obtain ⟨hx, hb, hml, hown, hts, hK⟩ := hc
  refine x_callW (va_runV (As := As) (rest := rest) ⟨hx, hb, hml, hown, hts⟩ hM (cwV n hts hT rfl rfl rfl hd hR) (sm_preV hK hr) rfl hn hsz hst (lv_room hW8) hdg hf) hS hA (fun v' H1 locs1 hq hz hk hS1 => ?_)
  obtain ⟨rfl, hp⟩ := hq
  exact kk H1 locs1 hp hS1 hz hk
theorem cv_R0 (hc : Cx G p s m args c cc nL own) (hM : MetR l G y bytes maxL ret lev (.ref b :: As) H none) (hT : GoodIn lw_all (wsV own index C y (ws_ y bytes maxL ret)))
    (hd : y.cls = C ∧ y.cls ≠ "java/lang/invoke/MethodHandle" ∧ y.cls ≠ "java/lang/invoke/VarHandle" ∧ (parseMethodDescriptor y.desc).map (fun d => d.parameters.length) = some n) (hR : lev + 1 ≤ R.frames ∧ 8 + (maxL + 11) + 42 * lev ≤ R.locals)
    (hr : ∃ cell : Cell, H[b]? = some cell ∧ cell.vm.isStatics = false ∧ s.vm.findClass C = some cell.cls) (hn : As.length = n) (hsz : ls.size = nL) (hst : st = As.reverse ++ .ref b :: rest) (hW8 : (rest.map fun v => v.category).sum ≤ 8) (hdg : decode cc pc = .ok (.invokevirtual index, 3)) (hf : cells ≤ R.cells ∧ slots ≤ R.slots)
    (kk : W p l e R s m args below meth c H locs cells slots Q (F0 m (pc + 3) ls rest)) : W p l e R s m args below meth c H locs cells slots Q (F0 m pc ls st) := by
  obtain ⟨hx, hb, hml, hown, hts, hK⟩ := hc
  exact x_callR (va_runV (As := As) (rest := rest) ⟨hx, hb, hml, hown, hts⟩ hM (cwV n hts hT rfl rfl rfl hd hR) (sm_preV hK hr) rfl hn hsz hst (lv_room hW8) hdg hf) kk
theorem cv_W0 {P : Heap → Prop} (hc : Cx G p s m args c cc nL own) (hM : MetW l G y bytes maxL ret lev mc ms A1 (.ref b :: As) H none P) (hT : GoodIn lw_all (wsV own index C y (ws_ y bytes maxL ret)))
    (hd : y.cls = C ∧ y.cls ≠ "java/lang/invoke/MethodHandle" ∧ y.cls ≠ "java/lang/invoke/VarHandle" ∧ (parseMethodDescriptor y.desc).map (fun d => d.parameters.length) = some n) (hR : lev + 1 ≤ R.frames ∧ 8 + (maxL + 11) + 42 * lev ≤ R.locals)
    (hr : ∃ cell : Cell, H[b]? = some cell ∧ cell.vm.isStatics = false ∧ s.vm.findClass C = some cell.cls) (hn : As.length = n) (hsz : ls.size = nL) (hst : st = As.reverse ++ .ref b :: rest) (hW8 : (rest.map fun v => v.category).sum ≤ 8) (hdg : decode cc pc = .ok (.invokevirtual index, 3)) (hf : cells + mc ≤ R.cells ∧ slots + ms ≤ R.slots)
    (hS : va_S A0 H0 H locs) (hA : ∀ q, A1 q → A0 q)
    (kk : ∀ (H1 : Heap) (locs1 : List Loc), P H1 → va_S A0 H0 H1 locs1 → H.size ≤ H1.size → (∀ q : Nat, q < H.size → ¬ A1 q → H1[q]? = H[q]?) → W p l e R s m args below meth c H1 locs1 (cells + mc) (slots + ms) Q (F0 m (pc + 3) ls rest)) : W p l e R s m args below meth c H locs cells slots Q (F0 m pc ls st) := by
  obtain ⟨hx, hb, hml, hown, hts, hK⟩ := hc
  refine x_callW (va_runV (As := As) (rest := rest) ⟨hx, hb, hml, hown, hts⟩ hM (cwV n hts hT rfl rfl rfl hd hR) (sm_preV hK hr) rfl hn hsz hst (lv_room hW8) hdg hf) hS hA (fun v' H1 locs1 hq hz hk hS1 => ?_)
  obtain ⟨rfl, hp⟩ := hq
  exact kk H1 locs1 hp hS1 hz hk
theorem cs_R1 {v : Value} (hc : Cx G p s m args c cc nL own) (hM : MetR l G y bytes maxL ret lev As H (some v)) (hT : GoodIn lw_all (va_wsS own index y (ws_ y bytes maxL ret)))
    (hd : y.cls ≠ "java/lang/invoke/MethodHandle" ∧ y.cls ≠ "java/lang/invoke/VarHandle" ∧ (parseMethodDescriptor y.desc).map (fun d => d.parameters.length) = some n) (hR : lev + 1 ≤ R.frames ∧ 8 + (maxL + 11) + 42 * lev ≤ R.locals)
    (hn : As.length = n) (hsz : ls.size = nL) (hst : st = As.reverse ++ rest) (hW8 : (rest.map fun v => v.category).sum ≤ 8) (hdg : decode cc pc = .ok (.invokestatic index, 3)) (hf : cells ≤ R.cells ∧ slots ≤ R.slots)
    (kk : W p l e R s m args below meth c H locs cells slots Q (F0 m (pc + 3) ls (v :: rest))) : W p l e R s m args below meth c H locs cells slots Q (F0 m pc ls st) := by
  obtain ⟨hx, hb, hml, hown, hts, hK⟩ := hc
  exact x_callR (va_runS (As := As) (rest := rest) ⟨hx, hb, hml, hown, hts⟩ hM (va_cwS n hts hT rfl rfl rfl hd hR) (sm_preS hK) rfl hn hsz hst (lv_room hW8) hdg hf) kk
theorem cs_W1 {v : Value} {P : Heap → Prop} (hc : Cx G p s m args c cc nL own) (hM : MetW l G y bytes maxL ret lev mc ms A1 As H (some v) P) (hT : GoodIn lw_all (va_wsS own index y (ws_ y bytes maxL ret)))
    (hd : y.cls ≠ "java/lang/invoke/MethodHandle" ∧ y.cls ≠ "java/lang/invoke/VarHandle" ∧ (parseMethodDescriptor y.desc).map (fun d => d.parameters.length) = some n) (hR : lev + 1 ≤ R.frames ∧ 8 + (maxL + 11) + 42 * lev ≤ R.locals)
    (hn : As.length = n) (hsz : ls.size = nL) (hst : st = As.reverse ++ rest) (hW8 : (rest.map fun v => v.category).sum ≤ 8) (hdg : decode cc pc = .ok (.invokestatic index, 3)) (hf : cells + mc ≤ R.cells ∧ slots + ms ≤ R.slots)
    (hS : va_S A0 H0 H locs) (hA : ∀ q, A1 q → A0 q)
    (kk : ∀ (H1 : Heap) (locs1 : List Loc), P H1 → va_S A0 H0 H1 locs1 → H.size ≤ H1.size → (∀ q : Nat, q < H.size → ¬ A1 q → H1[q]? = H[q]?) → W p l e R s m args below meth c H1 locs1 (cells + mc) (slots + ms) Q (F0 m (pc + 3) ls (v :: rest))) : W p l e R s m args below meth c H locs cells slots Q (F0 m pc ls st) := by
  obtain ⟨hx, hb, hml, hown, hts, hK⟩ := hc
  refine x_callW (va_runS (As := As) (rest := rest) ⟨hx, hb, hml, hown, hts⟩ hM (va_cwS n hts hT rfl rfl rfl hd hR) (sm_preS hK) rfl hn hsz hst (lv_room hW8) hdg hf) hS hA (fun v' H1 locs1 hq hz hk hS1 => ?_)
  obtain ⟨rfl, hp⟩ := hq
  exact kk H1 locs1 hp hS1 hz hk
theorem cs_R0 (hc : Cx G p s m args c cc nL own) (hM : MetR l G y bytes maxL ret lev As H none) (hT : GoodIn lw_all (va_wsS own index y (ws_ y bytes maxL ret)))
    (hd : y.cls ≠ "java/lang/invoke/MethodHandle" ∧ y.cls ≠ "java/lang/invoke/VarHandle" ∧ (parseMethodDescriptor y.desc).map (fun d => d.parameters.length) = some n) (hR : lev + 1 ≤ R.frames ∧ 8 + (maxL + 11) + 42 * lev ≤ R.locals)
    (hn : As.length = n) (hsz : ls.size = nL) (hst : st = As.reverse ++ rest) (hW8 : (rest.map fun v => v.category).sum ≤ 8) (hdg : decode cc pc = .ok (.invokestatic index, 3)) (hf : cells ≤ R.cells ∧ slots ≤ R.slots)
    (kk : W p l e R s m args below meth c H locs cells slots Q (F0 m (pc + 3) ls rest)) : W p l e R s m args below meth c H locs cells slots Q (F0 m pc ls st) := by
  obtain ⟨hx, hb, hml, hown, hts, hK⟩ := hc
  exact x_callR (va_runS (As := As) (rest := rest) ⟨hx, hb, hml, hown, hts⟩ hM (va_cwS n hts hT rfl rfl rfl hd hR) (sm_preS hK) rfl hn hsz hst (lv_room hW8) hdg hf) kk
theorem cs_W0 {P : Heap → Prop} (hc : Cx G p s m args c cc nL own) (hM : MetW l G y bytes maxL ret lev mc ms A1 As H none P) (hT : GoodIn lw_all (va_wsS own index y (ws_ y bytes maxL ret)))
    (hd : y.cls ≠ "java/lang/invoke/MethodHandle" ∧ y.cls ≠ "java/lang/invoke/VarHandle" ∧ (parseMethodDescriptor y.desc).map (fun d => d.parameters.length) = some n) (hR : lev + 1 ≤ R.frames ∧ 8 + (maxL + 11) + 42 * lev ≤ R.locals)
    (hn : As.length = n) (hsz : ls.size = nL) (hst : st = As.reverse ++ rest) (hW8 : (rest.map fun v => v.category).sum ≤ 8) (hdg : decode cc pc = .ok (.invokestatic index, 3)) (hf : cells + mc ≤ R.cells ∧ slots + ms ≤ R.slots)
    (hS : va_S A0 H0 H locs) (hA : ∀ q, A1 q → A0 q)
    (kk : ∀ (H1 : Heap) (locs1 : List Loc), P H1 → va_S A0 H0 H1 locs1 → H.size ≤ H1.size → (∀ q : Nat, q < H.size → ¬ A1 q → H1[q]? = H[q]?) → W p l e R s m args below meth c H1 locs1 (cells + mc) (slots + ms) Q (F0 m (pc + 3) ls rest)) : W p l e R s m args below meth c H locs cells slots Q (F0 m pc ls st) := by
  obtain ⟨hx, hb, hml, hown, hts, hK⟩ := hc
  refine x_callW (va_runS (As := As) (rest := rest) ⟨hx, hb, hml, hown, hts⟩ hM (va_cwS n hts hT rfl rfl rfl hd hR) (sm_preS hK) rfl hn hsz hst (lv_room hW8) hdg hf) hS hA (fun v' H1 locs1 hq hz hk hS1 => ?_)
  obtain ⟨rfl, hp⟩ := hq
  exact kk H1 locs1 hp hS1 hz hk
end SMC
/-! single cells -/
theorem P1 {D : va_G} {cl : List vw_C} {q : Nat × va_E} {H : Heap} (h : va_at D cl q H) : va_P D cl [q] H := by
  intro k x hk
  match k, hk with
  | 0, hk => cases hk; exact h
  | k + 1, hk => simp at hk
/-- an index, as a number, within -/
def IdxOk (i : Int32) (j n : Nat) : Prop := vp_in i n ∧ i.toNatClampNeg = j
theorem ix_nI {k n : Nat} (h : k < n) (hn : n < 2 ^ 31) : IdxOk (nI k) k n := ⟨vp_in_nI h hn, nI_clamp (Nat.lt_trans h hn)⟩
theorem ix_eq {i : Int32} {k n : Nat} (e : i = nI k) (h : k < n) (hn : n < 2 ^ 31) : IdxOk i k n := by
  subst e
  exact ix_nI h hn
theorem IdxOk.lt {i : Int32} {j n : Nat} (h : IdxOk i j n) : j < n := by
  have := h.1
  rw [← h.2]
  exact Nat.not_le.mp fun q => this (Or.inr q)
section SMS
variable {p : Program} {l : Launch} {e : Env} {R : Room} {s : State} {m : MethodId} {args : Array Value} {below : List Frame} {meth : Method} {c : Code} {H : Heap} {locs : List Loc} {cells slots : Nat} {Q : State → Prop}
variable {cc : ByteArray} {pc : Nat} {ls : Array Slot} {rest : List Value} {D : va_G} {cl : List vw_C} {a : Nat} {tys : List (ClassId × FieldType)}
/-- stores into one cell, with all that they leave -/
theorem s_put (hexec : p.tables.exec = Jvm.exec) (hb : c.code = cc) {own ref C : String} {T : u_T} {N ci index : Nat} {Ts : List Cond} (hts : ∀ w ∈ Ts, w.before args s = true) (hin : ∀ w ∈ u_ws C T N, w ∈ Ts) (ty0 : Nat → FieldType) (hty : ∀ k, k < N → parseFieldDescriptor (T k).2.2.1 = some (ty0 k)) (hnm : ∀ a, a < N → ∀ b, b < N → a ≠ b → (T a).2.1 ≠ (T b).2.1) (hown : s.vm.findClass own = some m.cls) (hK : va_K D cl tys s) {fs : List Value} (hat : va_at D cl (a, .inr (ci, fs)) H) (hc : cl[ci]? = some (C, T, N)) (k : Nat) (hk : k < N) (hlink : (Cond.fieldLink own index ref (T k).2.1 (T k).2.2.1).before args s = true) (hsame : ∀ x, s.fieldFound? (T k).1 (T k).2.1 (T k).2.2.1 = some x → s.fieldFound? ref (T k).2.1 (T k).2.2.1 = some x) (hfin : (T k).2.2.2 = false) {ty : FieldType} {v : Value} (hd : parseFieldDescriptor (T k).2.2.1 = some ty) (hn : narrow ty v = v) (hfit : fits ty v = true) (hl : k < fs.length)
    (hdg : decode cc pc = .ok (.putfield index, 3)) (kk : ∀ (H1 : Heap) (i : Nat), va_at D cl (a, .inr (ci, fs.set k v)) H1 → H1.size = H.size → (∀ q : Nat, q ≠ a → H1[q]? = H[q]?) → W p l e R s m args below meth c H1 (locs ++ [⟨a, i⟩]) cells slots Q (F0 m (pc + 3) ls rest)) : W p l e R s m args below meth c H locs cells slots Q (F0 m pc ls (v :: .ref a :: rest)) := by
  have hap := va_apart (own := own) hts hin ty0 hty hnm hK hc
  obtain ⟨r, h1, cell, q1, q2, q3, q4⟩ := hat
  have hr : r = (C, T, N) := Option.some.inj (h1.symm.trans hc)
  subst hr
  obtain ⟨hS, hfc, kC, hkC, hkind⟩ := hK.1 ci _ hc
  obtain ⟨cf, kf, fi, f, hi, hsl⟩ := hS k hk
  have hlay := hts _ (hin _ (u_in_lay hk))
  unfold u_lay at hlay
  rw [if_neg (by rw [hfin]; decide)] at hlay
  have hst := (u_facts hfc hkC (u_lays hts hin hk) hi).1
  have h6 := u_store hfc hkC hkind hlay hi hd hn hfit
  refine W.putK hexec hb (f := f) ⟨hown, hlink, ⟨_, _, _, hsame _ hi⟩, hst⟩ (by rw [q2]; exact h6) q1 q3 (by rw [hsl]; exact k2_hasslot (q4 k hk)) rfl rfl hdg fun H' e1 e2 e3 => ?_
  rw [hsl] at e1 ⊢
  exact kk H' _ ⟨_, hc, t_OB.to (V := updV (vp_V fs) k v) ⟨_, e1, q2, q3, t_set q4 hap hk v⟩ (fun j _ => vp_updV_set hl v j)⟩ e2 e3
theorem s_iast (hexec : p.tables.exec = Jvm.exec) (hb : c.code = cc) (hK : va_K D cl tys s) (t0 : Nat) {cA : ClassId} {n j : Nat} {f : Nat → Int32} (hat : va_at D cl (a, .inl (cA, n, .inl f)) H) (ht : tys[t0]? = some (cA, .int)) {i x : Int32} (hin : IdxOk i j n) (hdg : decode cc pc = .ok (.iastore, 1))
    (kk : ∀ H1 : Heap, va_at D cl (a, .inl (cA, n, .inl (upd f j x))) H1 → H1.size = H.size → (∀ q : Nat, q ≠ a → H1[q]? = H[q]?) → W p l e R s m args below meth c H1 (locs ++ [⟨a, j⟩]) cells slots Q (F0 m (pc + 1) ls rest)) : W p l e R s m args below meth c H locs cells slots Q (F0 m pc ls (.int x :: .int i :: .ref a :: rest)) := by
  obtain ⟨hin, rfl⟩ := hin
  refine W.iast hexec hb hat ((hK.2 t0 _ ht).1 n (fun j => .int (f j))) (fun q => by cases q) (by show ¬ (i < 0 ∨ (arrV _ _ _).slots.size ≤ _); rw [arrV_size]; exact hin) rfl rfl hdg fun H1 e z oq => ?_
  refine kk H1 ?_ z oq
  show H1[a]? = some (vp_cell _ _)
  rw [e]
  rw [vp_cell_i, vp_cell_i, arrV_store]
  congr 2
  funext q
  by_cases hq : q = i.toNatClampNeg
  · subst hq
    simp [updV, upd]
  · simp [updV, upd, hq]
theorem s_last (hexec : p.tables.exec = Jvm.exec) (hb : c.code = cc) (hK : va_K D cl tys s) (t0 : Nat) {cA : ClassId} {n j : Nat} {f : Nat → Int64} (hat : va_at D cl (a, .inl (cA, n, .inr (.inl f))) H) (ht : tys[t0]? = some (cA, .long)) {i : Int32} {x : Int64} (hin : IdxOk i j n) (hdg : decode cc pc = .ok (.lastore, 1))
    (kk : ∀ H1 : Heap, va_at D cl (a, .inl (cA, n, .inr (.inl (vp_updL f j x)))) H1 → H1.size = H.size → (∀ q : Nat, q ≠ a → H1[q]? = H[q]?) → W p l e R s m args below meth c H1 (locs ++ [⟨a, j⟩]) cells slots Q (F0 m (pc + 1) ls rest)) : W p l e R s m args below meth c H locs cells slots Q (F0 m pc ls (.long x :: .int i :: .ref a :: rest)) := by
  obtain ⟨hin, rfl⟩ := hin
  refine W.last hexec hb hat ((hK.2 t0 _ ht).1 n (fun j => .long (f j))) (fun q => by cases q) (by show ¬ (i < 0 ∨ (arrV _ _ _).slots.size ≤ _); rw [arrV_size]; exact hin) rfl rfl hdg fun H1 e z oq => ?_
  refine kk H1 ?_ z oq
  show H1[a]? = some (vp_cell _ _)
  rw [e]
  rw [vp_cell_l, vp_cell_l, arrV_store]
  congr 2
  funext q
  by_cases hq : q = i.toNatClampNeg
  · subst hq
    simp [updV, vp_updL]
  · simp [updV, vp_updL, hq]
end SMS
/-! a world: cells by their roles, apart, in A; what was there at the law's start is as it was -/
def Wd {ρ : Type} (G : GD) (A : Nat → Prop) (ct : ρ → Option va_E) (ad : ρ → Nat) (H : Heap) : Prop :=
  (∀ q, A q → G.2.2.heap.size ≤ q) ∧ (∀ q, q < G.2.2.heap.size → H[q]? = G.2.2.heap[q]?) ∧ (∀ r r', ct r ≠ none → ct r' ≠ none → ad r = ad r' → r = r') ∧ ∀ r e, ct r = some e → A (ad r) ∧ va_at G.1 vwCl (ad r, e) H
theorem Wd.at {ρ : Type} {G : GD} {A : Nat → Prop} {ct : ρ → Option va_E} {ad : ρ → Nat} {H : Heap} (h : Wd G A ct ad H) {r : ρ} {e : va_E} (he : ct r = some e) : va_at G.1 vwCl (ad r, e) H := (h.2.2.2 r e he).2
theorem Wd.mem {ρ : Type} {G : GD} {A : Nat → Prop} {ct : ρ → Option va_E} {ad : ρ → Nat} {H : Heap} (h : Wd G A ct ad H) {r : ρ} {e : va_E} (he : ct r = some e) : A (ad r) := (h.2.2.2 r e he).1
theorem Wd.wr {ρ : Type} {G : GD} {A : Nat → Prop} {ct ct' : ρ → Option va_E} {ad : ρ → Nat} {H H1 : Heap} (h : Wd G A ct ad H) {r0 : ρ} {e0 e1 : va_E} (h0 : ct r0 = some e0) (h1 : ct' r0 = some e1) (hn : ∀ r, r ≠ r0 → ct' r = ct r) (ha : va_at G.1 vwCl (ad r0, e1) H1) (oq : ∀ q : Nat, q ≠ ad r0 → H1[q]? = H[q]?) : Wd G A ct' ad H1 := by
  have hin : ∀ r, ct' r ≠ none → ct r ≠ none := by
    intro r hr
    by_cases q : r = r0
    · rw [q, h0]; exact fun h => by cases h
    · rw [← hn r q]; exact hr
  refine ⟨h.1, fun q hq => ?_, fun r r' hr hr' e => h.2.2.1 r r' (hin r hr) (hin r' hr') e, fun r e he => ?_⟩
  · rw [oq q (fun e => by have := h.1 _ (h.mem h0); rw [← e] at this; omega)]
    exact h.2.1 q hq
  · by_cases q : r = r0
    · subst q
      rw [h1] at he
      cases he
      exact ⟨h.mem h0, ha⟩
    · rw [hn r q] at he
      refine ⟨h.mem he, (h.at he).kept (oq _ fun e2 => q (h.2.2.1 r r0 (by rw [he]; exact fun h => by cases h) (by rw [h0]; exact fun h => by cases h) e2))⟩
/-- the same world where what it holds is as it was -/
theorem Wd.kept {ρ : Type} {G : GD} {A : Nat → Prop} {ct : ρ → Option va_E} {ad : ρ → Nat} {H H1 : Heap} (h : Wd G A ct ad H) (hk : ∀ q : Nat, q < G.2.2.heap.size → H1[q]? = H[q]?) (hc : ∀ r, ct r ≠ none → H1[ad r]? = H[ad r]?) : Wd G A ct ad H1 :=
  ⟨h.1, fun q hq => (hk q hq).trans (h.2.1 q hq), h.2.2.1, fun r e he => ⟨h.mem he, (h.at he).kept (hc r (by rw [he]; exact fun h => by cases h))⟩⟩
def up2 (f : Nat → Nat → Int32) (k j : Nat) (x : Int32) : Nat → Nat → Int32 := fun a b => if a = k ∧ b = j then x else f a b
def up2L (f : Nat → Nat → Int64) (k j : Nat) (x : Int64) : Nat → Nat → Int64 := fun a b => if a = k ∧ b = j then x else f a b
theorem up2_row {f : Nat → Nat → Int32} {k j : Nat} {x : Int32} : up2 f k j x k = upd (f k) j x := by
  funext b
  by_cases h : b = j <;> simp [up2, upd, h]
theorem up2_ne {f : Nat → Nat → Int32} {k j r : Nat} {x : Int32} (h : r ≠ k) : up2 f k j x r = f r := by
  funext b
  simp [up2, h]
theorem up2_at {f : Nat → Nat → Int32} {k j : Nat} {x : Int32} : up2 f k j x k j = x := by simp [up2]
theorem up2_ne2 {f : Nat → Nat → Int32} {k j b : Nat} {x : Int32} (h : b ≠ j) : up2 f k j x k b = f k b := by simp [up2, h]
theorem up2L_row {f : Nat → Nat → Int64} {k j : Nat} {x : Int64} : up2L f k j x k = vp_updL (f k) j x := by
  funext b
  by_cases h : b = j <;> simp [up2L, vp_updL, h]
theorem up2L_ne {f : Nat → Nat → Int64} {k j r : Nat} {x : Int64} (h : r ≠ k) : up2L f k j x r = f r := by
  funext b
  simp [up2L, h]
/-! small rows: names for values, ends, joins, loops -/
def b2i (P : Prop) [Decidable P] : Int32 := if P then 1 else 0
theorem b2i_t {P : Prop} [Decidable P] (h : P) : b2i P = 1 := if_pos h
theorem b2i_f {P : Prop} [Decidable P] (h : ¬ P) : b2i P = 0 := if_neg h
theorem b2i_0 {P : Prop} [Decidable P] : b2i P = 0 ↔ ¬ P := by
  unfold b2i
  split <;> simp_all
theorem b2i_1 {P : Prop} [Decidable P] : b2i P = 1 ↔ P := by
  unfold b2i
  split <;> simp_all
theorem b2i_nar {P : Prop} [Decidable P] : narrow .boolean (.int (b2i P)) = .int (b2i P) := by
  unfold b2i
  split <;> rfl
theorem b2i_fit {P : Prop} [Decidable P] : fits .boolean (.int (b2i P)) = true := by
  unfold b2i
  split <;> rfl
theorem lc_lt {x y : Int64} : lg_cmp x y < 0 ↔ x < y := by
  unfold lg_cmp
  split
  · rename_i h
    constructor
    · intro h2; exact absurd h2 (by decide)
    · intro h2; exact absurd (Int64.lt_trans h h2) (Int64.lt_irrefl)
  · split
    · rename_i h1 h2
      subst h2
      constructor
      · intro h2; exact absurd h2 (by decide)
      · intro h2; exact absurd h2 h1
    · rename_i h1 h2
      constructor
      · intro _
        rcases Int64.lt_or_eq_of_le (Int64.not_lt.mp h1) with h | h
        · exact h
        · exact absurd h h2
      · intro _; decide
theorem lc_gt {x y : Int64} : 0 < lg_cmp x y ↔ y < x := by
  unfold lg_cmp
  split
  · rename_i h
    exact ⟨fun _ => h, fun _ => by decide⟩
  · rename_i h
    refine ⟨fun h2 => ?_, fun h2 => absurd h2 h⟩
    split at h2 <;> exact absurd h2 (by decide)
theorem lc_eq {x y : Int64} : lg_cmp x y = 0 ↔ x = y := by
  unfold lg_cmp
  split
  · rename_i h
    refine ⟨fun h2 => absurd h2 (by decide), fun h2 => ?_⟩
    subst h2
    exact absurd h Int64.lt_irrefl
  · split
    · rename_i h1 h2
      exact ⟨fun _ => h2, fun _ => rfl⟩
    · rename_i h1 h2
      exact ⟨fun h => absurd h (by decide), fun h => absurd h h2⟩
section SMT
variable {p : Program} {l : Launch} {e : Env} {R : Room} {s : State} {m : MethodId} {args : Array Value} {below : List Frame} {meth : Method} {c : Code} {H H0 : Heap} {locs : List Loc} {cells slots : Nat} {Q : State → Prop}
variable {cc : ByteArray} {pc : Nat} {ls : Array Slot} {rest st : List Value} {A : Nat → Prop}
theorem sm_topi {x v : Int32} (h : x = v) (k : W p l e R s m args below meth c H locs cells slots Q (F0 m pc ls (.int v :: rest))) : W p l e R s m args below meth c H locs cells slots Q (F0 m pc ls (.int x :: rest)) := by
  subst h
  exact k
theorem sm_topl {x v : Int64} (h : x = v) (k : W p l e R s m args below meth c H locs cells slots Q (F0 m pc ls (.long v :: rest))) : W p l e R s m args below meth c H locs cells slots Q (F0 m pc ls (.long x :: rest)) := by
  subst h
  exact k
theorem bi_eq (hexec : p.tables.exec = Jvm.exec) (hb : c.code = cc) {P : Prop} [Decidable P] {off : Int} {tgt : Nat} (hdg : decode cc pc = .ok (.ifCond .eq off, 3)) (ht : (pc : Int) + off = (tgt : Int))
    (kt : ¬ P → W p l e R s m args below meth c H locs cells slots Q (F0 m tgt ls rest)) (kf : P → W p l e R s m args below meth c H locs cells slots Q (F0 m (pc + 3) ls rest)) : W p l e R s m args below meth c H locs cells slots Q (F0 m pc ls (.int (b2i P) :: rest)) :=
  lv_if_eq hexec hb hdg ht (fun h => kt (b2i_0.mp h)) (fun h => kf (Classical.byContradiction fun q => h (b2i_0.mpr q)))
theorem bi_ne (hexec : p.tables.exec = Jvm.exec) (hb : c.code = cc) {P : Prop} [Decidable P] {off : Int} {tgt : Nat} (hdg : decode cc pc = .ok (.ifCond .ne off, 3)) (ht : (pc : Int) + off = (tgt : Int))
    (kt : P → W p l e R s m args below meth c H locs cells slots Q (F0 m tgt ls rest)) (kf : ¬ P → W p l e R s m args below meth c H locs cells slots Q (F0 m (pc + 3) ls rest)) : W p l e R s m args below meth c H locs cells slots Q (F0 m pc ls (.int (b2i P) :: rest)) :=
  lv_if_ne hexec hb hdg ht (fun h => kt (Classical.byContradiction fun q => h (b2i_0.mpr q))) (fun h => kf (b2i_0.mp h))
/-- ends of a method that changes nothing -/
theorem ri_R (hexec : p.tables.exec = Jvm.exec) (hb : c.code = cc) (hr : meth.sig.returnType = some .int) (hlk : meth.locks = false) {x v : Int32} (he : x = v) (hdg : decode cc pc = .ok (.ireturn, 1)) : W p l e R s m args below meth c s.heap [] cells slots (MQ below (QcR (some (.int v))) args s cells slots A) (F0 m pc ls [.int x]) := by
  subst he
  exact W.iret hexec hb hr (fun t ht _ => ⟨rfl, ht⟩) (fun _ h => by cases h) hdg hlk
theorem rz_R (hexec : p.tables.exec = Jvm.exec) (hb : c.code = cc) (hr : meth.sig.returnType = some .boolean) (hlk : meth.locks = false) {x : Int32} {P : Prop} [Decidable P] (he : x = b2i P) (hdg : decode cc pc = .ok (.ireturn, 1)) : W p l e R s m args below meth c s.heap [] cells slots (MQ below (QcR (some (.int (b2i P)))) args s cells slots A) (F0 m pc ls [.int x]) := by
  subst he
  exact W.zret hexec hb hr b2i_nar (fun t ht _ => ⟨rfl, ht⟩) (fun _ h => by cases h) hdg hlk
theorem rl_R (hexec : p.tables.exec = Jvm.exec) (hb : c.code = cc) (hr : meth.sig.returnType = some .long) (hlk : meth.locks = false) {x v : Int64} (he : x = v) (hdg : decode cc pc = .ok (.lreturn, 1)) : W p l e R s m args below meth c s.heap [] cells slots (MQ below (QcR (some (.long v))) args s cells slots A) (F0 m pc ls [.long x]) := by
  subst he
  exact W.lret hexec hb hr (fun t ht _ => ⟨rfl, ht⟩) (fun _ h => by cases h) hdg hlk
theorem rv_R (hexec : p.tables.exec = Jvm.exec) (hb : c.code = cc) (hr : meth.sig.returnType = none) (hlk : meth.locks = false) (hdg : decode cc pc = .ok (.return_, 1)) : W p l e R s m args below meth c s.heap [] cells slots (MQ below (QcR none) args s cells slots A) (F0 m pc ls []) :=
  W.vret hexec hb hr (fun t ht _ => ⟨rfl, ht⟩) (fun _ h => by cases h) hdg hlk
/-- ends of a method that may change A's cells -/
theorem ri_W (hexec : p.tables.exec = Jvm.exec) (hb : c.code = cc) (hr : meth.sig.returnType = some .int) (hlk : meth.locks = false) {P : Heap → Prop} {x v : Int32} (hS : va_S A s.heap H locs) (he : x = v) (hq : P H) (hdg : decode cc pc = .ok (.ireturn, 1)) : W p l e R s m args below meth c H locs cells slots (MQ below (QcW A (fun v' H => v' = some (.int v) ∧ P H)) args s cells slots A) (F0 m pc ls [.int x]) := by
  subst he
  exact W.iret hexec hb hr (fun t ht _ => ⟨⟨_, rfl, rfl, by rw [ht]; exact hq⟩, hS.F ht⟩) hS.2.2 hdg hlk
theorem rz_W (hexec : p.tables.exec = Jvm.exec) (hb : c.code = cc) (hr : meth.sig.returnType = some .boolean) (hlk : meth.locks = false) {P : Heap → Prop} {x : Int32} {B : Prop} [Decidable B] (hS : va_S A s.heap H locs) (he : x = b2i B) (hq : P H) (hdg : decode cc pc = .ok (.ireturn, 1)) : W p l e R s m args below meth c H locs cells slots (MQ below (QcW A (fun v' H => v' = some (.int (b2i B)) ∧ P H)) args s cells slots A) (F0 m pc ls [.int x]) := by
  subst he
  exact W.zret hexec hb hr b2i_nar (fun t ht _ => ⟨⟨_, rfl, rfl, by rw [ht]; exact hq⟩, hS.F ht⟩) hS.2.2 hdg hlk
theorem rl_W (hexec : p.tables.exec = Jvm.exec) (hb : c.code = cc) (hr : meth.sig.returnType = some .long) (hlk : meth.locks = false) {P : Heap → Prop} {x v : Int64} (hS : va_S A s.heap H locs) (he : x = v) (hq : P H) (hdg : decode cc pc = .ok (.lreturn, 1)) : W p l e R s m args below meth c H locs cells slots (MQ below (QcW A (fun v' H => v' = some (.long v) ∧ P H)) args s cells slots A) (F0 m pc ls [.long x]) := by
  subst he
  exact W.lret hexec hb hr (fun t ht _ => ⟨⟨_, rfl, rfl, by rw [ht]; exact hq⟩, hS.F ht⟩) hS.2.2 hdg hlk
theorem rv_W (hexec : p.tables.exec = Jvm.exec) (hb : c.code = cc) (hr : meth.sig.returnType = none) (hlk : meth.locks = false) {P : Heap → Prop} (hS : va_S A s.heap H locs) (hq : P H) (hdg : decode cc pc = .ok (.return_, 1)) : W p l e R s m args below meth c H locs cells slots (MQ below (QcW A (fun v' H => v' = none ∧ P H)) args s cells slots A) (F0 m pc ls []) :=
  W.vret hexec hb hr (fun t ht _ => ⟨⟨_, rfl, rfl, by rw [ht]; exact hq⟩, hS.F ht⟩) hS.2.2 hdg hlk
/-- two ways meet at pcJ with a number on the stack -/
theorem w_join (P : Int32 → Prop) (pcJ : Nat) (rest : List Value) (h : ∀ y : Int32, P y → W p l e R s m args below meth c H locs cells slots Q (F0 m pcJ ls (.int y :: rest)))
    (k : (∀ y : Int32, P y → W p l e R s m args below meth c H locs cells slots Q (F0 m pcJ ls (.int y :: rest))) → W p l e R s m args below meth c H locs cells slots Q (F0 m pc ls st)) : W p l e R s m args below meth c H locs cells slots Q (F0 m pc ls st) := k h
/-- a loop that leaves the heap alone -/
theorem w_loop {σ : Type} (I : σ → JFrame → Prop) (μ : σ → Nat) (x0 : σ) {g0 : JFrame} (h0 : I x0 g0) (step : ∀ (x : σ) (g : JFrame), I x g → (∀ (y : σ) (g' : JFrame), I y g' → μ y < μ x → W p l e R s m args below meth c H locs cells slots Q g') → W p l e R s m args below meth c H locs cells slots Q g) : W p l e R s m args below meth c H locs cells slots Q g0 := by
  have key : ∀ (n : Nat) (x : σ) (g : JFrame), μ x < n → I x g → W p l e R s m args below meth c H locs cells slots Q g := by
    intro n
    induction n with
    | zero => intro x g h; exact absurd h (Nat.not_lt_zero _)
    | succ n ih => intro x g h hI; exact step x g hI (fun y g' hy hm => ih y g' (by omega) hy)
  exact key (μ x0 + 1) x0 g0 (Nat.lt_succ_self _) h0
/-- a loop that changes cells -/
theorem w_loopH {σ : Type} (I : σ → Heap → List Loc → Nat → Nat → JFrame → Prop) (μ : σ → Nat) (x0 : σ) {g0 : JFrame} (h0 : I x0 H locs cells slots g0) (step : ∀ (x : σ) (H : Heap) (locs : List Loc) (cells slots : Nat) (g : JFrame), I x H locs cells slots g → (∀ (y : σ) (H' : Heap) (locs' : List Loc) (cells' slots' : Nat) (g' : JFrame), I y H' locs' cells' slots' g' → μ y < μ x → W p l e R s m args below meth c H' locs' cells' slots' Q g') → W p l e R s m args below meth c H locs cells slots Q g) : W p l e R s m args below meth c H locs cells slots Q g0 := by
  have key : ∀ (n : Nat) (x : σ) (H : Heap) (locs : List Loc) (cells slots : Nat) (g : JFrame), μ x < n → I x H locs cells slots g → W p l e R s m args below meth c H locs cells slots Q g := by
    intro n
    induction n with
    | zero => intro x _ _ _ _ g h; exact absurd h (Nat.not_lt_zero _)
    | succ n ih => intro x H locs cells slots g h hI; exact step x H locs cells slots g hI (fun y H' locs' c' s' g' hy hm => ih y H' locs' c' s' g' (by omega) hy)
  exact key (μ x0 + 1) x0 H locs cells slots g0 (Nat.lt_succ_self _) h0
end SMT
theorem i64_le {a b : Int32} : a.toInt64 ≤ b.toInt64 ↔ a ≤ b := by
  rw [Int64.le_iff_toInt_le, Int32.le_iff_toInt_le, Int32.toInt_toInt64, Int32.toInt_toInt64]
theorem i64_lt {a b : Int32} : a.toInt64 < b.toInt64 ↔ a < b := by
  rw [Int64.lt_iff_toInt_lt, Int32.lt_iff_toInt_lt, Int32.toInt_toInt64, Int32.toInt_toInt64]
theorem i64_eq {a b : Int32} : a.toInt64 = b.toInt64 ↔ a = b := by
  constructor
  · intro h
    have := congrArg Int64.toInt h
    rw [Int32.toInt_toInt64, Int32.toInt_toInt64] at this
    exact Int32.toInt_inj.mp this
  · intro h; rw [h]
theorem b2i_congr {P Q : Prop} [Decidable P] [Decidable Q] (h : P ↔ Q) : b2i P = b2i Q := by
  unfold b2i
  by_cases q : Q
  · rw [if_pos q, if_pos (h.mpr q)]
  · rw [if_neg q, if_neg (fun p => q (h.mp p))]
