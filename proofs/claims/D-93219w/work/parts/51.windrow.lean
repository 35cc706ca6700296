/-! the wind's default method, walked inside its caller's walk: entering a frame asks nothing of its class -/
set_option maxRecDepth 100000
section WND
set_option maxHeartbeats 4000000 in
theorem wd_in {p : Program} {e : Env} {s : State} {g : JFrame} {c : Code} {below : List Frame} {target : State} (h : At s g.method c below) (hexec : p.tables.exec = Jvm.exec) {m : MethodId} {meth : Method} {code : Code} {b : Nat} {w f t : Int32} {ig : Instr} {len : Nat} (acts : List Action)
    (hm : s.vm.method? m = some meth) (hc : meth.code = some code) (hl : meth.locks = false) (hp : s.plainMethod m) (hret : meth.sig.returnType = some .int) (hcode : code.code = cX13_wind) (hlocals : code.maxLocals = 4)
    (hroom : e.platform.stackFull (((s.setTop g).threads[(s.setTop g).cur]?).getD { frames := [] }) (s.setTop g).frames code.maxLocals = false)
    (hdg : decode c.code g.pc = .ok (ig, len))
    (hrest : Steps p.tables e below (s.setTop { g with pc := g.pc + len, stack := .int (wdC w f t) :: g.stack }) target) :
    Steps p.tables e below (doInvoke e (s.setTop g) acts m #[.ref b, .int w, .int f, .int t]).1 target := by
  rw [doInvoke_enter h.top acts hm hc hl hroom]
  have hA : At ((s.setTop g).pushFrame (.java (entryFrame m #[.ref b, .int w, .int f, .int t] code.maxLocals))) m code below := h.enter _ hm hc hp
  have hfr := frames_entered (g := g) h.top (.java (entryFrame m #[.ref b, .int w, .int f, .int t] code.maxLocals))
  have hback : ((s.setTop g).pushFrame (.java (entryFrame m #[.ref b, .int w, .int f, .int t] code.maxLocals))).setFrames (.java g :: s.frames.tail) = s.setTop g := setFrames_entered (g := g) h.top _
  have hvm : ((s.setTop g).pushFrame (.java (entryFrame m #[.ref b, .int w, .int f, .int t] code.maxLocals))).vm = s.vm := rfl
  have hcg0 : ((s.setTop g).pushFrame (.java (entryFrame m #[.ref b, .int w, .int f, .int t] code.maxLocals))).code? g.method = some c := by
    have := h.code
    rw [State.code?_eq] at this ⊢
    simpa [State.pushFrame, State.setFrames] using this
  generalize (s.setTop g).pushFrame (.java (entryFrame m #[.ref b, .int w, .int f, .int t] code.maxLocals)) = u at hA hfr hback hvm hcg0 ⊢
  have hm' : u.vm.method? m = some meth := by rw [hvm]; exact hm
  have hloc : argsToLocals #[.ref b, .int w, .int f, .int t] 4 = #[.val (.ref b), .val (.int w), .val (.int f), .val (.int t)] := rfl
  unfold entryFrame
  rw [hlocals, hloc]
  have hend : ∀ (ls : Array Slot) (v : Int32), v = wdC w f t → Steps p.tables e below (u.setTop { method := m, pc := 29, locals := ls, stack := [.int v], locked := none }) target := by
    intro ls v hv
    subst hv
    jvm_step hA [hexec, hcode, dX13_wind_29, hm', hret, narrow]
    intro acts'
    rw [doReturn_leave (g := g) (meth := meth) (cg := c) (ig := ig) (len := len) acts' hfr hm' hl rfl rfl hcg0 hdg, hback, State.setTop_setTop]
    simpa using hrest
  jvm_step hA [hexec, hcode, dX13_wind_0]
  jvm_step hA [hexec, hcode, dX13_wind_1]
  by_cases c1 : f = t
  · jvm_step hA [hexec, hcode, dX13_wind_2, Op.if_icmp.holds, c1]
    jvm_step hA [hexec, hcode, dX13_wind_5]
    jvm_step hA [hexec, hcode, dX13_wind_6]
    exact hend _ _ (by rw [wdC, if_pos c1])
  · jvm_step hA [hexec, hcode, dX13_wind_2, Op.if_icmp.holds, c1]
    jvm_step hA [hexec, hcode, dX13_wind_9]
    jvm_step hA [hexec, hcode, dX13_wind_10]
    jvm_step hA [hexec, hcode, dX13_wind_11]
    jvm_step hA [hexec, hcode, dX13_wind_12]
    jvm_step hA [hexec, hcode, dX13_wind_13]
    jvm_step hA [hexec, hcode, dX13_wind_14]
    by_cases c2 : remP (f + 2) 4 = t
    · have c3 : f + 2 - (f + 2) / 4 * 4 = t := c2
      jvm_step hA [hexec, hcode, dX13_wind_15, Op.if_icmp.holds, c3]
      jvm_step hA [hexec, hcode, dX13_wind_18]
      jvm_step hA [hexec, hcode, dX13_wind_19]
      jvm_step hA [hexec, hcode, dX13_wind_20]
      jvm_step hA [hexec, hcode, dX13_wind_21]
      jvm_step hA [hexec, hcode, dX13_wind_22]
      exact hend _ _ (by rw [wdC, if_neg c1, if_pos c2])
    · have c3 : ¬ f + 2 - (f + 2) / 4 * 4 = t := c2
      jvm_step hA [hexec, hcode, dX13_wind_15, Op.if_icmp.holds, c3]
      jvm_step hA [hexec, hcode, dX13_wind_25]
      jvm_step hA [hexec, hcode, dX13_wind_26]
      jvm_step hA [hexec, hcode, dX13_wind_27]
      jvm_step hA [hexec, hcode, dX13_wind_28]
      exact hend _ _ (by rw [wdC, if_neg c1, if_neg c2])
variable {p : Program} {l : Launch} {e : Env} {R : Room} {s : State} {m : MethodId} {args : Array Value} {below : List Frame} {meth : Method} {c : Code} {H : Heap} {locs : List Loc} {cells slots : Nat} {Q : State → Prop}
variable {pc nL index : Nat} {ls : Array Slot} {rest : List Value} {G : GD} {cc : ByteArray} {own C : String} {x : MethodName} {b : Nat} {w f t : Int32}
theorem wd_step (hc : Cx G p s m args c cc nL own) (hlink : (Cond.methodLink own index x).before args s = true) (hsame : (Cond.sameMethod x.cls yX13_wind.cls x.name x.desc).before args s = true) (hland : LandF C yX13_wind s)
    (hy : yX13_wind = ⟨yX13_wind.cls, x.name, x.desc⟩) (hR : 1 ≤ R.frames ∧ (rest.map fun v => v.category).sum + 15 ≤ R.locals)
    (hr : ∃ cell : Cell, H[b]? = some cell ∧ cell.vm.isStatics = false ∧ s.vm.findClass C = some cell.cls) (hsz : ls.size = nL) (hdg : decode cc pc = .ok (.invokevirtual index, 3))
    (kk : W p l e R s m args below meth c H locs cells slots Q (F0 m (pc + 3) ls (.int (wdC w f t) :: rest))) : W p l e R s m args below meth c H locs cells slots Q (F0 m pc ls (.int t :: .int f :: .int w :: .ref b :: rest)) := by
  obtain ⟨hx, hb, hml, hown, hts, hK⟩ := hc
  obtain ⟨cellB, hcB, hoB, hclB⟩ := hr
  intro T hT X
  obtain ⟨mk, methM, hnamed, hmethM, hstM, habM⟩ := Cond.instanceMethod_spec (hts _ q507)
  obtain ⟨methM', cM, hmethM', hcM, hbM, hlM, hretM, hlkM, -, hsigM⟩ := Cond.code_spec hnamed (hts _ q509)
  cases hmethM.symm.trans hmethM'
  have hd := nd_X13_wind.2
  have hlen : [Value.int w, Value.int f, Value.int t].length = methM.sig.parameters.length := by
    have h7 := hd.2.2
    rw [show parseMethodDescriptor yX13_wind.desc = some methM.sig from hsigM] at h7
    exact (Option.some.inj h7).symm
  have hpl : e.platform.magicAccessors = ({} : Platform).magicAccessors := by rw [X.admits.platform]
  obtain ⟨cn, ck, r1, hcn, hck, hni, hfd, hn1⟩ := Cond.sameMethod_found hsame
  have er : r1 = mk := Option.some.inj (hn1.symm.trans (by rw [← hy]; exact hnamed))
  subst er
  obtain ⟨hsel, ⟨kI, hkI, hitf⟩, hdf⟩ := hland _ _ _ hclB hnamed hmethM
  obtain ⟨ci, hl, hright⟩ := Cond.methodLink_specUp hown hcn hck hni hfd hlink e.platform hpl (by rw [X.admits.platform])
  have hE : s.MethodEntryUp e T.vm m.cls index cn r1 ci := State.methodEntryUp X.warmed hl hright
  obtain ⟨kr, hkr, hnr⟩ := className_of_methodNamed hnamed
  cases hkI.symm.trans hkr
  obtain ⟨dk, cfile, nt, _, _, _, _, _, hdd, hcf, hcp, -⟩ := hl.here
  have al := hE.warmed.alike
  obtain ⟨dk₂, hdk₂, hres⟩ := hE.classReady
  obtain ⟨dk₃, hdk₃, hed⟩ := al.2.2 _ _ hdd
  cases hdk₂.symm.trans hdk₃
  obtain ⟨kI2, hkI2, heI⟩ := al.2.2 _ _ hkI
  obtain ⟨ck2, hck2, hec⟩ := al.2.2 _ _ hck
  have X₁ := X.noted hE.warmed
  have hstep : ∀ target, (∀ acts, Steps p.tables e below (doInvoke e ((T.setVm (T.vm.calledUp m.cls ci index cn r1)).setTop (F0 m pc ls rest)) acts r1 #[.ref b, .int w, .int f, .int t]).1 target) → Steps p.tables e below (T.setTop (F0 m pc ls (.int t :: .int f :: .int w :: .ref b :: rest))) target := by
    intro target hrest
    have h : At T (F0 m pc ls (.int t :: .int f :: .int w :: .ref b :: rest)).method c below := X.here
    have hdg2 : decode c.code (F0 m pc ls (.int t :: .int f :: .int w :: .ref b :: rest)).pc = .ok (.invokevirtual index, 3) := by rw [hb]; exact hdg
    jvm_step h [hx, hdg2, Op.invokevirtual.wp_coldUp (e := e) (s := T) (s₀ := s) (f := F0 m pc ls (.int t :: .int f :: .int w :: .ref b :: rest)) X.here.top X.warmed hE hdd hcf (Or.inl hcp) hck hni,
      wp_df (e := e) (s := T.setVm (T.vm.calledUp m.cls ci index cn r1)) (f := F0 m pc ls (.int t :: .int f :: .int w :: .ref b :: rest)) (r := r1) (c' := cn) (k' := ck2) (mk := kI2) (rmeth := methM) (a := b) (args := [.int w, .int f, .int t]) (rest := rest) (cell := cellB)
        X.here.top ⟨dk₂, cfile, ci, nt, hdk₂, by rw [hed]; exact hcf, Or.inl hcp, dk₂, hdk₂, hres⟩ hck2 (by rw [hec]; exact hni) hE.ready
        (by show (T.vm.calledUp m.cls ci index cn r1).method? r1 = some methM; rw [al.method?]; exact hmethM) hkI2
        (by rw [heI]; show signaturePolymorphic kI methM = false; simp [signaturePolymorphic, hnr, hd.1, hd.2.1]) hstM habM (by rw [heI]; exact hitf) hlen rfl (by show T.heap[b]? = _; rw [hT]; exact hcB) (fun z hz => by rw [hz] at hoB; cases hoB)
        (by show selectMethod e.platform (T.vm.calledUp m.cls ci index cn r1) cellB.cls r1 = .method r1; rw [al.selectMethod, Launch.admits_selectMethod X.admits]; exact hsel) (hdf.alike al)]
    exact hrest
  obtain ⟨t2, a1, b1⟩ := kk (T.setVm (T.vm.calledUp m.cls ci index cn r1)) hT X₁
  refine ⟨t2, hstep _ fun acts => ?_, b1⟩
  exact wd_in (g := F0 m pc ls rest) X₁.here hx acts (show (T.vm.calledUp m.cls ci index cn r1).method? r1 = some methM by rw [al.method?]; exact hmethM) hcM hlkM (X₁.warmed.plainAt fun k hk => by rw [Option.some.inj (hk.symm.trans hkr), hnr]; decide) hretM hbM hlM
    (X₁.notFull (g := F0 m pc ls rest) (vars := cM.maxLocals) (hsz.trans hml.symm) hR.1 (by rw [hlM]; show 2 * 0 + (rest.map fun v => v.category).sum + (4 + 11) ≤ _; omega)) (by rw [hb]; exact hdg) a1
end WND
