/-! rows for throwing: contracts of methods that throw, calls of them, catching -/
set_option maxRecDepth 100000
/-- it threw; the tables are warmer; all else is as the frame says -/
def EndT (first : State) (o : Outcome) (t : State) (L : List Loc) (k n : Nat) : Prop := (∃ x, o = .threw x) ∧ first.WarmedH t.vm ∧ first.sameButNew ({ t with vm := first.vm } : State) L k n
/-- a contract of a method that throws -/
def MetT (l : Launch) (y : MethodName) (ws : List Cond) (rm : Room) (Pc : Array Value → State → Prop) (Qc : Array Value → State → Outcome → State → Prop) (mc ms : Nat) (free : Addr → Prop) : Prop :=
  MetFree l y (headSpec ws rm) Pc (fun _ _ _ _ _ => True) (fun a st o t => Qc a st o t ∧ ∃ L, EndT st o t L mc ms ∧ ∀ q ∈ L, free q.base)
def MQT (below : List Frame) (Qc : Array Value → State → Outcome → State → Prop) (a : Array Value) (s : State) (mc ms : Nat) (free : Addr → Prop) : State → Prop := fun t =>
  ∃ o, t.status = .running ∧ Ended t below o ∧ Qc a s o t ∧ ∃ L, EndT s o t L mc ms ∧ ∀ q ∈ L, free q.base
/-- a walk that stands at g, x thrown over it -/
def WT (p : Program) (l : Launch) (e : Env) (R : Room) (s : State) (m : MethodId) (args : Array Value) (below : List Frame) (meth : Method) (c : Code) (H : Heap) (locs : List Loc) (cells slots : Nat) (Q : State → Prop) (g : JFrame) (x : Addr) : Prop :=
  ∀ T : State, T.heap = H → Stand p l e R s m args below meth c T locs cells slots → ∃ t, Steps p.tables e below ((T.setTop g).pushFrame (.throwing x)) t ∧ Q t
section THR
variable {p : Program} {l : Launch} {e : Env} {R : Room} {s : State} {m : MethodId} {args : Array Value} {below : List Frame} {meth : Method} {c : Code} {H : Heap} {locs : List Loc} {cells slots : Nat} {Q : State → Prop}
variable {pc : Nat} {ls : Array Slot} {rest st : List Value} {cc : ByteArray} {x : Addr} {Qc : Array Value → State → Outcome → State → Prop} {free : Addr → Prop}
theorem wt_leave (hlk : meth.locks = false) (hout : ∀ y ∈ c.exceptionTable.toList, covers y pc = false) (hq : ∀ t : State, t.heap = H → s.WarmedH t.vm → Qc args s (.threw x) t) (hf : ∀ q ∈ locs, free q.base) :
    WT p l e R s m args below meth c H locs cells slots (MQT below Qc args s cells slots free) (F0 m pc ls st) x := by
  intro T hT X
  obtain ⟨hw, hrun, hend, hW, hsame⟩ := X.leaveThrown x (g := F0 m pc ls st) rfl rfl rfl hout hlk
  exact ⟨_, hw, .threw x, hrun, hend, hq _ hT hW, locs, ⟨⟨x, rfl⟩, hW, hsame⟩, hf⟩
theorem a_throw (hexec : p.tables.exec = Jvm.exec) (hb : c.code = cc) (hdg : decode cc pc = .ok (.athrow, 1)) (kk : WT p l e R s m args below meth c H locs cells slots Q (F0 m pc ls rest) x) : W p l e R s m args below meth c H locs cells slots Q (F0 m pc ls (.ref x :: rest)) := by
  intro T hT X
  obtain ⟨t, a, b⟩ := kk T hT X
  refine ⟨t, ?_, b⟩
  jvm_step X.here [X.here.top, hexec, hb, hdg, athrow.wp_sem]
  exact a
theorem MetT.ofW {y : MethodName} {ws ws' : List Cond} {rm : Room} {Pc : Array Value → State → Prop} {mc ms : Nat} {maxL : Nat} {ret : Option FieldType}
    (hy : plainName y.cls = true) (hw : ws = Cond.code y cc maxL ret :: ws')
    (body : ∀ p e s m args below meth c s₁, BodyLoose p l y (headSpec ws rm) cc maxL ret e s m args below meth c s₁ → c.maxLocals = maxL → Pc args s →
      W p l e (headSpec ws rm).room s m args below meth c s.heap [] 0 0 (MQT below Qc args s mc ms free) (entryFrame m args maxL)) : MetT l y ws rm Pc Qc mc ms free := by
  refine MetFree.of_bodyS (code := cc) (maxLocals := maxL) (ret := ret) hy (fun args s m h hn => ?_) (fun p e s m args below meth c s₁ B hml hP _ => ?_)
  · obtain ⟨meth, c, h1, h2, h3, h4, h5, h6, -, -⟩ := Cond.code_spec hn (atoms_spec (ws := ws) h _ (by rw [hw]; exact List.mem_cons_self))
    exact ⟨meth, c, h1, h2, h3, h4, h5, h6⟩
  · obtain ⟨t, a1, o, b1, b2, b3⟩ := body p e s m args below meth c s₁ B hml hP s₁ (by rw [B.state]; rfl) (Stand.of_body B)
    exact ⟨t, o, a1, b1, b2, b3.1, b3.2⟩
/-- the handler whose class links catches x -/
theorem find_link {e : Env} {s : State} {f : JFrame} {a : Addr} {Q : Handler → Pre} {E : CtlPost} {d : Bool} {acts : List Action} {y : ExceptionTableEntry} {t : List ExceptionTableEntry} {k : ClassId} {cell : Cell} (hy : covers y f.pc = true) (h0 : y.catchType ≠ 0)
    (hl : s.vm.ClassLinks e.platform f.method.cls y.catchType k) (hcell : s.heap[a]? = some cell) (hobj : ∀ k, cell.vm ≠ .statics k) (hk : ∃ kk, s.vm.classes[cell.cls]? = some kk) (hc : ∃ kk, s.vm.classes[k]? = some kk) (hfit : s.vm.assignable cell.cls k = true) :
    wp (findHandler.go f a (y :: t)) Q E e d acts s ↔ Q (.found y.handlerPc) d acts (s.setVm (s.vm.noted f.method.cls y.catchType (.cls k))) := by
  have al : s.vm.Alike (s.vm.noted f.method.cls y.catchType (.cls k)) := (Vm.Alike.refl s.vm).noted _ _ _
  obtain ⟨r1, r2⟩ := (resolveClass_links e.toSetting hl).op (op := VmOp.resolveClass f.method.cls y.catchType) rfl
  obtain ⟨k1, e1⟩ := hk
  obtain ⟨k2, e2⟩ := hc
  obtain ⟨k1', e1', -⟩ := al.2.2 _ _ e1
  obtain ⟨k2', e2', -⟩ := al.2.2 _ _ e2
  have ft : (s.vm.noted f.method.cls y.catchType (.cls k)).assignable cell.cls k = true := by rw [al.assignable]; exact hfit
  simp only [covers] at hy
  simp [findHandler.go, hy, h0, r1, r2, hcell, hobj, e1', e2', ft, VmOp.dirties, VmOp.acts]
/-- entries that don't cover the place are passed by -/
theorem find_pass {e : Env} {s : State} {f : JFrame} {a : Addr} {Q : Handler → Pre} {E : CtlPost} {d : Bool} {acts : List Action} {r : List ExceptionTableEntry} : ∀ ps : List ExceptionTableEntry, (∀ y ∈ ps, covers y f.pc = false) → (wp (findHandler.go f a (ps ++ r)) Q E e d acts s ↔ wp (findHandler.go f a r) Q E e d acts s)
  | [], _ => Iff.rfl
  | y :: ys, h => by
    rw [List.cons_append, W.findHandler_go_skip (h y (List.mem_cons_self ..))]
    exact find_pass ys fun z hz => h z (List.mem_cons_of_mem _ hz)
theorem asg_self {vm : Vm} {k : ClassId} : vm.assignable k k = true := by
  show vm.assignableAux (255 + 1) k k = true
  rw [Vm.assignableAux, Bool.or_eq_true, beq_iff_eq]
  exact Or.inl rfl
/-- x is caught: its class is the handler's -/
theorem wt_catch {own C : String} (hown : s.vm.findClass own = some m.cls) {pre post : List ExceptionTableEntry} {y : ExceptionTableEntry} (htab : c.exceptionTable.toList = pre ++ y :: post) (hpre : ∀ z ∈ pre, covers z pc = false) (hy : covers y pc = true) (h0 : y.catchType ≠ 0)
    (hlink : (Cond.classLink own y.catchType C).before args s = true) {cell : Cell} {kC : Class} (hcell : H[x]? = some cell) (hobj : cell.vm.isStatics = false) (hcls : s.vm.findClass C = some cell.cls) (hkC : s.vm.classes[cell.cls]? = some kC)
    (kk : W p l e R s m args below meth c H locs cells slots Q (F0 m y.handlerPc ls [.ref x])) : WT p l e R s m args below meth c H locs cells slots Q (F0 m pc ls st) x := by
  intro T hT X
  obtain ⟨k, hk, hl⟩ := Cond.classLink_spec hown hlink e.platform (by rw [X.admits.platform])
  have ek : k = cell.cls := Option.some.inj (hk.symm.trans hcls)
  subst ek
  obtain ⟨dk, _, _, _, hd, _, _, _, _, _, _, hres⟩ := id hl.here
  have hW' : s.WarmedH (T.vm.noted m.cls y.catchType (.cls cell.cls)) := X.warmed.noted hd hres (State.rightAt_cls hl)
  have hlT := X.warmed.classLinks hl
  obtain ⟨kC', hkC', -⟩ := X.warmed.alike.2.2 _ _ hkC
  obtain ⟨t, a, b⟩ := kk (T.setVm (T.vm.noted m.cls y.catchType (.cls cell.cls))) hT (X.noted hW')
  refine ⟨t, ?_, b⟩
  have hfind : ∀ (Q : Handler → Pre) (E : CtlPost) (d : Bool) (acts : List Action), wp (findHandler (F0 m pc ls st) x) Q E e d acts ((T.setTop (F0 m pc ls st)).pushFrame (.throwing x)) ↔ Q (.found y.handlerPc) d acts (((T.setTop (F0 m pc ls st)).pushFrame (.throwing x)).setVm (T.vm.noted m.cls y.catchType (.cls cell.cls))) := by
    intro Q E d acts
    have hvm := Stand.throwing_vm T (F0 m pc ls st) x
    have hhp := Stand.throwing_heap T (F0 m pc ls st) x
    rw [W.findHandler_eq (meth := meth) (code := c) (by rw [hvm]; exact X.method') X.code, htab, find_pass (f := F0 m pc ls st) pre hpre, find_link (f := F0 m pc ls st) (k := cell.cls) hy h0 (by rw [hvm]; exact hlT) (by rw [hhp, hT]; exact hcell) (fun z hz => by rw [hz] at hobj; cases hobj) (by rw [hvm]; exact ⟨_, hkC'⟩) (by rw [hvm]; exact ⟨_, hkC'⟩) asg_self, hvm]
  have h : At T (F0 m pc ls st).method c below := X.here
  obtain ⟨hgo, hw⟩ := h.throwing x
  refine Steps.head hgo hw ?_
  have hstep : (stepThrowing e ((T.setTop (F0 m pc ls st)).pushFrame (.throwing x)) x (.java (F0 m pc ls st) :: T.frames.tail)).Is ((((T.setTop (F0 m pc ls st)).pushFrame (.throwing x)).setVm (T.vm.noted m.cls y.catchType (.cls cell.cls))).setFrames (.java (F0 m y.handlerPc ls [.ref x]) :: T.frames.tail)) [] := by
    simp only [stepThrowing, searchFrame, vmDo]
    generalize hr : Sem.go _ e false [] ((T.setTop (F0 m pc ls st)).pushFrame (.throwing x)) = res
    obtain ⟨as, rfl, ha⟩ := Sem.eq_ok_of hr (a := Handler.found y.handlerPc) (s' := ((T.setTop (F0 m pc ls st)).pushFrame (.throwing x)).setVm (T.vm.noted m.cls y.catchType (.cls cell.cls))) (acts' := []) (by simp [hfind _ _ _ _])
    exact ⟨rfl, ha⟩
  rw [stepThread_throwing (frames_entered h.top _), hstep.1]
  obtain ⟨g₀, hg⟩ := Option.isSome_iff_exists.mp h.top
  obtain ⟨r, hr⟩ := State.topJava?_eq_some.mp hg
  have hr' : (T.setVm (T.vm.noted m.cls y.catchType (.cls cell.cls))).frames = .java g₀ :: r := hr
  rw [State.setTop_of_frames _ hr'] at a
  have e1 : (((T.setTop (F0 m pc ls st)).pushFrame (.throwing x)).setVm (T.vm.noted m.cls y.catchType (.cls cell.cls))).setFrames (.java (F0 m y.handlerPc ls [.ref x]) :: T.frames.tail) = (T.setVm (T.vm.noted m.cls y.catchType (.cls cell.cls))).setFrames (.java (F0 m y.handlerPc ls [.ref x]) :: r) := by
    rw [hr, List.tail_cons, State.pushFrame, State.setTop_of_frames _ hr]
    have sw : ∀ (u : State) (v : Vm) (F K : List Frame), ((u.setFrames F).setVm v).setFrames K = (u.setVm v).setFrames K := fun u v F K => by
      rw [show (u.setFrames F).setVm v = (u.setVm v).setFrames F from rfl, State.setFrames_setFrames]
    rw [State.setFrames_setFrames, sw]
  rw [e1]
  exact a
end THR
