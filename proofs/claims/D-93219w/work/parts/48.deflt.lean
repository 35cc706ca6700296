/-! a virtual call that lands in an interface's default method -/
set_option maxRecDepth 100000
theorem any_bare (vm : Vm) (c : ClassId) (f : Class → Bool) (hf : ∀ k : Class, f k.bare = f k) : (vm.bare.classes[c]?).any f = (vm.classes[c]?).any f := by
  rw [Vm.classes_bare]
  cases vm.classes[c]? with
  | none => rfl
  | some k => exact hf k
theorem decl_bare (vm : Vm) (name desc : String) (k : ClassId) : declaredIn vm.bare name desc k = declaredIn vm name desc k := by
  unfold declaredIn
  rw [Vm.classes_bare, Vm.method?_bare]
  cases vm.classes[k]? with
  | none => rfl
  | some x => rfl
theorem held_bare (vm : Vm) (c : ClassId) (name desc : String) : held vm.bare c name desc = held vm c name desc := by
  unfold held
  have e1 : ∀ k : ClassId, (vm.bare.classes[k]?).any (·.isInterface) = (vm.classes[k]?).any (·.isInterface) := fun k => any_bare vm k _ fun _ => rfl
  have e2 : ∀ k : ClassId, ((vm.bare.classes[k]?).any fun x => x.methods.any fun m => !m.isAbstract && !m.isStatic) = (vm.classes[k]?).any fun x => x.methods.any fun m => !m.isAbstract && !m.isStatic := fun k => any_bare vm k _ fun _ => rfl
  have e3 : ∀ (g : ClassId → Bool) (k : ClassId), (vm.bare.classes[k]?).any (·.interfaces.any g) = (vm.classes[k]?).any (·.interfaces.any g) := fun g k => any_bare vm k _ fun _ => rfl
  simp only [Vm.superclasses_bare, decl_bare, superinterfaceMethods_bare, maximallySpecific_bare, Vm.superinterfaces_bare, Vm.method?_bare, e1, e2, e3]
theorem nh_alike {vm vm' : Vm} (h : vm.Alike vm') (c : ClassId) (name desc : String) : nearestHeld vm' c name desc = nearestHeld vm c name desc := by
  unfold nearestHeld
  rw [← held_bare vm', h.bare_eq, held_bare]
/-- what the nearest class holds is that default, or nothing -/
def DfOk (vm : Vm) (c : ClassId) (name desc : String) (m : MethodId) : Prop := ∀ k h, nearestHeld vm c name desc = some (k, h) → h = .nothing ∨ h = .default m
theorem DfOk.alike {vm vm' : Vm} {c : ClassId} {name desc : String} {m : MethodId} (h : DfOk vm c name desc m) (a : vm.Alike vm') : DfOk vm' c name desc m := fun k x hx => h k x (by rw [← nh_alike a]; exact hx)
theorem sel_df {E : CtlPost} {e : Env} {d : Bool} {acts : List Action} {s : State} {Q : Selection → Pre} {c : ClassId} {r m : MethodId} {rmeth meth : Method} {mk : Class} (hsel : selectMethod e.platform s.vm c r = .method m) (hrm : s.vm.method? r = some rmeth) (hm : s.vm.method? m = some meth)
    (hmk : s.vm.classes[m.cls]? = some mk) (hitf : mk.isInterface = true) (hd : DfOk s.vm c rmeth.name rmeth.desc m) : wp (Op.invokeinterface.selectVirtual c r) Q E e d acts s ↔ Q (.method m) d acts s := by
  cases hp : e.platform.privateHidesDefault
  · simp [Op.invokeinterface.selectVirtual, hrm, Op.selectFor_method hsel hm, hmk, hitf, hp]
  · cases hn : nearestHeld s.vm c rmeth.name rmeth.desc with
    | none => simp [Op.invokeinterface.selectVirtual, hrm, Op.selectFor_method hsel hm, hmk, hitf, hp, hn]
    | some kh =>
      obtain ⟨k, h⟩ := kh
      rcases hd k h hn with rfl | rfl <;> simp [Op.invokeinterface.selectVirtual, hrm, Op.selectFor_method hsel hm, hmk, hitf, hp, hn]
/-- what the word landsInDefault says, where the method named is the one selected -/
theorem df_spec {args : Array Value} {s : State} {cls : String} {x y : MethodName} {c : ClassId} {r : MethodId} {rm : Method} (hc : s.vm.findClass cls = some c) (hr : s.methodFound? x.cls x.name x.desc = some r) (hy : s.methodNamed? y = some r) (hrm : s.vm.method? r = some rm) (h : (Cond.landsInDefault cls x y).before args s = true) :
    selectMethod {} s.vm c r = .method r ∧ (∃ mk, s.vm.classes[r.cls]? = some mk ∧ mk.isInterface = true) ∧ DfOk s.vm c rm.name rm.desc r := by
  simp only [Cond.before, Cond.holds, Cond.value, hc, hr, hy, hrm, Option.map_some, beq_iff_eq, Option.some.injEq] at h
  cases hs : selectMethod {} s.vm c r with
  | method m' =>
    rw [hs] at h
    simp only [Bool.and_eq_true, decide_eq_true_eq] at h
    obtain ⟨⟨⟨⟨rfl, hi⟩, -⟩, -⟩, hn⟩ := h
    obtain ⟨mk, h1, h2⟩ : ∃ mk, s.vm.classes[m'.cls]? = some mk ∧ mk.isInterface = true := by
      cases hk : s.vm.classes[m'.cls]? with
      | none => rw [hk] at hi; cases hi
      | some mk => rw [hk] at hi; exact ⟨mk, rfl, hi⟩
    refine ⟨rfl, ⟨mk, h1, h2⟩, fun k z hz => ?_⟩
    rw [hz] at hn
    cases z with
    | nothing => exact Or.inl rfl
    | default d => simp only [decide_eq_true_eq] at hn; exact Or.inr (by rw [hn])
    | thrower b => cases hn
  | _ => rw [hs] at h; cases h
/-- calls of y on objects of class C land in y, a default method -/
def LandF (C : String) (y : MethodName) (s : State) : Prop := ∀ c r rm, s.vm.findClass C = some c → s.methodNamed? y = some r → s.vm.method? r = some rm → selectMethod {} s.vm c r = .method r ∧ (∃ mk, s.vm.classes[r.cls]? = some mk ∧ mk.isInterface = true) ∧ DfOk s.vm c rm.name rm.desc r
theorem LandF.of {args : Array Value} {s : State} {C : String} {x y : MethodName} (hsame : (Cond.sameMethod x.cls y.cls x.name x.desc).before args s = true) (hy : y = ⟨y.cls, x.name, x.desc⟩) (h : (Cond.landsInDefault C x y).before args s = true) : LandF C y s := by
  intro c r rm hc hn hrm
  obtain ⟨cn, ck, r1, hcn, hck, hni, hfd, hn1⟩ := Cond.sameMethod_found hsame
  have er : r1 = r := Option.some.inj (hn1.symm.trans (by rw [← hy]; exact hn))
  subst er
  exact df_spec hc hfd hn hrm h
theorem LandF.moved {u U : State} {C : String} {y : MethodName} (h : LandF C y u) (a : u.vm.Alike U.vm) : LandF C y U := by
  intro c r rm hc hn hrm
  have hn2 : u.methodNamed? y = some r := by
    have e := State.methodNamed?_setVm (s := u) a y
    rw [← e]; exact hn
  obtain ⟨h1, ⟨mk, h2, h3⟩, h4⟩ := h c r rm (by rw [← a.findClass]; exact hc) hn2 (by rw [← a.method?]; exact hrm)
  obtain ⟨mk2, h5, h6⟩ := a.2.2 _ _ h2
  exact ⟨by rw [a.selectMethod]; exact h1, ⟨mk2, h5, by rw [h6]; exact h3⟩, h4.alike a⟩
