/-! ends of methods: an answer, an exception, the handler -/
section Ends
variable {p : Program} {l : Launch} {e : Env} {R : Room} {s : State} {m : MethodId} {args : Array Value} {below : List Frame} {meth : Method} {c : Code} {T : State} {locs : List Loc} {cells slots : Nat} {H : Heap} {Q Q' : State → Prop}
theorem W_mono {g : JFrame} (h : W p l e R s m args below meth c H locs cells slots Q g) (hq : ∀ t, Q t → Q' t) : W p l e R s m args below meth c H locs cells slots Q' g := fun T hT X => by
  obtain ⟨t, a, b⟩ := h T hT X
  exact ⟨t, a, hq t b⟩
theorem go_cold {x : ExceptionTableEntry} {t : List ExceptionTableEntry} {cT : ClassId} {cell : Cell} {vm' : Vm} {s : State} {f : JFrame} {a : Addr} {E : CtlPost} {d : Bool} {acts : List Action} {Q : Handler → Pre} (hx : covers x f.pc = true) (h0 : x.catchType ≠ 0)
    (hg : (Jvm.resolveClass f.method.cls x.catchType).Gives e.toSetting s.vm (.ok cT) vm') (hsz : vm'.classes.size ≤ s.vm.classes.size) (hcell : s.heap[a]? = some cell) (hobj : ∀ k, cell.vm ≠ .statics k)
    (hk : ∃ k, vm'.classes[cell.cls]? = some k) (hc : ∃ k, vm'.classes[cT]? = some k) (hfit : vm'.assignable cell.cls cT = true) :
    Sem.wp (findHandler.go f a (x :: t)) Q E e d acts s ↔ Q (.found x.handlerPc) d acts (s.setVm vm') := by
  have hop : (VmOp.resolveClass f.method.cls x.catchType).answer e s.vm = .ok cT ∧ (VmOp.resolveClass f.method.cls x.catchType).tables e s.vm = vm' := hg.op rfl
  have hld := VmOp.lands_eq (op := VmOp.resolveClass f.method.cls x.catchType) hop.2 hsz
  have hcell' : (s.setVm vm').heap[a]? = some cell := hcell
  have hk' : ∃ k, (s.setVm vm').vm.classes[cell.cls]? = some k := hk
  have hc' : ∃ k, (s.setVm vm').vm.classes[cT]? = some k := hc
  have hfit' : (s.setVm vm').vm.assignable cell.cls cT = true := hfit
  simp only [covers] at hx
  simp [findHandler.go, hx, h0, hop, hld, hcell, hobj, hk, hc, hfit, VmOp.dirties, VmOp.acts]
/-- the handler, though its class's entry may be cold -/
theorem catch_cold (X : Stand p l e R s m args below meth c T locs cells slots) {own : String} (hown : s.vm.findClass own = some m.cls) {x : ExceptionTableEntry} (htab : c.exceptionTable.toList = [x]) (hlink : (Cond.classLink own x.catchType "java/lang/IllegalStateException").before args s = true) (h0 : x.catchType ≠ 0)
    {a : Addr} {cell : Cell} {cT : ClassId} (hcell : T.heap[a]? = some cell) (hobj : cell.vm.isStatics = false) (hcT : s.vm.findClass "java/lang/IllegalStateException" = some cT) (hcl : cell.cls = cT)
    {g : JFrame} (hg : g.method = m) (hx : covers x g.pc = true) :
    ∃ vm', Stand p l e R s m args below meth c (T.setVm vm') locs cells slots ∧ ∀ target, Steps p.tables e below ((T.setVm vm').setTop { g with pc := x.handlerPc, stack := [.ref a] }) target → Steps p.tables e below ((T.setTop g).pushFrame (.throwing a)) target := by
  have hpl : e.platform.magicAccessors = ({} : Platform).magicAccessors := by rw [X.admits.platform]
  obtain ⟨c', hc', hcl1⟩ := Cond.classLink_spec hown hlink e.platform hpl
  cases hcT.symm.trans hc'
  obtain ⟨dk, _, _, kt, hd, _, _, _, _, hkt, _, hopen⟩ := hcl1.here
  have hcl₀ := X.warmed.classLinks hcl1
  have hW' : s.WarmedH (T.vm.noted m.cls x.catchType (.cls cT)) := X.warmed.noted hd hopen (State.rightAt_cls hcl1)
  obtain ⟨kt', hkt', -⟩ := hW'.alike.2.2 _ _ hkt
  refine ⟨_, X.noted hW', fun target hrest => ?_⟩
  subst hg
  subst hcl
  have h : At T g.method c below := X.here
  obtain ⟨hgo, hw⟩ := h.throwing a
  refine Steps.head hgo hw ?_
  rw [stepThread_throwing (frames_entered h.top _)]
  have hvm := Stand.throwing_vm T g a
  have hhp := Stand.throwing_heap T g a
  have hgv := resolveClass_links e.toSetting hcl₀
  have key : (stepThrowing e ((T.setTop g).pushFrame (.throwing a)) a (.java g :: T.frames.tail)).Is ((((T.setTop g).pushFrame (.throwing a)).setVm (T.vm.noted g.method.cls x.catchType (.cls cell.cls))).setFrames (.java { g with pc := x.handlerPc, stack := [.ref a] } :: T.frames.tail)) [] := by
    simp only [stepThrowing, searchFrame, vmDo]
    generalize hr : Sem.go _ e false [] ((T.setTop g).pushFrame (.throwing a)) = res
    obtain ⟨as, rfl, ha⟩ := Sem.eq_ok_of hr (a := Handler.found x.handlerPc) (s' := ((T.setTop g).pushFrame (.throwing a)).setVm (T.vm.noted g.method.cls x.catchType (.cls cell.cls))) (acts' := []) (by
      have hf : ∀ (Q : Handler → Pre) (E : CtlPost) (d : Bool) (acts : List Action), Sem.wp (findHandler g a) Q E e d acts ((T.setTop g).pushFrame (.throwing a)) ↔ Q (.found x.handlerPc) d acts (((T.setTop g).pushFrame (.throwing a)).setVm (T.vm.noted g.method.cls x.catchType (.cls cell.cls))) := by
        intro Q E d acts
        rw [W.findHandler_eq (meth := meth) (code := c) (by rw [hvm]; exact X.method') X.code, htab]
        refine go_cold hx h0 (by rw [hvm]; exact hgv) ?_ (by rw [hhp]; exact hcell) (fun k hk => by rw [hk] at hobj; cases hobj) ⟨kt', hkt'⟩ ⟨kt', hkt'⟩ (va_asg _ _)
        rw [hvm, Vm.size_noted]
        exact Nat.le_refl _
      simp [hf])
    exact ⟨rfl, ha⟩
  rw [key.1]
  obtain ⟨g₀, hr⟩ := X.frames_eq
  have hr' : (T.setVm (T.vm.noted g.method.cls x.catchType (.cls cell.cls))).frames = .java g₀ :: below := hr
  rw [State.setTop_of_frames _ hr'] at hrest
  have e : (((T.setTop g).pushFrame (.throwing a)).setVm (T.vm.noted g.method.cls x.catchType (.cls cell.cls))).setFrames (.java { g with pc := x.handlerPc, stack := [.ref a] } :: T.frames.tail) = (T.setVm (T.vm.noted g.method.cls x.catchType (.cls cell.cls))).setFrames (.java { g with pc := x.handlerPc, stack := [.ref a] } :: below) := by
    rw [X.tail]
    show (((T.setTop g).pushFrame (.throwing a)).setFrames (.java { g with pc := x.handlerPc, stack := [.ref a] } :: below)).setVm _ = _
    rw [State.pushFrame, State.setFrames_setFrames, State.setTop_of_frames _ hr, State.setFrames_setFrames]
    rfl
  rw [e]
  exact hrest
end Ends
