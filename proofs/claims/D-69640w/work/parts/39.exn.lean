/-! the making of the exception: its constructor -/
set_option maxRecDepth 100000
section Exn
variable {p : Program} {l : Launch} {e : Env} {R : Room} {s : State} {mid : MethodId} {args : Array Value} {below : List Frame} {meth : Method} {c : Code} {locs : List Loc} {cells slots : Nat} {A : Nat → Prop}
theorem decl_of {y : MethodName} {b : ByteArray} {mL : Nat} {ret : Option FieldType} (hts : ∀ w ∈ lw_all, w.before args s = true) (hi : Cond.instanceMethod y ∈ lw_all) (hc : Cond.code y b mL ret ∈ lw_all) : (Cond.declares y).before args s = true := by
  obtain ⟨m, meth, h1, h2, h3, h4⟩ := va_Decl.of (hts _ hi) (hts _ hc)
  simp [Cond.before, Cond.holds, Cond.value, h1, h2, h3, h4]
theorem lays_of {C n d : String} (h : va_L C n d A s s.heap) : (Cond.laysStatic C n d).before args s = true := by
  obtain ⟨c, k, i, f, a, cell, h0, h1, h2, h3, h4, h5, h6, h7, h8, h9, h10⟩ := h
  exact Cond.laysStatic_of h0 h1 h2 h3 h4 h5 h6 h7 h8
theorem thr_atoms (hts : ∀ w ∈ lw_all, w.before args s = true) (hZ : Stc A s) : ∀ x ∈ Bundle.throwableAtoms, x.before args s = true := by
  intro x hx
  simp only [Bundle.throwableAtoms, List.mem_cons, List.not_mem_nil, or_false] at hx
  rcases hx with rfl | rfl | rfl | rfl | rfl | rfl | rfl | rfl | rfl | rfl | rfl | rfl | rfl | rfl | rfl | rfl | rfl | rfl | rfl | rfl | rfl | rfl | rfl | rfl
  · exact hts _ q249
  · exact hts _ q311
  · exact hts _ q320
  · exact hts _ q322
  · exact hts _ q325
  · exact hts _ q327
  · exact hts _ q312
  · exact hts _ q313
  · exact hts _ q281
  · exact hts _ q282
  · exact hts _ q314
  · exact hts _ q319
  · exact hts _ q323
  · exact hts _ q339
  · exact hts _ q301
  · exact hts _ q340
  · exact hts _ q303
  · exact hts _ q341
  · exact hts _ q305
  · exact hts _ q315
  · exact lays_of hZ.2.1
  · exact hts _ q317
  · exact lays_of hZ.2.2.1
  · exact hts _ q307
theorem chn_atoms (hts : ∀ w ∈ lw_all, w.before args s = true) : ∀ x ∈ Bundle.chain0Atoms "java/lang/IllegalStateException" ["java/lang/RuntimeException", "java/lang/Exception"], x.before args s = true := by
  intro x hx
  simp only [Bundle.chain0Atoms, Bundle.passAtoms, List.cons_append, List.nil_append, List.mem_cons, List.not_mem_nil, or_false] at hx
  rcases hx with rfl | rfl | rfl | rfl | rfl | rfl | rfl | rfl | rfl | rfl | rfl | rfl | rfl | rfl | rfl
  · exact hts _ q329
  · exact hts _ q330
  · exact hts _ q331
  · exact hts _ q332
  · exact decl_of hts q332 q333
  · exact hts _ q332
  · exact hts _ q333
  · exact hts _ q334
  · exact hts _ q335
  · exact decl_of hts q335 q336
  · exact hts _ q335
  · exact hts _ q336
  · exact hts _ q337
  · exact hts _ q312
  · exact decl_of hts q312 q313
set_option maxHeartbeats 1000000 in
theorem mk_ise {T0 : State} (X : Stand p l e R s mid args below meth c T0 locs cells slots) (hx : p.tables.exec = Jvm.exec) (htr : e.platform.stackTraces = false) (hts : ∀ w ∈ lw_all, w.before args s = true) (hZ : Stc A s) (hA : ∀ x ∈ locs, A x.base) (hown : s.vm.findClass "SafeCode$Fault" = some mid.cls)
    {a : Addr} {cX : ClassId} {kX : Class} (hfoundX : s.vm.findClass "java/lang/IllegalStateException" = some cX) (hkX : s.vm.classes[cX]? = some kX) (hcell : T0.heap[a]? = some (freshCell cX kX)) (hnew : s.heap.size ≤ a)
    {g : JFrame} (hg : g.method = mid) (hsize : g.locals.size = c.maxLocals) {rest : List Value} (hstack : g.stack = .ref a :: rest) (hd : decode c.code g.pc = .ok (.invokespecial 9, 3))
    (hRf : 5 < R.frames) (hRl : 2 * g.monitorRoom + (rest.map fun v => v.category).sum + 80 ≤ R.locals) :
    ∃ (vm' : Vm) (cell' : Cell), cell'.cls = cX ∧ cell'.vm = .none ∧ cell'.slots.size = (freshCell cX kX).slots.size ∧ Stand p l e R s mid args below meth c ((T0.setVm vm').setCell a cell') locs cells slots ∧
      ∀ target, Steps p.tables e below (((T0.setVm vm').setCell a cell').setTop { g with pc := g.pc + 3, stack := rest }) target → Steps p.tables e below (T0.setTop g) target := by
  have howns : e.platform.frameOwnsMonitors = true := by rw [X.admits.platform]
  have hfin : e.platform.finalization = false := by rw [X.admits.platform]
  have hpl : e.platform.magicAccessors = ({} : Platform).magicAccessors := by rw [X.admits.platform]
  obtain ⟨T, Z, L, LZ, Y⟩ := ThrowableC.of_atoms (args := args) howns hfin hpl (thr_atoms hts hZ)
  obtain ⟨P1, Ps, hlen, L1, hL, hP1m, hlink1, hlink⟩ := Bundle.chain0 (args := args) hpl Y.init0 ["java/lang/RuntimeException", "java/lang/Exception"] "java/lang/IllegalStateException" (by decide) (by decide) (chn_atoms hts)
  have hfound : s.vm.findClass "java/lang/IllegalStateException" = some P1.m.cls := findClass_of_methodNamed hP1m
  cases Option.some.inj (hfoundX.symm.trans hfound)
  obtain ⟨c1, kX', hc1, hk, hord, -, -, hn6⟩ := Cond.instantiable_spec (hts _ q290)
  cases Option.some.inj (hc1.symm.trans hfound)
  cases Option.some.inj (hkX.symm.trans hk)
  have hsel0 : selectMethod e.platform s.vm P1.m.cls T.fill0 = .method T.fill0 := by
    obtain ⟨c2, r2, m2, q1, q2, q3, q4, -⟩ := Cond.selects_spec (hts _ q298)
    cases Option.some.inj (q1.symm.trans hfound)
    cases Option.some.inj (q2.symm.trans (State.methodFound?_of_named Y.fill0 (by decide)))
    cases Option.some.inj (q3.symm.trans Y.fill0)
    rw [Launch.admits_selectMethod X.admits]; exact q4
  have hselF : selectMethod e.platform s.vm P1.m.cls T.fill = .method T.fill := by
    obtain ⟨c2, r2, m2, q1, q2, q3, q4, -⟩ := Cond.selects_spec (hts _ q299)
    cases Option.some.inj (q1.symm.trans hfound)
    cases Option.some.inj (q2.symm.trans (State.methodFound?_of_named Y.fill (by decide)))
    cases Option.some.inj (q3.symm.trans Y.fill)
    rw [Launch.admits_selectMethod X.admits]; exact q4
  obtain ⟨cellS0, hcS0, hiss⟩ := Y.statics
  have hU : ∃ u : RefV, cellS0.slots[T.fUnassigned.slot]? = some u.v := by
    obtain ⟨cc, k, i, f, a', cell, z0, z1, z2, z3, z4, z5, z6, z7, z8, z9, z10⟩ := hZ.2.1
    have zz := Y.unassigned
    cases Option.some.inj (z1.symm.trans zz)
    cases Option.some.inj (z3.symm.trans L.statics)
    cases Option.some.inj (z4.symm.trans hcS0)
    exact z9
  have hS : ∃ u : RefV, cellS0.slots[T.fSentinel.slot]? = some u.v ∧ ¬ A T.aS := by
    obtain ⟨cc, k, i, f, a', cell, z0, z1, z2, z3, z4, z5, z6, z7, z8, ⟨u, z9⟩, z10⟩ := hZ.2.2.1
    have zz := Y.sentinel
    cases Option.some.inj (z1.symm.trans zz)
    cases Option.some.inj (z3.symm.trans L.statics)
    cases Option.some.inj (z4.symm.trans hcS0)
    exact ⟨u, z9, z10⟩
  obtain ⟨u0, hu0⟩ := hU
  obtain ⟨sen, hsen, hnA⟩ := hS
  obtain ⟨ci198, i198, fB, hk198, hg198, ha198, hsB, -, hnB, htB, hffB⟩ := Cond.ownField (t := .object "java/lang/Object") Y.found L.cls (by decide +kernel) (hts _ q310) (hts _ q309) e.platform hpl
  obtain ⟨cellS, hcS', heS, -, hkeep⟩ := X.same.2.2.2.2.2 T.aS cellS0 hcS0
  have hcellS : T0.heap[T.aS]? = some cellS := hcS'
  have hout' : ∀ i, (⟨T.aS, i⟩ : Loc) ∉ locs := fun i hmem => hnA (hA _ hmem)
  have hknownS : cellS.vm ≠ .unknown := by
    rw [heS]; intro hu
    rw [show cellS0.vm = .unknown from hu] at hiss
    cases hiss
  have hneS : T.aS ≠ a := Nat.ne_of_lt (Nat.lt_of_lt_of_le (Array.getElem?_eq_some_iff.mp hcS0).1 hnew)
  obtain ⟨tyC, dC, hdC, hdnC⟩ := Cond.laysAt hfound hk Y.cause (hts _ q300)
  obtain ⟨tyS, dS, hdS, hdnS⟩ := Cond.laysAt hfound hk Y.stack (hts _ q302)
  obtain ⟨tyP, dP, hdP, hdnP⟩ := Cond.laysAt hfound hk Y.supp (hts _ q304)
  obtain ⟨tyB, dB, hdB, hdnB⟩ := Cond.laysAt hfound hk hffB (hts _ q308)
  have bC := Cond.laysApart hdB hdC hdnB hdnC (by rw [hnB, Y.causeName]; decide)
  have bS := Cond.laysApart hdB hdS hdnB hdnS (by rw [hnB, Y.stackName]; decide)
  have bP := Cond.laysApart hdB hdP hdnB hdnP (by rw [hnB, Y.suppName]; decide)
  have hskip : SkipFacts T e.platform s (fun u => u) u0 ((preparedCellV T.toThrowableT (freshCell P1.m.cls kX) a u0 sen).withEntry T0.cur) :=
    ⟨{ ci198 := ci198, i198 := i198, fBack := fB }, ⟨hk198, hg198, ha198, hsB⟩, by
      have := fresh_default (c := P1.m.cls) tyB
      rw [htB] at this
      simpa [preparedCellV, Cell.setSlot, Cell.withEntry, Array.getElem?_setIfInBounds, bC, bS, bP, bC.symm, bS.symm, bP.symm, defaultValue] using this, fun _ _ => rfl⟩
  obtain ⟨tm, methC, cdC, kC, vm₁, hnC, -, -, -, -, -, -, -, hW₁, st1⟩ := Steps.initCold (tb := p.tables) (e := e) (below := below) (s := s) (U := T0) X.here hx X.warmed hpl hown (t := Bundle.init0 "java/lang/IllegalStateException") rfl rfl ⟨by decide, by decide⟩
    (hts _ q328) (hts _ q329) (bytes := Bundle.five) (maxL := 1) (hts _ q330) (f := g) hg (a := a) (rest := rest) hstack hd
  cases Option.some.inj (hnC.symm.trans hP1m)
  have X₁ := X.noted hW₁
  obtain ⟨vm₂, X₂, st2⟩ := X₁.ctorPlainOffV hx (g := { g with stack := rest }) hg hsize T L Z LZ (P1 :: Ps)
    (fun P hP => by rcases List.mem_cons.mp hP with rfl | hP; exact L1; exact hL P hP) ⟨hlink1, hlink⟩ (u0 := u0) (sen := sen) (self := a) (cell := freshCell P1.m.cls kX) (cellS := cellS)
    hcell (fun _ => by simp) (by simp) rfl rfl hsel0 hselF hcellS hneS hknownS (by rw [hkeep _ (hout' _)]; exact hu0) (by rw [hkeep _ (hout' _)]; exact hsen)
    (Takes.of_laid hk hord tyC (by rw [Y.causeType]; rfl)) (Takes.of_laid hk hord tyS (by rw [Y.stackType]; exact fits_refV_array _ u0)) (Takes.of_laid hk hord tyP (by rw [Y.suppType]; exact fits_refV_object _ sen)) Y.objLocals hskip htr [] hd
    (by simp only [List.length_cons, hlen, List.length_nil]; omega) (by simp only [List.length_cons, hlen, List.length_nil]; show 2 * g.monitorRoom + _ + _ ≤ _; omega)
  refine ⟨vm₂, _, rfl, rfl, ?_, X₂.forget (fun y hy => ?_), fun target h => st1 _ (fun acts => ?_)⟩
  · simp [preparedCellV, Cell.setSlot]
  · simp only [List.mem_cons, List.not_mem_nil, or_false] at hy
    rcases hy with rfl | rfl | rfl | rfl <;> exact hnew
  · rw [doInvoke_state]
    exact st2 _ h
end Exn
