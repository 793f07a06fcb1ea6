/-! a call of a library's method that is walked -/
section Pcall
variable {p : Program} {l : Launch} {e : Env} {R : Room} {s : State} {mid : MethodId} {args : Array Value} {below : List Frame} {meth : Method} {c : Code} {H : Heap} {locs : List Loc} {cells slots : Nat} {Q : State → Prop} {lsJ : Array Slot} {pc : Nat}
theorem pcall {y : MethodName} {bytes : ByteArray} {maxL kc ks K : Nat} {ret : Option FieldType} {as rest st0 : List Value} {ig : Jvm.ClassFile.Instr} {P : Option Value → Heap → Prop} {B : Nat → Prop}
    (hts : ∀ w ∈ lw_all, w.before args s = true) (hcode : Cond.code y bytes maxL ret ∈ lw_all) (hplain : plainFor y = true) (hsize : lsJ.size = c.maxLocals) (hdg : decode c.code pc = .ok (ig, 3))
    (hI : ∀ T, T.heap = H → Stand p l e R s mid args below meth c T locs cells slots → Into p l e R s mid args below meth c T locs cells slots (F0 mid pc lsJ st0) rest y as.toArray)
    (hfr : 1 ≤ R.frames) (hlo : 2 * (F0 mid pc lsJ rest).monitorRoom + (rest.map fun v => v.category).sum + (maxL + 11) + K ≤ R.locals) (hce : cells + kc ≤ R.cells) (hsl : slots + ks ≤ R.slots)
    (hrun : ∀ (s' : State) (mk : MethodId) (methk : Method) (ck : Code) (below' : List Frame), s.WarmedH s'.vm → s'.heap = H → (∀ w ∈ lw_all, w.before as.toArray s' = true) → s'.vm.findClass y.cls = some mk.cls → methk.sig.returnType = ret → methk.locks = false → ck.code = bytes → ck.maxLocals = maxL → W p l e { frames := R.frames - 1, cells := kc, slots := ks, locals := K } s' mk as.toArray below' methk ck H [] 0 0 (MQ below' (fun _ _ o t => ∃ v, o = .returned v ∧ P v t.heap) as.toArray s' kc ks B) (F0 mk 0 (lg_sl as ++ List.replicate (maxL - (lg_sl as).length) Slot.unset).toArray []))
    (hk : ∀ v H' L, P v H' → (∀ q ∈ L, B q.base) → W p l e R s mid args below meth c H' (locs ++ L) (cells + kc) (slots + ks) Q (F0 mid (pc + 3) lsJ (v.toList ++ rest))) : W p l e R s mid args below meth c H locs cells slots Q (F0 mid pc lsJ st0) := by
  intro T hT X
  obtain ⟨vm₁, mk, X₁, hnamed, hstep⟩ := hI T hT X
  have hWs : s.WarmedH ((T.setVm vm₁).calling (F0 mid pc lsJ rest) mk as.toArray).vm := X₁.warmed
  have hts' : ∀ w ∈ lw_all, w.before as.toArray ((T.setVm vm₁).calling (F0 mid pc lsJ rest) mk as.toArray) = true := fun w hw => pay_in hts lw_self w hw _ _ hWs
  have hnamed' : ((T.setVm vm₁).calling (F0 mid pc lsJ rest) mk as.toArray).methodNamed? y = some mk := hnamed
  obtain ⟨methk, ck, h1, h2, h3, h5, h6, h7, -⟩ := Cond.code_spec hnamed' (hts' _ hcode)
  have hpl : ((T.setVm vm₁).calling (F0 mid pc lsJ rest) mk as.toArray).plainMethod mk := State.plainMethod.of_named hplain hnamed' h1
  obtain ⟨Y, hin⟩ := X₁.into (g := F0 mid pc lsJ rest) rfl hsize hdg as.toArray (R' := { frames := R.frames - 1, cells := kc, slots := ks, locals := K }) h1 h2 h7 hpl (by show R.frames - 1 + 1 ≤ _; omega) (by
    show 2 * (F0 mid pc lsJ rest).monitorRoom + (rest.map fun v => v.category).sum + (ck.maxLocals + 11) + K ≤ R.locals
    rw [h5]; exact hlo) hce hsl
  rw [h5, lg_entry_eq] at hin Y
  obtain ⟨t, hst, o, hru, hend, ⟨v, rfl, hP⟩, L, ⟨-, hWt, hsame⟩, hBL⟩ := hrun _ mk methk ck _ hWs hT hts' (findClass_of_methodNamed hnamed') h6 h7 h3 h5 _ (show (((T.setVm vm₁).setTop (F0 mid pc lsJ rest)).pushFrame _).heap = H from hT) Y
  have hin := hin []
  have hwk := Steps.weaken (mid := [.java (F0 mid pc lsJ rest)]) hst
  obtain ⟨T', X', -, -, ht⟩ := X₁.outOf (g := F0 mid pc lsJ rest) rfl hdg hend hWt hsame
  have hTh : T'.heap = t.heap := by rw [ht]; rfl
  obtain ⟨u, hu, hfin⟩ := hk v t.heap L hP hBL T' hTh X'
  refine ⟨u, hstep u ?_, hfin⟩
  show Steps p.tables e below (doInvoke e ((T.setVm vm₁).setTop (F0 mid pc lsJ rest)) [] mk as.toArray).1 u
  rw [hin]
  refine hwk.trans ?_
  rw [ht]
  exact hu
end Pcall
