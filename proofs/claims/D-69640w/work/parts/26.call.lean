/-! calls: the frame of the callee, and the caller's behind it -/
/-- a class's static field: it is laid, and holds a reference or null -/
def va_L (C n d : String) (A : Nat → Prop) (U : State) (H : Heap) : Prop := ∃ (c : ClassId) (k : Class) (i : Nat) (f : Field) (a : Nat) (cell : Cell), U.vm.findClass C = some c ∧ U.fieldFound? C n d = some (c, k, i, f) ∧ f.isStatic = true ∧ k.statics = some a ∧ H[a]? = some cell ∧ cell.vm.isStatics = true ∧ cell.cls = c ∧ f.slot < cell.slots.size ∧ k.staticTypes[f.slot]? = some f.type ∧ (∃ u : RefV, cell.slots[f.slot]? = some u.v) ∧ ¬ A a
theorem va_L.moved {C n d : String} {A : Nat → Prop} {u U : State} {H : Heap} (hvm : u.vm.Alike U.vm) (h : va_L C n d A u H) : va_L C n d A U H := by
  obtain ⟨c, k, i, f, a, cell, h0, h1, h2, h3, h4, h5, h6, h7, h8, h9, h10⟩ := h
  obtain ⟨k', hi', he⟩ := State.fieldFound?_setVm hvm h1
  exact ⟨c, k', i, f, a, cell, by rw [hvm.findClass]; exact h0, hi', h2, by rw [he]; exact h3, h4, h5, h6, h7, by rw [he]; exact h8, h9, h10⟩
theorem va_L.kept {C n d : String} {A : Nat → Prop} {U : State} {H H1 : Heap} (h : va_L C n d A U H) (hq : ∀ a : Nat, a < H.size → ¬ A a → H1[a]? = H[a]?) : va_L C n d A U H1 := by
  obtain ⟨c, k, i, f, a, cell, h0, h1, h2, h3, h4, h5, h6, h7, h8, h9, h10⟩ := h
  exact ⟨c, k, i, f, a, cell, h0, h1, h2, h3, by rw [hq a (Array.getElem?_eq_some_iff.mp h4).1 h10]; exact h4, h5, h6, h7, h8, h9, h10⟩
theorem va_L.narrow {C n d : String} {A B : Nat → Prop} {U : State} {H : Heap} (h : va_L C n d A U H) (hAB : ∀ q, B q → A q) : va_L C n d B U H := by
  obtain ⟨c, k, i, f, a, cell, h0, h1, h2, h3, h4, h5, h6, h7, h8, h9, h10⟩ := h
  exact ⟨c, k, i, f, a, cell, h0, h1, h2, h3, h4, h5, h6, h7, h8, h9, fun z => h10 (hAB a z)⟩
/-- the static fields that the library reads -/
def Stc (A : Nat → Prop) (s : State) : Prop := va_Z "java/lang/String" "COMPACT_STRINGS" "Z" (.int 1) A s s.heap ∧ va_L "java/lang/Throwable" "UNASSIGNED_STACK" "[Ljava/lang/StackTraceElement;" A s s.heap ∧ va_L "java/lang/Throwable" "SUPPRESSED_SENTINEL" "Ljava/util/List;" A s s.heap ∧ va_Zq "jdk/internal/util/Preconditions" "SIOOBE_FORMATTER" "Ljava/util/function/BiFunction;" A s s.heap
/-- THE BRIDGE: what the machine shows in n steps, the model does -/
def Brg (n : Nat) : Prop := ∀ (p : Program) (l : Launch) (e : Env) (R : Room) (s : State) (mid : MethodId) (args : Array Value) (below : List Frame) (meth : Method) (c : Code) (dC : Nat → ClassId) (dI : Nat → Nat → Nat) (tc : Nat → ClassId) (A : Nat → Prop) (w0 : Wd) (θ0 θ : Nat → Nat) (fe : Nat → List Value) (w : Wd) (H : Heap) (locs : List Loc) (cells slots : Nat) (ls st : List Vl) (lsJ : Array Slot) (m pc : Nat) (Qm : Out → Wd → Prop), p.tables.exec = Jvm.exec → e.platform.stackTraces = false → Stc A s → (∀ w ∈ lw_all, w.before args s = true) → (∀ w ∈ nws, va_Nw w s) → (∀ q, s.heap.size ≤ q → A q) → Mth m s mid meth c → (inf m).2.2.1 ≤ R.frames → 45 * (inf m).2.2.1 ≤ R.locals → wpn n m pc ls st w Qm → Fr dC dI tc A s R w0 θ fe w H locs cells slots → Ls θ (nx w) ls lsJ (inf m).2.1 → (∀ v ∈ st, okv (nx w) v) → Stb m w0 θ0 θ → W p l e R s mid args below meth c H locs cells slots (Fin below s R dC dI tc A w0 θ0 m Qm) (F0 mid pc lsJ (st.map (vlv θ)))
section Call
variable {p : Program} {l : Launch} {e : Env} {R : Room} {s : State} {mid : MethodId} {args : Array Value} {below : List Frame} {meth : Method} {c : Code} {dC : Nat → ClassId} {dI : Nat → Nat → Nat} {tc : Nat → ClassId} {A : Nat → Prop} {w0 : Wd} {θ0 : Nat → Nat} {θ : Nat → Nat} {fe : Nat → List Value} {w : Wd} {H : Heap} {locs : List Loc} {cells slots : Nat} {ls st : List Vl} {lsJ : Array Slot} {m pc len : Nat} {Qm : Out → Wd → Prop}
theorem Wok.cw {w : Wd} (h : Wok w) : Cw w ≤ 123881 ∧ Sw w ≤ 1245760 := by
  have h1 := h.1
  have h2 := h.rs
  unfold Cw Sw
  omega
theorem nw_warm {s U : State} (hW : s.WarmedH U.vm) (h : ∀ w ∈ nws, va_Nw w s) : ∀ w ∈ nws, va_Nw w U := by
  intro w hw
  have hz := h w hw
  simp only [nws, List.mem_cons, List.not_mem_nil, or_false] at hw
  rcases hw with rfl | rfl | rfl | rfl | rfl | rfl | rfl | rfl | rfl | rfl <;> first | exact va_Nw.warmM hW hz | exact va_Nw.warmC hW hz
/-- the callee's frame at its entry -/
theorem fr_call {s' : State} {R' : Room} (hA : ∀ q, s.heap.size ≤ q → A q) (hF : Fr dC dI tc A s R w0 θ fe w H locs cells slots) (hv : s.WarmedH s'.vm) (hh : s'.heap = H) (hR1 : R'.cells = R.cells - cells) (hR2 : R'.slots = R.slots - slots) : Fr dC dI tc (va_A (wsf θ fe tc w) H.size) s' R' w θ fe w H [] 0 0 ∧ cells + R'.cells ≤ R.cells ∧ slots + R'.slots ≤ R.slots := by
  obtain ⟨hK, hP, hD, hS, hW, ⟨b1, b2, b3⟩, ⟨r1, r2⟩, hSt, L, xs, g1, g2, g3, g4, g5, g6, g7, g8⟩ := hF
  obtain ⟨c1, c2⟩ := hW.cw
  have hvm := hv.alike
  have hAA : ∀ q, va_A (wsf θ fe tc w) H.size q → A q := fun q h => by
    rcases h with ⟨k, x, hk⟩ | h
    · exact hD.2 k _ hk
    · exact hA q (Nat.le_trans hS.1 h)
  have hkeep : ∀ a : Nat, a < s.heap.size → ¬ A a → s'.heap[a]? = s.heap[a]? := fun a h1 h2 => by rw [hh]; exact hS.2.1 a h1 h2
  refine ⟨⟨va_K.moved hvm hK, hP, hD.self, by rw [hh]; exact va_S.rf, hW, ⟨by omega, by omega, Nat.le_refl _, fun _ _ => rfl⟩, ⟨by omega, by omega⟩, fun i h2 h38 => ?_, L, xs, ?_, ?_, fun h => g3 (hAA _ h), g4, g5, g6, g7, g8⟩, by omega, by omega⟩
  · obtain ⟨v, q1, q2, q3, q4, q5⟩ := hSt i h2 h38
    exact ⟨v, q1.warm hv, ((q2.moved hvm).kept hkeep).narrow hAA, ((q3.moved hvm).kept hkeep).narrow hAA, ((q4.moved hvm).kept hkeep).narrow hAA, ((q5.moved hvm).kept hkeep).narrow hAA⟩
  · exact (g1.moved hvm).kept (hkeep _ g2 g3)
  · rw [hh]; exact Nat.lt_of_lt_of_le g2 hS.1
theorem stc_call {s' : State} (hA : ∀ q, s.heap.size ≤ q → A q) (hF : Fr dC dI tc A s R w0 θ fe w H locs cells slots) (hv : s.WarmedH s'.vm) (hh : s'.heap = H) (hZ : Stc A s) : Stc (va_A (wsf θ fe tc w) H.size) s' := by
  obtain ⟨hK, hP, hD, hS, -⟩ := hF
  have hvm := hv.alike
  have hAA : ∀ q, va_A (wsf θ fe tc w) H.size q → A q := fun q h => by
    rcases h with ⟨k, x, hk⟩ | h
    · exact hD.2 k _ hk
    · exact hA q (Nat.le_trans hS.1 h)
  have hkeep : ∀ a : Nat, a < s.heap.size → ¬ A a → s'.heap[a]? = s.heap[a]? := fun a h1 h2 => by rw [hh]; exact hS.2.1 a h1 h2
  obtain ⟨z1, z2, z3, z4⟩ := hZ
  exact ⟨((va_Z.moved hvm z1).kept hkeep).narrow hAA, ((va_L.moved hvm z2).kept hkeep).narrow hAA, ((va_L.moved hvm z3).kept hkeep).narrow hAA, ((va_Zq.moved hvm z4).kept hkeep).narrow hAA⟩
/-- the caller's frame behind the call -/
theorem fr_back {s' : State} {R' : Room} {θ' : Nat → Nat} {fe' : Nat → List Value} {w' : Wd} {H' : Heap} {L : List Loc} {k n m2 : Nat} (hA : ∀ q, s.heap.size ≤ q → A q) (hF : Fr dC dI tc A s R w0 θ fe w H locs cells slots) (hv : s.WarmedH s'.vm) (hh : s'.heap = H) (hF' : Fr dC dI tc (va_A (wsf θ fe tc w) H.size) s' R' w θ' fe' w' H' L k n) (hst : ∀ a, a < 50 → θ' a = θ a) : Fr dC dI tc A s R w0 θ' fe' w' H' (locs ++ L) (cells + k) (slots + n) := by
  obtain ⟨hK, hP, hD, hS, hW, ⟨b1, b2, b3, b4⟩, hR, hSt, L0, xs, g1, g2, g3, g4, g5, g6, g7, g8⟩ := hF
  obtain ⟨-, hP', hD', hS', hW', ⟨c1, c2, c3, c4⟩, -, -, L1, xs', k1, k2, k3, k4, k5, k6, k7, k8⟩ := hF'
  have hAA : ∀ q, va_A (wsf θ fe tc w) H.size q → A q := fun q h => by
    rcases h with ⟨k, x, hk⟩ | h
    · exact hD.2 k _ hk
    · exact hA q (Nat.le_trans hS.1 h)
  rw [hh] at hS'
  refine ⟨hK, hP', hD'.weaken (fun _ _ _ h => hAA _ h), ⟨Nat.le_trans hS.1 hS'.1, fun q h1 h2 => ?_, fun q hq => ?_⟩, hW', ⟨by omega, by omega, by omega, fun a ha => ?_⟩, hR, fun i h2 h38 => ?_, L0, xs, ?_, ?_, ?_, k4, k5, ?_, g7, fun j hj => ?_⟩
  · rw [hS'.2.1 q (Nat.lt_of_lt_of_le h1 hS.1) (fun h => h2 (hAA q h))]
    exact hS.2.1 q h1 h2
  · rcases List.mem_append.mp hq with h | h
    · exact hS.2.2 q h
    · exact hAA _ (hS'.2.2 q h)
  · rw [c4 a (by omega)]
    exact b4 a ha
  · rw [hst i (by omega)]
    exact hSt i h2 h38
  · rw [hst 1 (by omega)]; exact g1
  · rw [hst 1 (by omega)]; exact g2
  · rw [hst 1 (by omega)]; exact g3
  · have := c4 1 (by have := hW.1.1; omega)
    show (w'.2.2.1 1).2 = L0
    rw [this]
    exact g6
  · have e1 : L1 = L0 := by
      have := c4 1 (by have := hW.1.1; omega)
      have k6 : (w'.2.2.1 1).2 = L1 := k6
      rw [this] at k6
      exact k6.symm.trans g6
    subst e1
    rw [k8 j hj]
    obtain ⟨scr, q1, q2, q3, q4, q5⟩ := g1
    obtain ⟨scr', p1, p2, p3, p4, p5⟩ := k1
    rw [hst 1 (by omega), hh, hS.2.1 _ g2 g3, q1] at p1
    cases p1
    have := (p5 j hj).symm.trans (q5 j hj)
    simp only [Option.some.injEq, Value.int.injEq] at this
    rw [this]
theorem stb_e {m2 a : Nat} (h : stb w m2 (vr a) = true) : mvb m2 w a = false ∨ (inf m2).1 = 19 := by
  unfold stb at h
  simp only [Bool.and_eq_true, Bool.not_eq_true'] at h
  by_cases q : (inf m2).1 = 19
  · exact Or.inr q
  · left
    unfold mvb
    rw [h.1, nbeq q]
    simpa using h.2
theorem cat_sum {θ : Nat → Nat} : ∀ st : List Vl, ((st.map (vlv θ)).map fun v => v.category).sum = wt st
  | [] => rfl
  | .inl x :: t => by
    simp only [List.map_cons, List.sum_cons, cat_sum t, wt]
    rfl
  | .inr (.inl x) :: t => by
    simp only [List.map_cons, List.sum_cons, cat_sum t, wt]
    rfl
  | .inr (.inr (.inl x)) :: t => by
    simp only [List.map_cons, List.sum_cons, cat_sum t, wt]
    rfl
  | .inr (.inr (.inr ())) :: t => by
    simp only [List.map_cons, List.sum_cons, cat_sum t, wt]
    rfl
theorem cell_x {a : Nat} (hF : Fr dC dI tc A s R w0 θ fe w H locs cells slots) (ht : tg w a = 18) : 50 ≤ a ∧ a < nx w ∧ (wsf θ fe tc w)[a - 50]? = some (θ a, .inr (17, fe a)) := by
  have hW := hF.2.2.2.2.1
  have hb := (hW.2.1 a).mp (by rw [ht]; rfl)
  refine ⟨hb.1, hb.2, ?_⟩
  rw [wsf_at hb.1 hb.2]
  unfold ety
  rw [show (w.2.2.1 a).1 = 18 from ht]
  rfl
theorem inf19 : ∀ m, m < 399 → (inf m).1 ≠ 19 := by decide +kernel
theorem call_sim {n m2 : Nat} {as rest : List Vl} {ig : Jvm.ClassFile.Instr} (hB : Brg n) (hx : p.tables.exec = Jvm.exec) (htr : e.platform.stackTraces = false) (hZ : Stc A s) (hts : ∀ w ∈ lw_all, w.before args s = true) (hnw : ∀ w ∈ nws, va_Nw w s) (hA : ∀ q, s.heap.size ≤ q → A q) (hM : Mth m s mid meth c) (hf1 : (inf m).2.2.1 ≤ R.frames) (hf2 : 45 * (inf m).2.2.1 ≤ R.locals)
    (hF : Fr dC dI tc A s R w0 θ fe w H locs cells slots) (hl : Ls θ (nx w) ls lsJ (inf m).2.1) (hsA : ∀ v ∈ as, okv (nx w) v) (hsR : ∀ v ∈ rest, okv (nx w) v) (hsb : Stb m w0 θ0 θ) (hdg : decode c.code pc = .ok (ig, 3)) (hm2 : m2 < 399) (hdep : (inf m2).2.2.1 + 1 ≤ (inf m).2.2.1) (hwt : wt rest ≤ 8) (hwa : wt as ≤ (inf m2).2.1)
    (hstl : ∀ v ∈ ls, stb w m2 v = true) (hstr : ∀ v ∈ rest, stb w m2 v = true) (hmv : m2 = 4 ∨ m2 = 231 → (inf m).1 = 19)
    (hI : ∀ T, T.heap = H → Stand p l e R s mid args below meth c T locs cells slots → Into p l e R s mid args below meth c T locs cells slots (F0 mid pc lsJ (st.map (vlv θ))) (rest.map (vlv θ)) (yn m2) (as.map (vlv θ)).toArray) (hc : wpn n m2 0 (ent m2 as) [] w (aft (wpn n) m pc ls rest Qm)) :
    W p l e R s mid args below meth c H locs cells slots (Fin below s R dC dI tc A w0 θ0 m Qm) (F0 mid pc lsJ (st.map (vlv θ))) := by
  intro T hT X
  obtain ⟨vm₁, mk, X₁, hnamed, hstep⟩ := hI T hT X
  have hWs : s.WarmedH ((T.setVm vm₁).calling (F0 mid pc lsJ (rest.map (vlv θ))) mk (as.map (vlv θ)).toArray).vm := X₁.warmed
  have hts' : ∀ w ∈ lw_all, w.before (as.map (vlv θ)).toArray ((T.setVm vm₁).calling (F0 mid pc lsJ (rest.map (vlv θ))) mk (as.map (vlv θ)).toArray) = true := fun w hw => pay_in hts lw_self w hw _ _ hWs
  obtain ⟨methk, ck, hmk, hck, hMk, hpl⟩ := mth_of (a := (as.map (vlv θ)).toArray) hm2 hts' (mk := mk) hnamed
  have hcs := cat_sum (θ := θ) rest
  have hlo : 2 * (F0 mid pc lsJ (rest.map (vlv θ))).monitorRoom + ((rest.map (vlv θ)).map fun v => v.category).sum ≤ 8 := lv_room (by rw [hcs]; exact hwt)
  have hnl := (inf_small m2 (by omega)).2.1
  have hml := hMk.2.2.2.2.1
  obtain ⟨hFc, hr1, hr2⟩ := fr_call (s' := (T.setVm vm₁).calling (F0 mid pc lsJ (rest.map (vlv θ))) mk (as.map (vlv θ)).toArray) (R' := { frames := R.frames - 1, cells := R.cells - cells, slots := R.slots - slots, locals := 45 * (inf m2).2.2.1 }) hA hF hWs hT rfl rfl
  obtain ⟨Y, hin⟩ := X₁.into (g := F0 mid pc lsJ (rest.map (vlv θ))) rfl (by rw [hM.2.2.2.2.1]; exact hl.2.1.1) hdg (as.map (vlv θ)).toArray (R' := { frames := R.frames - 1, cells := R.cells - cells, slots := R.slots - slots, locals := 45 * (inf m2).2.2.1 }) hmk hck hMk.2.2.2.1 hpl (by show R.frames - 1 + 1 ≤ _; omega) (by show 2 * (F0 mid pc lsJ (rest.map (vlv θ))).monitorRoom + ((rest.map (vlv θ)).map fun v => v.category).sum + (ck.maxLocals + 11) + 45 * (inf m2).2.2.1 ≤ R.locals; rw [hml]; omega) hr1 hr2
  have hW1 := hB p l e { frames := R.frames - 1, cells := R.cells - cells, slots := R.slots - slots, locals := 45 * (inf m2).2.2.1 } ((T.setVm vm₁).calling (F0 mid pc lsJ (rest.map (vlv θ))) mk (as.map (vlv θ)).toArray) mk (as.map (vlv θ)).toArray (.java (F0 mid pc lsJ (rest.map (vlv θ))) :: below) methk ck dC dI tc (va_A (wsf θ fe tc w) H.size) w θ θ fe w H [] 0 0 (ent m2 as) [] _ m2 0 (aft (wpn n) m pc ls rest Qm) hx htr (stc_call hA hF hWs hT hZ) hts' (nw_warm hWs hnw) (fun q h => Or.inr (by have h : T.heap.size ≤ q := h; rw [hT] at h; exact h)) hMk (by show _ ≤ R.frames - 1; omega) (Nat.le_refl _) hc hFc (ent_ls hsA hwa) (fun v hv => by cases hv) (fun _ _ _ => rfl)
  rw [hml, lg_entry_eq] at hin Y
  obtain ⟨t, hst, o, w', θ', fe', oc, L, k, n', hq, hrun, hend, hWt, hsame, hout, hFr, hstb⟩ := hW1 _ (show (((T.setVm vm₁).setTop (F0 mid pc lsJ (rest.map (vlv θ)))).pushFrame _).heap = H from hT) Y
  have hin := hin []
  have h50 : ∀ a, a < 50 → θ' a = θ a := fun a ha => by
    have hW := hF.2.2.2.2.1
    refine hstb a (by have := hW.1.1; omega) ?_
    unfold mvb
    have h55 : tg w a ≠ 55 := fun q => by
      have : tcell (tg w a) = true := by rw [q]; rfl
      have := (hW.2.1 a).mp this
      omega
    have hib : inb a = false := by
      unfold inb
      rw [show Nat.ble 171 a = false from by cases hb : Nat.ble 171 a with | false => rfl | true => exact absurd (Nat.le_of_ble_eq_true hb) (by omega), show Nat.ble 227 a = false from by cases hb : Nat.ble 227 a with | false => rfl | true => exact absurd (Nat.le_of_ble_eq_true hb) (by omega)]
      rfl
    rw [nbeq h55, hib]
    simp
  have hFb := fr_back (m2 := m2) hA hF hWs hT hFr h50
  have hθ : ∀ (v : List Vl), (∀ x ∈ v, okv (nx w) x) → (∀ x ∈ v, stb w m2 x = true) → ∀ a, vr a ∈ v → θ' a = θ a := fun v h1 h2 a ha => by
    refine hstb a (h1 _ ha).2 ?_
    rcases stb_e (h2 _ ha) with q | q
    · exact q
    · exact absurd q (inf19 m2 hm2)
  have hnx : nx w ≤ nx w' := hFr.2.2.2.2.2.1.2.2.1
  have hl' : Ls θ' (nx w') ls lsJ (inf m).2.1 := hl.ext hnx (hθ ls hl.2.2 hstl)
  have hsR' := okv_ext hsR hnx
  have hTp := hF.2.2.2.2.2.1.2.2
  have hsb' : Stb m w0 θ0 θ' := fun a ha hmva => by
    rw [← hsb a ha hmva]
    refine hstb a (Nat.lt_of_lt_of_le ha hTp.1) ?_
    have e1 : tg w a = tg w0 a := by show (w.2.2.1 a).1 = _; rw [hTp.2 a ha]
    unfold mvb at hmva ⊢
    rw [e1, nbeq (inf19 m2 hm2)]
    rw [Bool.or_eq_false_iff] at hmva ⊢
    refine ⟨hmva.1, ?_⟩
    rw [Bool.and_eq_false_iff] at hmva ⊢
    rcases hmva.2 with q | q
    · left
      by_cases h4 : m2 = 4 ∨ m2 = 231
      · rw [hmv h4] at q
        simp at q
      · rw [nbeq (fun z => h4 (Or.inl z)), nbeq (fun z => h4 (Or.inr z))]
        rfl
    · right
      exact q
  have hwk := Steps.weaken (mid := [.java (F0 mid pc lsJ (rest.map (vlv θ)))]) hst
  have hch : ∀ target, Steps p.tables e below t target → Steps p.tables e below (T.setTop (F0 mid pc lsJ (st.map (vlv θ)))) target := fun target h => hstep target (by
    have h2 := hwk.trans h
    show Steps p.tables e below (doInvoke e ((T.setVm vm₁).setTop (F0 mid pc lsJ (rest.map (vlv θ)))) [] mk (as.map (vlv θ)).toArray).1 target
    rw [hin]
    exact h2)
  match o, hq, hout with
  | .inl r, hq, hout =>
    have hr : ∃ v : Option Value, oc = .returned v ∧ v.toList = r.map (vlv θ') ∧ ∀ x ∈ r, okv (nx w') x := by
      match r, hout with
      | [], h => exact ⟨none, h, rfl, fun x hx => by cases hx⟩
      | [x], h => exact ⟨some _, h.1, rfl, fun y hy => by rw [List.mem_singleton.mp hy]; exact h.2⟩
    obtain ⟨v, rfl, hv, hokr⟩ := hr
    obtain ⟨T', X', -, -, ht⟩ := X₁.outOf (g := F0 mid pc lsJ (rest.map (vlv θ))) rfl hdg hend hWt hsame
    have hc2 := hB p l e R s mid args below meth c dC dI tc A w0 θ0 θ' fe' w' t.heap (locs ++ L) (cells + k) (slots + n') ls (r ++ rest) lsJ m (pc + 3) Qm hx htr hZ hts hnw hA hM hf1 hf2 hq hFb hl' (fun x hx => by
      rcases List.mem_append.mp hx with h | h
      · exact hokr x h
      · exact hsR' x h) hsb'
    have hTh : T'.heap = t.heap := by rw [ht]; rfl
    obtain ⟨u, hu, hfin⟩ := hc2 T' hTh X'
    refine ⟨u, hch u ?_, hfin⟩
    rw [ht]
    have e1 : (F0 mid (pc + 3) lsJ ((r ++ rest).map (vlv θ'))) = { F0 mid pc lsJ (rest.map (vlv θ)) with pc := pc + 3, stack := v.toList ++ rest.map (vlv θ) } := by
      rw [List.map_append, hv, vlv_ext (hθ rest hsR hstr)]
    rw [e1] at hu
    exact hu
  | .inr x, hq, hout =>
    obtain ⟨rfl, h18⟩ := hout
    obtain ⟨T', X', -, -, ht⟩ := X₁.outOfThrown (g := F0 mid pc lsJ (rest.map (vlv θ))) rfl hend hWt hsame
    have hTh : T'.heap = t.heap := by rw [ht]; rfl
    by_cases hh : m = 4 ∧ 17 ≤ pc ∧ pc ≤ 57
    · obtain ⟨rfl, h17, h57⟩ := hh
      obtain ⟨x0, htab, x1, x2, x3, x4⟩ := hM.2.2.2.2.2.2.2.2 rfl
      have hown := hM.2.2.2.2.2.1
      obtain ⟨c50, cnx, cat⟩ := cell_x hFb h18
      obtain ⟨cell, hce, hob, hcl⟩ := va_recv hFb.1 hFb.2.1 (ci := 17) rfl cat
      have hcv : covers x0 pc = true := by
        unfold covers
        rw [x1, x2]
        simp only [Bool.and_eq_true, decide_eq_true_eq]
        omega
      obtain ⟨vm', X2, hs2⟩ := catch_cold X' (own := "SafeCode") hown htab (by rw [x4]; exact hts _ q1078) (by rw [x4]; decide) (a := θ' x) (cell := cell) (by rw [hTh]; exact hce) hob hcl rfl (g := F0 mid pc lsJ (rest.map (vlv θ))) rfl hcv
      have hq' : wpn n 4 61 ls [vr x] w' Qm := by
        have hq : thr 4 pc (fun h => wpn n 4 h ls [vr x] w' Qm) (Qm (.inr x) w') := hq
        unfold thr at hq
        rw [Nat.ble_eq_true_of_le h17, Nat.ble_eq_true_of_le h57] at hq
        exact hq
      have hc2 := hB p l e R s mid args below meth c dC dI tc A w0 θ0 θ' fe' w' t.heap (locs ++ L) (cells + k) (slots + n') ls [vr x] lsJ 4 61 Qm hx htr hZ hts hnw hA hM hf1 hf2 hq' hFb hl' (fun y hy => by rw [List.mem_singleton.mp hy]; exact ⟨by omega, cnx⟩) hsb'
      obtain ⟨u, hu, hfin⟩ := hc2 (T'.setVm vm') hTh X2
      refine ⟨u, hch u ?_, hfin⟩
      rw [ht]
      refine hs2 u ?_
      rw [x3]
      exact hu
    · have hq' : Qm (.inr x) w' := by
        have hq : thr m pc (fun h => wpn n m h ls [vr x] w' Qm) (Qm (.inr x) w') := hq
        unfold thr at hq
        have : (Nat.beq m 4 && Nat.ble 17 pc && Nat.ble pc 57) = false := by
          cases hb : (Nat.beq m 4 && Nat.ble 17 pc && Nat.ble pc 57) with
          | false => rfl
          | true =>
            rw [Bool.and_eq_true, Bool.and_eq_true] at hb
            exact absurd ⟨Nat.eq_of_beq_eq_true hb.1.1, Nat.le_of_ble_eq_true hb.1.2, Nat.le_of_ble_eq_true hb.2⟩ hh
        rw [this] at hq
        exact hq
      have hou : ∀ y ∈ c.exceptionTable.toList, covers y pc = false := fun y hy => by
        by_cases h4 : m = 4
        · subst h4
          obtain ⟨x0, htab, x1, x2, -⟩ := hM.2.2.2.2.2.2.2.2 rfl
          rw [htab] at hy
          rw [List.mem_singleton.mp hy]
          unfold covers
          rw [x1, x2]
          by_cases h : 17 ≤ pc ∧ pc < 58
          · exact absurd ⟨rfl, h.1, by omega⟩ hh
          · simpa using h
        · rw [hM.2.2.2.2.2.2.2.1 h4] at hy
          cases hy
      obtain ⟨k1, k2, k3, k4, k5⟩ := X'.leaveThrown (θ' x) (g := F0 mid pc lsJ (rest.map (vlv θ))) rfl rfl rfl hou hM.2.2.2.1
      refine ⟨_, hch _ (by rw [ht]; exact k1), .inr x, w', θ', fe', .threw (θ' x), locs ++ L, cells + k, slots + n', hq', k2, k3, k4, k5, ⟨rfl, h18⟩, fr_end hFb hTh hFb.2.2.2.1.2.2, hsb'⟩
end Call
