/-! what a method's end says; methods by their numbers; their entry -/
set_option maxRecDepth 100000
/-- what a call of the method m may move -/
def mvb (m : Nat) (w : Wd) (a : Nat) : Bool := Nat.beq (tg w a) 55 || ((Nat.beq m 4 || Nat.beq m 231 || Nat.beq (inf m).1 19) && inb a)
def Stb (m : Nat) (w0 : Wd) (θ0 θ : Nat → Nat) : Prop := ∀ a, a < nx w0 → mvb m w0 a = false → θ a = θ0 a
def outR (θ : Nat → Nat) (w : Wd) (o : Out) (oc : Outcome) : Prop := match o with
  | .inl [] => oc = .returned none
  | .inl [v] => oc = .returned (some (vlv θ v)) ∧ okv (nx w) v
  | .inl _ => False
  | .inr x => oc = .threw (θ x) ∧ tg w x = 18
def Fin (below : List Frame) (s : State) (R : Room) (dC : Nat → ClassId) (dI : Nat → Nat → Nat) (tc : Nat → ClassId) (A : Nat → Prop) (w0 : Wd) (θ0 : Nat → Nat) (m : Nat) (Qm : Out → Wd → Prop) : State → Prop := fun t =>
  ∃ (o : Out) (w' : Wd) (θ' : Nat → Nat) (fe' : Nat → List Value) (oc : Outcome) (L : List Loc) (k n : Nat), Qm o w' ∧ t.status = .running ∧ Ended t below oc ∧ s.WarmedH t.vm ∧ s.sameButNew ({ t with vm := s.vm } : State) L k n ∧ outR θ' w' o oc ∧ Fr dC dI tc A s R w0 θ' fe' w' t.heap L k n ∧ Stb m w0 θ0 θ'
def Mth (m : Nat) (U : State) (mk : MethodId) (meth : Method) (c : Code) : Prop :=
  m ≤ 399 ∧ (∀ pc i len, lk (tb m) pc = some (i, len) → okI pc i len = true ∧ decode c.code pc = .ok (i, len)) ∧ meth.sig.returnType = rtT (inf m).2.2.2.1 ∧ meth.locks = false ∧ c.maxLocals = (inf m).2.1 ∧ U.vm.findClass (owS (inf m).1) = some mk.cls ∧ (1 ≤ (inf m).2.2.2.2 → meth.name = "<init>") ∧ (m ≠ 4 → c.exceptionTable.toList = []) ∧ (m = 4 → ∃ x, c.exceptionTable.toList = [x] ∧ x.startPc = 17 ∧ x.endPc = 58 ∧ x.handlerPc = 61 ∧ x.catchType = 117)
theorem inf_small : ∀ m, m < 400 → (inf m).2.2.2.2 ≤ 1 ∧ (inf m).2.1 ≤ 26 ∧ (inf m).2.2.2.1 ≤ 4 := by decide +kernel
theorem mth_of {m : Nat} {U : State} {a : Array Value} {mk : MethodId} (hm : m < 399) (hts : ∀ w ∈ lw_all, w.before a U = true) (hn : U.methodNamed? (yn m) = some mk) : ∃ meth c, U.vm.method? mk = some meth ∧ meth.code = some c ∧ Mth m U mk meth c ∧ U.plainMethod mk := by
  by_cases h4 : m = 4
  · subst h4
    obtain ⟨mk', meth, c, h1, h2, h3, h5, h6, h7, h8, h9, -⟩ := Cond.codeWith_spec (hts _ q1077)
    have hn' : U.methodNamed? (yn 4) = some mk' := h1
    cases hn.symm.trans hn'
    refine ⟨meth, c, h2, h3, ⟨by omega, fun pc i len hl => ?_, h8, h9, h6, findClass_of_methodNamed h1, fun h => absurd h (by decide), fun h => absurd rfl h, fun _ => ?_⟩, State.plainMethod.of_named (plainFor_of_name (by decide +kernel)) h1 h2⟩
    · have := chk_at (b := c.code) (l := t_X0_load) (by rw [h5]; exact k_X0_load) hl
      exact this
    · have hlen : c.exceptionTable.toList.length = 1 := by
        have := congrArg List.length h7
        simpa using this
      match hx : c.exceptionTable.toList, hlen with
      | [x], _ =>
        rw [hx] at h7
        simp only [List.map_cons, List.map_nil, List.cons.injEq, Prod.mk.injEq, and_true] at h7
        exact ⟨x, rfl, h7.1, h7.2.1, h7.2.2.1, h7.2.2.2⟩
  · obtain ⟨g1, g2, g3, g4, g5⟩ := mt_all (by omega) h4 (by omega : m ≠ 399)
    obtain ⟨meth, c, h1, h2, h3, h5, h6, h7, h8, -⟩ := Cond.code_spec hn (hts _ g1)
    refine ⟨meth, c, h1, h2, ⟨by omega, fun pc i len hl => ?_, h6, h7, h5, by rw [← g2]; exact findClass_of_methodNamed hn, fun h => ?_, fun _ => ?_, fun h => absurd h h4⟩, State.plainMethod.of_named g3 hn h1⟩
    · exact chk_at (b := c.code) (by rw [h3]; exact g5) hl
    · rw [(name_of_methodNamed hn h1).1]
      exact g4 (by have := (inf_small m (by omega)).1; omega)
    · have h0 : c.exceptionTable.size = 0 := by simpa [Array.isEmpty] using h8
      exact List.eq_nil_of_length_eq_zero (by simpa using h0)
section Entry
variable {θ : Nat → Nat} {n : Nat}
theorem lcl_len (θ : Nat → Nat) : ∀ as : List Vl, (lg_sl (as.map (vlv θ))).length = (lcl as).length
  | [] => rfl
  | .inl x :: t => by
    have := lcl_len θ t
    simp only [List.map_cons, lg_sl, List.flatMap_cons, List.length_append, lcl, List.length_cons] at this ⊢
    rw [this]
    show 1 + _ = _
    omega
  | .inr (.inl x) :: t => by
    have := lcl_len θ t
    simp only [List.map_cons, lg_sl, List.flatMap_cons, List.length_append, lcl, List.length_cons] at this ⊢
    rw [this]
    show 2 + _ = _
    omega
  | .inr (.inr (.inl x)) :: t => by
    have := lcl_len θ t
    simp only [List.map_cons, lg_sl, List.flatMap_cons, List.length_append, lcl, List.length_cons] at this ⊢
    rw [this]
    show 1 + _ = _
    omega
  | .inr (.inr (.inr ())) :: t => by
    have := lcl_len θ t
    simp only [List.map_cons, lg_sl, List.flatMap_cons, List.length_append, lcl, List.length_cons] at this ⊢
    rw [this]
    show 1 + _ = _
    omega
theorem lcl_wt : ∀ as : List Vl, (lcl as).length = wt as
  | [] => rfl
  | .inl x :: t => by simp only [lcl, wt, List.length_cons, lcl_wt t]; omega
  | .inr (.inl x) :: t => by simp only [lcl, wt, List.length_cons, lcl_wt t]; omega
  | .inr (.inr (.inl x)) :: t => by simp only [lcl, wt, List.length_cons, lcl_wt t]; omega
  | .inr (.inr (.inr ())) :: t => by simp only [lcl, wt, List.length_cons, lcl_wt t]; omega
/-- what a method's locals hold at its entry -/
theorem ent_prl (θ : Nat → Nat) (r : Nat) : ∀ (as : List Vl) (i : Nat) (q : Nat × Value), prl θ (lcl as ++ List.replicate r vu) i = some q → ∀ k, (k + q.1, q.2) ∈ lv_args k (as.map (vlv θ))
  | [], i, q, h => by
    exfalso
    unfold prl at h
    simp only [lcl, List.nil_append] at h
    have : ∀ v, (List.replicate r vu)[i]? = some v → v = vu := fun v hv => List.eq_of_mem_replicate (List.mem_of_getElem? hv)
    split at h
    · next e => cases this _ e
    · next e => cases this _ e
    · next e => cases this _ e
    · cases h
  | .inl x :: t, i, q, h => fun k => by
    match i, h with
    | 0, h => cases h; exact List.mem_cons_self
    | i + 1, h =>
      have e : prl θ (lcl (.inl x :: t) ++ List.replicate r vu) (i + 1) = (prl θ (lcl t ++ List.replicate r vu) i).map fun q => (q.1 + 1, q.2) := by
        unfold prl
        simp only [lcl, List.cons_append, List.getElem?_cons_succ]
        split
        · rfl
        · split <;> rfl
        · rfl
        · rfl
      rw [e] at h
      obtain ⟨q', hq', rfl⟩ := Option.map_eq_some_iff.mp h
      have := ent_prl θ r t i q' hq' (k + 1)
      refine List.mem_cons_of_mem _ ?_
      show (k + (q'.1 + 1), q'.2) ∈ lv_args (k + 1) _
      rwa [show k + (q'.1 + 1) = k + 1 + q'.1 by omega]
  | .inr (.inr (.inl x)) :: t, i, q, h => fun k => by
    match i, h with
    | 0, h => cases h; exact List.mem_cons_self
    | i + 1, h =>
      have e : prl θ (lcl (.inr (.inr (.inl x)) :: t) ++ List.replicate r vu) (i + 1) = (prl θ (lcl t ++ List.replicate r vu) i).map fun q => (q.1 + 1, q.2) := by
        unfold prl
        simp only [lcl, List.cons_append, List.getElem?_cons_succ]
        split
        · rfl
        · split <;> rfl
        · rfl
        · rfl
      rw [e] at h
      obtain ⟨q', hq', rfl⟩ := Option.map_eq_some_iff.mp h
      have := ent_prl θ r t i q' hq' (k + 1)
      refine List.mem_cons_of_mem _ ?_
      show (k + (q'.1 + 1), q'.2) ∈ lv_args (k + 1) _
      rwa [show k + (q'.1 + 1) = k + 1 + q'.1 by omega]
  | .inr (.inr (.inr ())) :: t, i, q, h => fun k => by
    match i, h with
    | 0, h => cases h
    | i + 1, h =>
      have e : prl θ (lcl (.inr (.inr (.inr ())) :: t) ++ List.replicate r vu) (i + 1) = (prl θ (lcl t ++ List.replicate r vu) i).map fun q => (q.1 + 1, q.2) := by
        unfold prl
        simp only [lcl, List.cons_append, List.getElem?_cons_succ]
        split
        · rfl
        · split <;> rfl
        · rfl
        · rfl
      rw [e] at h
      obtain ⟨q', hq', rfl⟩ := Option.map_eq_some_iff.mp h
      have := ent_prl θ r t i q' hq' (k + 1)
      refine List.mem_cons_of_mem _ ?_
      show (k + (q'.1 + 1), q'.2) ∈ lv_args (k + 1) _
      rwa [show k + (q'.1 + 1) = k + 1 + q'.1 by omega]
  | .inr (.inl x) :: t, i, q, h => fun k => by
    match i, h with
    | 0, h => cases h; exact List.mem_cons_self
    | 1, h => cases h
    | i + 2, h =>
      have e : prl θ (lcl (.inr (.inl x) :: t) ++ List.replicate r vu) (i + 2) = (prl θ (lcl t ++ List.replicate r vu) i).map fun q => (q.1 + 2, q.2) := by
        unfold prl
        simp only [lcl, List.cons_append, List.getElem?_cons_succ]
        split
        · rfl
        · split <;> rfl
        · rfl
        · rfl
      rw [e] at h
      obtain ⟨q', hq', rfl⟩ := Option.map_eq_some_iff.mp h
      have := ent_prl θ r t i q' hq' (k + 2)
      refine List.mem_cons_of_mem _ ?_
      show (k + (q'.1 + 2), q'.2) ∈ lv_args (k + 2) _
      rwa [show k + (q'.1 + 2) = k + 2 + q'.1 by omega]
theorem lcl_mem : ∀ (as : List Vl) (v : Vl), v ∈ lcl as → v ∈ as ∨ v = vu
  | [], v, h => by cases h
  | .inl x :: t, v, h => by
    rcases List.mem_cons.mp h with rfl | h
    · exact Or.inl List.mem_cons_self
    · rcases lcl_mem t v h with h | h
      · exact Or.inl (List.mem_cons_of_mem _ h)
      · exact Or.inr h
  | .inr (.inr (.inl x)) :: t, v, h => by
    rcases List.mem_cons.mp h with rfl | h
    · exact Or.inl List.mem_cons_self
    · rcases lcl_mem t v h with h | h
      · exact Or.inl (List.mem_cons_of_mem _ h)
      · exact Or.inr h
  | .inr (.inr (.inr ())) :: t, v, h => by
    rcases List.mem_cons.mp h with rfl | h
    · exact Or.inl List.mem_cons_self
    · rcases lcl_mem t v h with h | h
      · exact Or.inl (List.mem_cons_of_mem _ h)
      · exact Or.inr h
  | .inr (.inl x) :: t, v, h => by
    rcases List.mem_cons.mp h with rfl | h
    · exact Or.inl List.mem_cons_self
    · rcases List.mem_cons.mp h with rfl | h
      · exact Or.inr rfl
      · rcases lcl_mem t v h with h | h
        · exact Or.inl (List.mem_cons_of_mem _ h)
        · exact Or.inr h
theorem ent_ls {m : Nat} {as : List Vl} (hok : ∀ v ∈ as, okv n v) (hw : wt as ≤ (inf m).2.1) : Ls θ n (ent m as) ((lg_sl (as.map (vlv θ)) ++ List.replicate ((inf m).2.1 - (lg_sl (as.map (vlv θ))).length) Slot.unset).toArray) (inf m).2.1 := by
  have hlen := lcl_len θ as
  have hwt := lcl_wt as
  refine ⟨?_, ?_, fun v hv => ?_⟩
  · unfold ent
    rw [List.length_append, List.length_replicate]
    omega
  · have := lv_entry (as.map (vlv θ)) (n := (inf m).2.1) (by omega)
    refine ⟨this.1, this.2.1, fun q hq => this.2.2 q ?_⟩
    have := ent_prl θ ((inf m).2.1 - (lcl as).length) as q.1 q (prs_mem.mp hq) 0
    rwa [Nat.zero_add] at this
  · unfold ent at hv
    rcases List.mem_append.mp hv with h | h
    · rcases lcl_mem as v h with h | rfl
      · exact hok v h
      · trivial
    · rw [List.eq_of_mem_replicate h]
      trivial
end Entry
