/-! a method's answer; an exception that leaves it -/
section Ret
variable {p : Program} {l : Launch} {e : Env} {R : Room} {s : State} {mid : MethodId} {args : Array Value} {below : List Frame} {meth : Method} {c : Code} {dC : Nat → ClassId} {dI : Nat → Nat → Nat} {tc : Nat → ClassId} {A : Nat → Prop} {w0 : Wd} {θ0 : Nat → Nat} {θ : Nat → Nat} {fe : Nat → List Value} {w : Wd} {H : Heap} {locs : List Loc} {cells slots : Nat} {ls st : List Vl} {lsJ : Array Slot} {m pc len : Nat} {Qm : Out → Wd → Prop}
theorem fr_end {L : List Loc} {t : State} (hF : Fr dC dI tc A s R w0 θ fe w H locs cells slots) (ht : t.heap = H) (hL : ∀ q ∈ L, A q.base) : Fr dC dI tc A s R w0 θ fe w t.heap L cells slots := by
  obtain ⟨h1, h2, h3, h4, h5⟩ := hF
  rw [ht]
  exact ⟨h1, h2, h3, ⟨h4.1, h4.2.1, hL⟩, h5⟩
theorem ret_fin {o : Out} {oc : Outcome} {t : State} (hF : Fr dC dI tc A s R w0 θ fe w H locs cells slots) (hq : Qm o w) (ho : outR θ w o oc) (hsb : Stb m w0 θ0 θ) (h : MQ below (fun _ _ o' t => o' = oc ∧ t.heap = H) args s cells slots A t) : Fin below s R dC dI tc A w0 θ0 m Qm t := by
  obtain ⟨o', h1, h2, ⟨rfl, h3⟩, L, ⟨-, h4, h5⟩, h6⟩ := h
  exact ⟨o, w, θ, fe, o', L, cells, slots, hq, h1, h2, h4, h5, ho, fr_end hF h3 h6, hsb⟩
theorem ret_sim (i : Jvm.ClassFile.Instr) (hx : p.tables.exec = Jvm.exec) (hM : Mth m s mid meth c) (hd : decode c.code pc = .ok (i, len)) (ho : okI pc i len = true) (he : exR m i st fun r => Qm (.inl r) w) (hF : Fr dC dI tc A s R w0 θ fe w H locs cells slots) (hs : ∀ v ∈ st, okv (nx w) v) (hsb : Stb m w0 θ0 θ) : W p l e R s mid args below meth c H locs cells slots (Fin below s R dC dI tc A w0 θ0 m Qm) (F0 mid pc lsJ (st.map (vlv θ))) := by
  have hlk : meth.locks = false := hM.2.2.2.1
  have hr := hM.2.2.1
  have hf : ∀ q ∈ locs, A q.base := hF.2.2.2.1.2.2
  unfold exR at he
  split at he
  · obtain rfl := lenK (K := 1) ho
    split at he
    · obtain ⟨h1, h2⟩ := gd_e he
      rw [Nat.eq_of_beq_eq_true h1] at hr
      exact W_mono (W.vret (Qc := fun _ _ o' t => o' = .returned none ∧ t.heap = H) (free := A) hx rfl hr (fun t ht _ => ⟨rfl, ht⟩) hf hd hlk) fun t ht => ret_fin hF h2 rfl hsb ht
    · exact he.elim
  · obtain rfl := lenK (K := 1) ho
    split at he
    · next x =>
      have hxx : okv (nx w) (vi x) := hs _ List.mem_cons_self
      cases hb : Nat.beq (inf m).2.2.2.1 1 with
      | true =>
        rw [hb] at he
        rw [Nat.eq_of_beq_eq_true hb] at hr
        exact W_mono (W.iret (Qc := fun _ _ o' t => o' = .returned (some (.int (Int32.ofInt x))) ∧ t.heap = H) (free := A) hx rfl hr (fun t ht _ => ⟨rfl, ht⟩) hf hd hlk) fun t ht => ret_fin hF he ⟨rfl, hxx⟩ hsb ht
      | false =>
        rw [hb] at he
        obtain ⟨h1, h2, h3⟩ := gd_e he
        rw [Nat.eq_of_beq_eq_true h1] at hr
        have hn : narrow .boolean (.int (Int32.ofInt x)) = .int (Int32.ofInt x) := by
          rcases (show x = 0 ∨ x = 1 by omega) with rfl | rfl <;> rfl
        exact W_mono (W.zret (Qc := fun _ _ o' t => o' = .returned (some (.int (Int32.ofInt x))) ∧ t.heap = H) (free := A) hx rfl hr hn (fun t ht _ => ⟨rfl, ht⟩) hf hd hlk) fun t ht => ret_fin hF h3 ⟨rfl, hxx⟩ hsb ht
    · exact he.elim
  · obtain rfl := lenK (K := 1) ho
    split at he
    · next x =>
      have hxx : okv (nx w) (vl x) := hs _ List.mem_cons_self
      obtain ⟨h1, h2⟩ := gd_e he
      rw [Nat.eq_of_beq_eq_true h1] at hr
      exact W_mono (W.lret (Qc := fun _ _ o' t => o' = .returned (some (.long (Int64.ofInt x))) ∧ t.heap = H) (free := A) hx rfl hr (fun t ht _ => ⟨rfl, ht⟩) hf hd hlk) fun t ht => ret_fin hF h2 ⟨rfl, hxx⟩ hsb ht
    · exact he.elim
  · obtain rfl := lenK (K := 1) ho
    split at he
    · next x =>
      have hxx : okv (nx w) (vr x) := hs _ List.mem_cons_self
      obtain ⟨h1, h2⟩ := gd_e he
      rw [Nat.eq_of_beq_eq_true h1] at hr
      exact W_mono (W.aret (Qc := fun _ _ o' t => o' = .returned (some (.ref (θ x))) ∧ t.heap = H) (free := A) hx rfl hr (Or.inl ⟨_, rfl⟩) (Or.inr ⟨_, rfl⟩) (fun t ht _ => ⟨rfl, ht⟩) hf hd hlk) fun t ht => ret_fin hF h2 ⟨rfl, hxx⟩ hsb ht
    · exact he.elim
  · exact he.elim
/-- an exception is thrown and leaves the method -/
theorem thr_sim {x : Nat} {st' : List Vl} (hx : p.tables.exec = Jvm.exec) (hM : Mth m s mid meth c) (hout : ∀ x ∈ c.exceptionTable.toList, covers x pc = false) (hd : decode c.code pc = .ok (.athrow, 1)) (ht : tg w x = 18) (he : Qm (.inr x) w) (hF : Fr dC dI tc A s R w0 θ fe w H locs cells slots) (hsb : Stb m w0 θ0 θ) : W p l e R s mid args below meth c H locs cells slots (Fin below s R dC dI tc A w0 θ0 m Qm) (F0 mid pc lsJ ((vr x :: st').map (vlv θ))) := by
  intro T hT X
  obtain ⟨h1, h2, h3, h4, h5⟩ := X.athrowLeaves hx (g := F0 mid pc lsJ ((vr x :: st').map (vlv θ))) rfl rfl rfl hout (a := θ x) (rest := st'.map (vlv θ)) rfl hd hM.2.2.2.1
  exact ⟨_, h1, .inr x, w, θ, fe, .threw (θ x), locs, cells, slots, he, h2, h3, h4, h5, ⟨rfl, ht⟩, fr_end hF hT hF.2.2.2.1.2.2, hsb⟩
end Ret
