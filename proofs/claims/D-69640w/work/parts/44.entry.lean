/-! the law's entry: the claim out of one fact about the small machine -/
set_option maxRecDepth 100000
/-- the world at the law's entry: the script, the String constants -/
def wi (L : Nat) (xs : Nat → Int32) : Wd := (fun a i => if a = 1 ∧ 0 ≤ i ∧ i < L then (xs i.toNat).toInt else 0, fun _ _ => 0, fun a => bif Nat.beq a 1 then (51, L) else bif Nat.ble 2 a && Nat.ble a 38 then (60, 0) else (0, 0), 50, 0)
/-- WHAT IS LEFT: the small machine's law answers 1 -/
def Left : Prop := ∀ (L : Nat) (xs : Nat → Int32), L ≤ 384 → wp 399 0 [vr 1, vu, vu, vu] [] (wi L xs) (fun o _ => o = .inl [vi 1])
theorem wi_tg {L : Nat} {xs : Nat → Int32} (a : Nat) : tg (wi L xs) a = 51 ∧ a = 1 ∨ tg (wi L xs) a = 60 ∨ tg (wi L xs) a = 0 := by
  show (bif Nat.beq a 1 then ((51, L) : Nat × Nat) else bif Nat.ble 2 a && Nat.ble a 38 then (60, 0) else (0, 0)).1 = 51 ∧ a = 1 ∨ (bif Nat.beq a 1 then ((51, L) : Nat × Nat) else bif Nat.ble 2 a && Nat.ble a 38 then (60, 0) else (0, 0)).1 = 60 ∨ (bif Nat.beq a 1 then ((51, L) : Nat × Nat) else bif Nat.ble 2 a && Nat.ble a 38 then (60, 0) else (0, 0)).1 = 0
  cases h : Nat.beq a 1 with
  | true => exact Or.inl ⟨rfl, Nat.eq_of_beq_eq_true h⟩
  | false =>
    right
    cases Nat.ble 2 a && Nat.ble a 38 with
    | true => exact Or.inl rfl
    | false => exact Or.inr rfl
theorem wi_ok {L : Nat} {xs : Nat → Int32} (hL : L ≤ 384) : Wok (wi L xs) := by
  have hd : ∀ a i, r32 ((wi L xs).1 a i) := fun a i => by
    show r32 (if a = 1 ∧ 0 ≤ i ∧ i < L then (xs i.toNat).toInt else 0)
    split
    · have h1 := Int32.le_toInt (xs i.toNat)
      have h2 := Int32.toInt_lt (xs i.toNat)
      unfold r32
      omega
    · unfold r32; omega
  refine ⟨⟨Nat.le_refl _, by show 50 ≤ 1001; omega, Nat.zero_le _⟩, fun a => ?_, fun a => ?_, fun a => ?_, fun a i => ⟨r64_32 (hd a i), fun _ => hd a i, fun h => ?_, fun h => ?_⟩, fun a f => by show 0 < 50; omega⟩
  · constructor
    · intro h
      rcases wi_tg (L := L) (xs := xs) a with ⟨z, -⟩ | z | z <;> rw [z] at h <;> cases h
    · intro h
      have : 50 ≤ a ∧ a < 50 := h
      omega
  · show (bif Nat.beq a 1 then ((51, L) : Nat × Nat) else bif Nat.ble 2 a && Nat.ble a 38 then (60, 0) else (0, 0)).2 ≤ 100000
    cases Nat.beq a 1 with
    | true => show L ≤ _; omega
    | false =>
      cases Nat.ble 2 a && Nat.ble a 38 with
      | true => exact Nat.zero_le _
      | false => exact Nat.zero_le _
  · have h0 : (wi L xs).1 a (-1) = 0 := by
      show (if a = 1 ∧ 0 ≤ (-1 : Int) ∧ (-1 : Int) < L then _ else (0 : Int)) = 0
      rw [if_neg (by omega)]
    rw [h0]
    refine ⟨by omega, by omega, fun _ => rfl, fun h => ?_⟩
    rcases wi_tg (L := L) (xs := xs) a with ⟨z, -⟩ | z | z <;> omega
  · rcases wi_tg (L := L) (xs := xs) a with ⟨z, -⟩ | z | z <;> omega
  · rcases wi_tg (L := L) (xs := xs) a with ⟨z, -⟩ | z | z <;> omega
def R_law : String := "SafeCodeLaw"
def lw_P (b : Addr) (xs : List Int32) (args : Array Value) (s : State) : Prop := args = #[.ref b] ∧ s.IntsAt b xs ∧ xs.length ≤ 384 ∧ (Jvm.Cond.and given_1 narrow_1).before args s = true
def lw_Q (_ : Array Value) (s : State) (o : Outcome) (t : State) : Prop := o = .returned (some (.int 1)) ∧ Framed s o t [] 601024 7293034
def lw_Z (below : List Frame) (a : Array Value) (s : State) : State → Prop := fun t => ∃ o, t.status = .running ∧ Ended t below o ∧ lw_Q a s o t
theorem law_mth {s : State} {m : MethodId} {meth : Method} {c : Code} (hcode : c.code = code) (hr : meth.sig.returnType = ret) (hml : c.maxLocals = 4) (hown : s.vm.findClass R_law = some m.cls) (hlk : meth.locks = false) (hex : c.exceptionTable.toList = []) : Mth 399 s m meth c :=
  ⟨Nat.le_refl _, fun pc i len hl => chk_at (b := c.code) (l := t_L_law) (by rw [hcode]; exact k_L_law) hl, hr, hlk, hml, hown, fun h => absurd h (by decide), fun _ => hex, fun h => absurd h (by decide)⟩
theorem law_entry (hLeft : Left) {p : Program} {e : Env} {s : State} {m : MethodId} {below : List Frame} {meth : Method} {c : Code} (l : Launch) {b L : Nat} {xs : Nat → Int32} (hL : L ≤ 384) (hx : p.tables.exec = Jvm.exec) (htr : e.platform.stackTraces = false) (hM : Mth 399 s m meth c) (hts : ∀ w ∈ lw_tbl, w.before #[Value.ref b] s = true) (hX : va_X b L xs s s.heap) (hbs : b < s.heap.size) (hgv : (Jvm.Cond.and given_1 narrow_1).before #[Value.ref b] s = true) :
    W p l e room_1 s m #[Value.ref b] below meth c s.heap [] 0 0 (lw_Z below #[Value.ref b] s) (entryFrame m ([Value.ref b] : List Value).toArray 4) := by
  have hall : ∀ w ∈ lw_all, w.before #[Value.ref b] s = true := fun w hw => hts w (lw_all_tbl hw)
  have hAn : ∀ a : Nat, a < s.heap.size → ¬ (s.heap.size ≤ a) := fun a h1 h2 => by omega
  obtain ⟨dC, dI, tc, hK⟩ := known_start hall
  obtain ⟨ad, had⟩ := str_start (A := fun q => s.heap.size ≤ q) hgv hts hAn
  have hZ : Stc (fun q => s.heap.size ≤ q) s := stc_start hgv hts hAn
  obtain ⟨n, hn⟩ := hLeft L xs hL
  have hFr : Fr dC dI tc (fun q => s.heap.size ≤ q) s room_1 (wi L xs) (fun i => if i = 1 then b else ad i) (fun _ => []) (wi L xs) s.heap [] 0 0 := by
    refine ⟨hK, (fun k q hq => (by cases hq)), ⟨(fun i j q q' hi => (by cases hi)), (fun k q hq => (by cases hq))⟩, va_S.rf, wi_ok hL, ⟨by omega, by omega, Nat.le_refl _, fun _ _ => rfl⟩, ⟨by show 130000 ≤ 601024 + _; omega, by show 1300000 ≤ 7293034 + _; omega⟩, fun i h2 h38 => ?_, L, xs, ?_, ?_, ?_, fun a ha => ?_, rfl, rfl, hL, fun j hj => ?_⟩
    · have ei : (fun i => if i = 1 then b else ad i) i = ad i := if_neg (show ¬ i = 1 by omega)
      rw [ei]
      exact had i h2 h38
    · exact hX
    · exact hbs
    · exact hAn b hbs
    · rcases wi_tg (L := L) (xs := xs) a with ⟨-, z⟩ | z | z
      · exact z
      · omega
      · omega
    · show (if 1 = 1 ∧ 0 ≤ (j : Int) ∧ (j : Int) < L then (xs (j : Int).toNat).toInt else 0) = (xs j).toInt
      rw [if_pos ⟨rfl, by omega, by omega⟩, Int.toNat_natCast]
  have hls : Ls (fun i => if i = 1 then b else ad i) 50 (ent 399 [vr 1]) ((lg_sl ([vr 1].map (vlv fun i => if i = 1 then b else ad i)) ++ List.replicate ((inf 399).2.1 - (lg_sl ([vr 1].map (vlv fun i => if i = 1 then b else ad i))).length) Slot.unset).toArray) (inf 399).2.1 := ent_ls (m := 399) (as := [vr 1]) (fun v hv => by rw [List.mem_singleton.mp hv]; exact ⟨Nat.le_refl _, by omega⟩) (by decide)
  have hnw : ∀ w ∈ nws, va_Nw w s := by
    intro w hw
    have h1 : w ∈ lw_tbl := (show ∀ w ∈ nws, w ∈ lw_tbl by decide +kernel) w hw
    exact va_Nw.of ((show ∀ w ∈ nws, w.onTables = true by decide +kernel) w hw) (hts w h1)
  have hW := bridge n p l e room_1 s m #[Value.ref b] below meth c dC dI tc (fun q => s.heap.size ≤ q) (wi L xs) (fun i => if i = 1 then b else ad i) (fun i => if i = 1 then b else ad i) (fun _ => []) (wi L xs) s.heap [] 0 0 (ent 399 [vr 1]) [] _ 399 0 (fun o _ => o = .inl [vi 1]) hx htr hZ hall hnw (fun q h => h) hM (by decide) (by decide) hn hFr hls (fun v hv => by cases hv) (fun _ _ _ => rfl)
  rw [lg_entry_eq]
  refine W_mono hW fun t ht => ?_
  obtain ⟨o, w', θ', fe', oc, L', k, n', rfl, hrun, hend, hWt, hsame, hout, hF', -⟩ := ht
  have hoc : oc = .returned (some (.int 1)) := hout.1
  subst hoc
  have hcw := hF'.2.2.2.2.1.cw
  have hfb := hF'.2.2.2.2.2.1
  refine ⟨_, hrun, hend, rfl, ⟨_, rfl⟩, hWt, hsame.weaken (fun x hx hlt => ?_) ?_ ?_⟩
  · exact absurd (hF'.2.2.2.1.2.2 x hx) (Nat.not_le.mpr hlt)
  · have := hfb.1; have := hcw.1; omega
  · have := hfb.2.1; have := hcw.2; omega
