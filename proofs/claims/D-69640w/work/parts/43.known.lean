/-! what is known at the start: the classes, the array classes, the static fields -/
set_option maxRecDepth 100000
theorem known_cls {s : State} {args : Array Value} (hts : ∀ w ∈ lw_all, w.before args s = true) : ∀ c : Nat, ∃ x : ClassId × (Nat → Nat), ∀ q : vw_C, cls[c]? = some q → u_Kn s q.1 q.2.1 q.2.2 x.1 x.2 := by
  intro c
  match c with
  | 0 =>
    obtain ⟨cC, iS, h⟩ := u_known (C := RX0) (T := TX0) hts in_X0 (hts _ q276)
    exact ⟨(cC, iS), fun q hq => by cases hq; exact h⟩
  | 1 =>
    obtain ⟨cC, iS, h⟩ := u_known (C := RX1) (T := TX1) hts in_X1 (hts _ q284)
    exact ⟨(cC, iS), fun q hq => by cases hq; exact h⟩
  | 2 =>
    obtain ⟨cC, iS, h⟩ := u_known (C := RX2) (T := TX2) hts in_X2 (hts _ q363)
    exact ⟨(cC, iS), fun q hq => by cases hq; exact h⟩
  | 3 =>
    obtain ⟨cC, iS, h⟩ := u_known (C := RX3) (T := TX3) hts in_X3 (hts _ q369)
    exact ⟨(cC, iS), fun q hq => by cases hq; exact h⟩
  | 4 =>
    obtain ⟨cC, iS, h⟩ := u_known (C := RX4) (T := TX4) hts in_X4 (hts _ q403)
    exact ⟨(cC, iS), fun q hq => by cases hq; exact h⟩
  | 5 =>
    obtain ⟨cC, iS, h⟩ := u_known (C := RX5) (T := TX5) hts in_X5 (hts _ q461)
    exact ⟨(cC, iS), fun q hq => by cases hq; exact h⟩
  | 6 =>
    obtain ⟨cC, iS, h⟩ := u_known (C := RX6) (T := TX6) hts in_X6 (hts _ q497)
    exact ⟨(cC, iS), fun q hq => by cases hq; exact h⟩
  | 7 =>
    obtain ⟨cC, iS, h⟩ := u_known (C := RX7) (T := TX7) hts in_X7 (hts _ q529)
    exact ⟨(cC, iS), fun q hq => by cases hq; exact h⟩
  | 8 =>
    obtain ⟨cC, iS, h⟩ := u_known (C := RX8) (T := TX8) hts in_X8 (hts _ q535)
    exact ⟨(cC, iS), fun q hq => by cases hq; exact h⟩
  | 9 =>
    obtain ⟨cC, iS, h⟩ := u_known (C := RX9) (T := TX9) hts in_X9 (hts _ q549)
    exact ⟨(cC, iS), fun q hq => by cases hq; exact h⟩
  | 10 =>
    obtain ⟨cC, iS, h⟩ := u_known (C := RX11) (T := TX11) hts in_X11 (hts _ q573)
    exact ⟨(cC, iS), fun q hq => by cases hq; exact h⟩
  | 11 =>
    obtain ⟨cC, iS, h⟩ := u_known (C := RX11) (T := TX11) hts in_X11 (hts _ q573)
    exact ⟨(cC, iS), fun q hq => by cases hq; exact h⟩
  | 12 =>
    obtain ⟨cC, iS, h⟩ := u_known (C := RX12) (T := TX12) hts in_X12 (hts _ q634)
    exact ⟨(cC, iS), fun q hq => by cases hq; exact h⟩
  | 13 =>
    obtain ⟨cC, iS, h⟩ := u_known (C := RX13) (T := TX13) hts in_X13 (hts _ q732)
    exact ⟨(cC, iS), fun q hq => by cases hq; exact h⟩
  | 14 =>
    obtain ⟨cC, iS, h⟩ := u_known (C := RX14) (T := TX14) hts in_X14 (hts _ q804)
    exact ⟨(cC, iS), fun q hq => by cases hq; exact h⟩
  | 15 =>
    obtain ⟨cC, iS, h⟩ := u_known (C := RX15) (T := TX15) hts in_X15 (hts _ q2064)
    exact ⟨(cC, iS), fun q hq => by cases hq; exact h⟩
  | 16 =>
    obtain ⟨cC, iS, h⟩ := u_known (C := RX16) (T := TX16) hts in_X16 (hts _ q2070)
    exact ⟨(cC, iS), fun q hq => by cases hq; exact h⟩
  | 17 =>
    obtain ⟨cC, iS, h⟩ := u_known (C := RJ3) (T := TJ3) hts in_J3 (hts _ q290)
    exact ⟨(cC, iS), fun q hq => by cases hq; exact h⟩
  | c + 18 => exact ⟨(0, fun _ => 0), fun q hq => by
      have := (List.getElem?_eq_some_iff.mp hq).1
      have h18 : cls.length = 18 := rfl
      omega⟩
theorem known_arr {s : State} {args : Array Value} {ty : FieldType} (h : (Cond.arrayClass ty).before args s = true) : ∃ cA, ArrOfT s cA ty ∧ s.vm.findClass ("[" ++ ty.toString) = some cA := by
  obtain ⟨c, k, comp, h1, h2, h3⟩ := Cond.arrayClass_spec h
  exact ⟨c, fun n z => ⟨fun k h => (by cases h), k, h2, comp, h3⟩, h1⟩
theorem known_start {s : State} {args : Array Value} (hts : ∀ w ∈ lw_all, w.before args s = true) : ∃ (dC : Nat → ClassId) (dI : Nat → Nat → Nat) (tc : Nat → ClassId), va_K (dC, dI) cls (tysf tc) s := by
  obtain ⟨f, hf⟩ := Classical.skolem.mp (known_cls hts)
  obtain ⟨c1, a1, b1⟩ := known_arr (hts _ q386)
  obtain ⟨c2, a2, b2⟩ := known_arr (hts _ q1060)
  obtain ⟨c3, a3, b3⟩ := known_arr (hts _ q527)
  obtain ⟨c4, a4, b4⟩ := known_arr (hts _ q632)
  refine ⟨fun c => (f c).1, fun c => (f c).2, fun t => if t = 50 then c1 else if t = 52 then c2 else if t = 53 then c3 else c4, fun c q hq => hf c q hq, fun k q hq => ?_⟩
  match k, hq with
  | 0, hq => cases hq; exact ⟨a1, b1⟩
  | 1, hq => cases hq; exact ⟨a2, b2⟩
  | 2, hq => cases hq; exact ⟨a3, b3⟩
  | 3, hq => cases hq; exact ⟨a4, b4⟩
theorem L_start {s : State} {args : Array Value} {C n d : String} {A : Nat → Prop} (hl : (Cond.laysStatic C n d).before args s = true) (hr : (Cond.isRef (.static C n d)).before args s = true) (hA : ∀ a : Nat, a < s.heap.size → ¬ A a) : va_L C n d A s s.heap := by
  obtain ⟨c, k, i, f, a, cell, h1, h2, h3, h4, h5, h6, h7, h8, h9⟩ := Cond.laysStatic_spec hl
  exact ⟨c, k, i, f, a, cell, h1, h2, h3, h4, h5, h6, h7, h8, h9, Cond.staticRefV h2 h3 h4 h5 h6 hr, hA a (Array.getElem?_eq_some_iff.mp h5).1⟩
theorem stc_start {s : State} {b : Nat} {A : Nat → Prop} (hgv : (Cond.and given_1 narrow_1).before #[Value.ref b] s = true) (hts : ∀ w ∈ lw_tbl, w.before #[Value.ref b] s = true) (hA : ∀ a : Nat, a < s.heap.size → ¬ A a) : Stc A s := by
  have hfl := flat_of_before _ hgv
  have h1 : (Cond.eq (.static "java/lang/String" "COMPACT_STRINGS" "Z") (.int 1)).before #[Value.ref b] s = true := hfl _ (by decide +kernel)
  have h2 : (Cond.isRef (.static "java/lang/Throwable" "UNASSIGNED_STACK" "[Ljava/lang/StackTraceElement;")).before #[Value.ref b] s = true := hfl _ (by decide +kernel)
  have h3 : (Cond.isRef (.static "java/lang/Throwable" "SUPPRESSED_SENTINEL" "Ljava/util/List;")).before #[Value.ref b] s = true := hfl _ (by decide +kernel)
  have h4 : (Cond.isRef (.static "jdk/internal/util/Preconditions" "SIOOBE_FORMATTER" "Ljava/util/function/BiFunction;")).before #[Value.ref b] s = true := hfl _ (by decide +kernel)
  exact ⟨va_Zof (hts _ q1156) (hts _ (lw_all_tbl q271)) (va_eqi h1) hA, L_start (hts _ q316) h2 hA, L_start (hts _ q318) h3 hA, va_Zqof (hts _ q1176) (hts _ (lw_all_tbl q273)) h4 hA⟩
