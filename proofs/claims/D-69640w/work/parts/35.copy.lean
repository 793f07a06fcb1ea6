/-! Arrays.copyOf of a row -/
set_option maxRecDepth 100000
section Copy
variable {p : Program} {l : Launch} {e : Env} {R : Room} {s : State} {mid : MethodId} {args : Array Value} {below : List Frame} {meth : Method} {c : Code} {dC : Nat → ClassId} {dI : Nat → Nat → Nat} {tc : Nat → ClassId}
theorem run_min {a b : Int} (hx : p.tables.exec = Jvm.exec) (hlk : meth.locks = false) (hr : meth.sig.returnType = some .int) (hb : c.code = prog_22_method_69_code) (ha : r32 a) (hbb : r32 b) (h : a ≤ b) : W p l e R s mid args below meth c s.heap [] 0 0 (RV below args s (some (.int (Int32.ofInt a)))) (F0 mid 0 #[.val (.int (Int32.ofInt a)), .val (.int (Int32.ofInt b))] []) := by
  refine lv_iload_n hx hb (k := 0) (i := 0) (by decide +kernel) rfl rfl ?_
  refine lv_iload_n hx hb (k := 1) (i := 1) (by decide +kernel) rfl rfl ?_
  refine lv_icmp_gt hx hb (off := 7) (tgt := 9) (by decide +kernel) rfl (fun q => absurd ((nb_lt hbb ha).mp q) (by omega)) (fun _ => ?_)
  refine lv_iload_n hx hb (k := 0) (i := 0) (by decide +kernel) rfl rfl ?_
  refine lv_goto hx hb (off := 4) (tgt := 10) (by decide +kernel) rfl ?_
  exact W.iret hx hb hr (fun t ht _ => ⟨_, rfl, rfl, ht⟩) (fun q hq => by cases hq) (by decide +kernel) hlk
theorem run_copy {b0 nn : Nat} {f : Nat → Int32} (hx : p.tables.exec = Jvm.exec) (hts : ∀ w ∈ lw_all, w.before args s = true) (hK : va_K (dC, dI) cls (tysf tc) s) (hat : s.heap[b0]? = some (vp_cell (tc 50) (nn, .inl f))) (hlk : meth.locks = false) (hown : s.vm.findClass "java/util/Arrays" = some mid.cls) (hr : meth.sig.returnType = some (.array .int)) (hb : c.code = prog_29_method_123_code) (hml : c.maxLocals = 3) (hfr : 1 ≤ R.frames) (hlo : 60 ≤ R.locals) (h1 : 1 ≤ nn) (h2 : nn ≤ 4096) (hce : 1 ≤ R.cells) (hsl : 2 * nn ≤ R.slots) :
    W p l e R s mid args below meth c s.heap [] 0 0 (MQ below (fun _ _ o t => ∃ v', o = .returned v' ∧ (∃ q, v' = some (.ref q) ∧ s.heap.size ≤ q ∧ t.heap[q]? = some (vp_cell (tc 50) (2 * nn, .inl fun k => if k < nn then f k else 0)) ∧ ∀ q' : Nat, q' < s.heap.size → t.heap[q']? = s.heap[q']?)) args s 1 (2 * nn) (fun q => q = b0 ∨ s.heap.size ≤ q)) (F0 mid 0 ((lg_sl [.ref b0, .int (Int32.ofInt (2 * nn : Nat))] ++ List.replicate (3 - (lg_sl [.ref b0, .int (Int32.ofInt (2 * nn : Nat))]).length) Slot.unset).toArray) []) := by
  have hn : r32 (nn : Int) := by unfold r32; omega
  have hn2 : r32 ((2 * nn : Nat) : Int) := by unfold r32; omega
  have hl0 := lv_entry [.ref b0, .int (Int32.ofInt (2 * nn : Nat))] (n := 3) (Nat.le_of_ble_eq_true rfl)
  have hP0 : va_P (dC, dI) cls [(b0, .inl (tc 50, nn, .inl f))] s.heap := fun k q hq => by
    match k, hq with
    | 0, hq => cases hq; exact hat
  have hD0 : va_D (fun q => q = b0 ∨ s.heap.size ≤ q) [(b0, .inl (tc 50, nn, .inl f))] := by
    refine ⟨fun i j q q' hi hj _ => ?_, fun k q hq => ?_⟩
    · have h1 := (List.getElem?_eq_some_iff.mp hi).1
      have h2 := (List.getElem?_eq_some_iff.mp hj).1
      simp only [List.length_cons, List.length_nil] at h1 h2
      omega
    · match k, hq with
      | 0, hq => cases hq; exact Or.inl rfl
  have hneg : ∀ z : Nat, z ≤ 100000 → ¬ Int32.ofInt (z : Int) < 0 := fun z hz => by
    have : ¬ Int32.ofInt (z : Int) < Int32.ofInt 0 := by rw [nb_lt (by unfold r32; omega) (by unfold r32; omega)]; omega
    exact this
  refine lv_iload_n hx hb (k := 1) (i := 1) (by decide +kernel) rfl (hl0.2.2 (1, _) (List.mem_cons_of_mem _ List.mem_cons_self)) ?_
  refine lv_aload_n hx hb (k := 0) (i := 0) (by decide +kernel) rfl (hl0.2.2 (0, _) List.mem_cons_self) ?_
  refine va_alen hx hb hK hP0 0 0 rfl rfl (bv_len (show nn ≤ 100000 by omega)) (by decide +kernel) ?_
  refine lv_icmp_ne hx hb (off := 11) (tgt := 14) (by decide +kernel) rfl (fun _ => ?_) (fun q => absurd ((nb_inj hn2 hn).mp q) (by omega))
  refine lv_iload_n hx hb (k := 1) (i := 1) (by decide +kernel) rfl (hl0.2.2 (1, _) (List.mem_cons_of_mem _ List.mem_cons_self)) ?_
  refine va_newa (atype := .int) (ty := .int) (a0 := (2 * nn, .inl fun _ => 0)) hx hb (hts _ q386) rfl hK hP0 hD0 va_S.rf (fun q h => Or.inr h) (fun _ => rfl) (hneg _ (by omega)) ((nb_clamp hn2).trans (Int.toNat_natCast _)) (by show 2 * nn * 4 ≤ _; omega) (by omega) (by omega) (by decide +kernel) fun q cA H1 hK1 hP1 hD1 hS1 => ?_
  have hcA := tc_eq (tys := []) (i := 0) hK rfl (Or.inl rfl) hK1
  subst hcA
  have hqs : s.heap.size ≤ q := by
    rcases hD1.2 1 _ rfl with h | h
    · exact absurd (hD1.1 1 0 _ _ rfl rfl h) (by decide)
    · exact h
  refine lv_astore_n hx hb (k := 2) (i := 2) (nL := 3) (by decide +kernel) rfl hl0 (by decide) rfl fun ls' hls => ?_
  have l0 : ls'[0]? = some (.val (.ref b0)) := hls.2.2 (0, .ref b0) (List.mem_cons_of_mem _ List.mem_cons_self)
  have l1 : ls'[1]? = some (.val (.int (Int32.ofInt (2 * nn : Nat)))) := hls.2.2 (1, .int (Int32.ofInt (2 * nn : Nat))) (List.mem_cons_of_mem _ (List.mem_cons_of_mem _ List.mem_cons_self))
  have l2 : ls'[2]? = some (.val (.ref q)) := hls.2.2 (2, .ref q) List.mem_cons_self
  refine lv_aload_n hx hb (k := 0) (i := 0) (by decide +kernel) rfl l0 ?_
  refine lv_iconst hx hb (n := 0) (v := 0) (by decide +kernel) rfl ?_
  refine lv_aload_n hx hb (k := 2) (i := 2) (by decide +kernel) rfl l2 ?_
  refine lv_iconst hx hb (n := 0) (v := 0) (by decide +kernel) rfl ?_
  refine lv_aload_n hx hb (k := 0) (i := 0) (by decide +kernel) rfl l0 ?_
  refine va_alen hx hb hK hP1 0 0 rfl rfl (bv_len (show nn ≤ 100000 by omega)) (by decide +kernel) ?_
  refine lv_iload_n hx hb (k := 1) (i := 1) (by decide +kernel) rfl l1 ?_
  refine pcall (ig := .invokestatic 304) (y := ⟨"java/lang/Math", "min", "(II)I"⟩) (kc := 0) (ks := 0) (K := 0) (as := [.int (Int32.ofInt (nn : Int)), .int (Int32.ofInt (2 * nn : Nat))]) (rest := [.int 0, .ref q, .int 0, .ref b0]) (P := fun v' H' => v' = some (.int (Int32.ofInt (nn : Int))) ∧ H' = H1) (B := fun _ => False) hts q1121 (by decide +kernel) (by rw [hml]; exact hls.1) (by rw [hb]; decide +kernel) (fun T hT X => into_S X hx hown (hts _ q1119) (hts _ q1120) (hts _ q269) (hts _ q1121) ⟨by decide, by decide⟩ rfl (argsL := [.int (Int32.ofInt (nn : Int)), .int (Int32.ofInt (2 * nn : Nat))]) (n := 2) rfl (by decide +kernel) rfl (by rw [hb]; show decode prog_29_method_123_code 25 = _; decide +kernel)) hfr (by
    show 0 + 4 + (2 + 11) + 0 ≤ R.locals
    omega) (by omega) (by omega) (fun s' mk methk ck below' hv hh hts' hown' hr' hlk' hb' hml' => ?_) (fun v' H' L hP hL => ?_)
  · rw [← hh]
    exact run_min hx hlk' hr' hb' hn hn2 (by omega)
  · obtain ⟨rfl, rfl⟩ := hP
    obtain rfl := L_nil hL
    refine va_copyi hx hb (by rw [hml]; exact hls.1.symm) hown (hts _ q1122) (hts _ q1124) (hts _ q1123) (hts _ q270) hK hP1 hD1 hS1 0 1 0 0 rfl rfl rfl rfl rfl (sp := 0) (dp := 0) (n := Int32.ofInt (nn : Int)) (by decide) (by decide) (hneg nn (by omega)) ?_ ?_ (fun _ _ => rfl) hfr ?_ (by decide +kernel) fun H2 locs2 hP2 hD2 hS2 => ?_
    · rw [nb_clamp hn]; show 0 + _ ≤ nn; omega
    · rw [nb_clamp hn]; show 0 + _ ≤ 2 * nn; omega
    · show 0 + (nativeFrameWords "java/lang/System" "arraycopy" 5 + 11) ≤ R.locals
      have : nativeFrameWords "java/lang/System" "arraycopy" 5 ≤ 40 := by decide
      omega
    · rw [show 0 + 2 * nn + 0 = 2 * nn by omega]
      refine lv_aload_n hx hb (k := 2) (i := 2) (by decide +kernel) rfl l2 ?_
      refine W.aret hx hb hr (Or.inr ⟨_, rfl⟩) (Or.inr ⟨_, rfl⟩) (fun t ht _ => ⟨_, rfl, q, rfl, hqs, ?_, fun q' hq' => ?_⟩) (fun x hx => hS2.2.2 x hx) (by decide +kernel) hlk
      · rw [ht]
        have h := hP2 1 _ rfl
        have h : H2[q]? = some (vp_cell (tc 50) (2 * nn, .inl (va_cpy f (fun _ => 0) 0 0 (Int32.ofInt (nn : Int)).toNatClampNeg))) := h
        rw [h, nb_clamp hn]
        congr 4
        funext k
        unfold va_cpy
        rw [Int.toNat_natCast]
        by_cases hk : k < nn
        · rw [if_pos ⟨Nat.zero_le _, by omega⟩, if_pos hk, Nat.zero_add, Nat.sub_zero]
        · rw [if_neg (fun z => hk (by omega)), if_neg hk]
      · rw [ht]
        by_cases hqb : q' = b0
        · subst hqb
          have h := hP2 0 _ rfl
          have h : H2[q']? = some (vp_cell (tc 50) (nn, .inl f)) := h
          rw [h, hat]
        · exact hS2.2.1 q' hq' (fun z => z.elim hqb (fun y => absurd y (by omega)))
end Copy
