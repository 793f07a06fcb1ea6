/-! the library's methods of a String constant, as one step -/
set_option maxRecDepth 100000
theorem sbt_ok : ∀ d, d < 37 → Nat.ble (sbt (2 + d)).length 1000 = true ∧ (sbt (2 + d)).all (fun b => decide (0 ≤ b) && decide (b ≤ 127)) = true := by decide +kernel
theorem sbt_len {a : Nat} (h2 : 2 ≤ a) (h38 : a ≤ 38) : (sbt a).length ≤ 1000 := by
  have := (sbt_ok (a - 2) (by omega)).1
  rw [show 2 + (a - 2) = a by omega] at this
  exact Nat.le_of_ble_eq_true this
theorem sbt_in {a i : Nat} (h2 : 2 ≤ a) (h38 : a ≤ 38) (hi : i < (sbt a).length) : 0 ≤ (sbt a).getD i 0 ∧ (sbt a).getD i 0 ≤ 127 := by
  have := (sbt_ok (a - 2) (by omega)).2
  rw [show 2 + (a - 2) = a by omega] at this
  have hm : (sbt a).getD i 0 ∈ sbt a := by
    rw [List.getD_eq_getElem?_getD, List.getElem?_eq_getElem hi]
    exact List.getElem_mem hi
  have h := List.all_eq_true.mp this _ hm
  simp only [Bool.and_eq_true, decide_eq_true_eq] at h
  exact h
theorem prim_ok (n : Nat) : PrimOK n := by
  intro hB p l e R s mid args below meth c dC dI tc A w0 θ0 θ fe w H locs cells slots ls st lsJ m pc Qm hx htr hZ hts hnw hA hM hf1 hf2 hF hl hsb m2 q j np as rest h601 hqj hrc hnp hst hs hd hdep hwt hstl hstr hp
  obtain ⟨hq, hj⟩ := hqj
  have hcs := cat_sum (θ := θ) rest
  have hlo : 2 * (F0 mid pc lsJ (rest.map (vlv θ))).monitorRoom + ((rest.map (vlv θ)).map fun v => v.category).sum ≤ 8 := lv_room (by rw [hcs]; exact hwt)
  have hown := hM.2.2.2.2.2.1
  have hsz : lsJ.size = c.maxLocals := by rw [hM.2.2.2.2.1]; exact hl.2.1.1
  have hSF : ∀ a, 2 ≤ a → a ≤ 38 → ∃ v, SF A s H (θ a) v (sbt a).length (fun j => .int (Int32.ofInt ((sbt a).getD j 0))) := fun a h2 h38 => by
    obtain ⟨v, -, k2, k3, k4, k5⟩ := hF.2.2.2.2.2.2.2.1 a h2 h38
    have hk := hF.2.2.2.1.2.1
    exact ⟨v, k2.kept hk, k3.kept hk, k4.kept hk, k5.kept hk, hZ.1.kept hk, hZ.2.2.2.kept hk⟩
  have hgo : ∀ r : Vl, okv (nx w) r → wpn n m (pc + 3) ls (r :: rest) w Qm → W p l e R s mid args below meth c H locs cells slots (Fin below s R dC dI tc A w0 θ0 m Qm) (F0 mid (pc + 3) lsJ (vlv θ r :: rest.map (vlv θ))) := fun r hr hw =>
    hB p l e R s mid args below meth c dC dI tc A w0 θ0 θ fe w H locs cells slots ls (r :: rest) lsJ m (pc + 3) Qm hx htr hZ hts hnw hA hM hf1 hf2 hw hF hl (fun x hx => by
      rcases List.mem_cons.mp hx with rfl | hx
      · exact hr
      · exact hs x (by rw [hst]; exact List.mem_append_right _ hx)) hsb
  unfold rclC at hrc
  simp only [Bool.and_eq_true, Bool.or_eq_true, Bool.not_eq_true'] at hrc
  obtain ⟨⟨⟨-, h1⟩, h2⟩, -⟩ := hrc
  unfold prP at hp
  rw [nbeq (show m2 ≠ 600 by omega), cond_false] at hp
  by_cases e1 : m2 = 601
  · subst e1
    have hlink : Cond.methodLink (owS (inf m).1) j ⟨"java/lang/String", "length", "()I"⟩ ∈ lw_all := by
      rcases h1 with h | h
      · cases h
      · rcases h.2 with h | h
        · have := Nat.eq_of_beq_eq_true h
          obtain ⟨z1, rfl⟩ : (inf m).1 = 3 ∧ j = 70 := by omega
          rw [z1]
          exact q1147
        · have := Nat.eq_of_beq_eq_true h
          obtain ⟨z1, rfl⟩ : (inf m).1 = 16 ∧ j = 158 := by omega
          rw [z1]
          exact q2507
    match as, hst, hnp, hp with
    | [.inr (.inr (.inl a))], hst, hnp, hp =>
      obtain ⟨hg, hp⟩ := gd_e (b := Nat.ble 2 a && Nat.ble a 38) (P := aft (wpn n) m pc ls rest Qm (.inl [vi ((sbt a).length : Int)]) w) hp
      rw [Bool.and_eq_true] at hg
      have g2 := Nat.le_of_ble_eq_true hg.1
      have g38 := Nat.le_of_ble_eq_true hg.2
      have hlen := sbt_len g2 g38
      obtain ⟨v, hSF⟩ := hSF a g2 g38
      obtain ⟨cell, o1, o2, o3, -⟩ := hSF.1
      have hdp : 3 ≤ (inf m).2.2.1 := hdep
      subst hst
      refine pcall (ig := .invokevirtual j) (y := ⟨"java/lang/String", "length", "()I"⟩) (kc := 0) (ks := 0) (K := 20) (as := [.ref (θ a)]) (rest := rest.map (vlv θ)) (P := fun v' H' => v' = some (.int (Int32.ofInt ((sbt a).length : Int))) ∧ H' = H) (B := fun _ => False) hts q1150 (by decide +kernel) hsz hd (fun T hT X => into_V X hx (C := "java/lang/String") hown (hts _ hlink) (hts _ q1148) (hts _ q1149) (hts _ q1150) ⟨by decide, by decide⟩ (by rw [hT]; exact o1) o2 o3 rfl (argsL := []) (n := 0) rfl (by decide +kernel) rfl hd) (by omega) (by omega) (by have := hF.2.2.2.2.2.1.1; have := hF.2.2.2.2.2.2.1.1; have := hF.2.2.2.2.1.cw.1; omega) (by have := hF.2.2.2.2.2.1.2.1; have := hF.2.2.2.2.2.2.1.2; have := hF.2.2.2.2.1.cw.2; omega) (fun s' mk methk ck below' hv hh hts' hown' hr' hlk' hb' hml' => ?_) (fun v' H' L hP hL => ?_)
      · rw [← hh]
        exact run_length (A := A) (v := v) (N := (sbt a).length) (f := fun j => .int (Int32.ofInt ((sbt a).getD j 0))) hx hts' (by rw [hh]; exact hSF.warm hv) hlk' hown' hr' hb' hml' (by show 1 ≤ R.frames - 1; omega) (Nat.le_refl _) (by omega)
      · obtain ⟨rfl, rfl⟩ := hP
        obtain rfl := L_nil hL
        rw [List.append_nil]
        exact hgo (vi ((sbt a).length : Int)) (by show r32 _; unfold r32; omega) hp
  · rw [nbeq e1, cond_false] at hp
    by_cases e2 : m2 = 602
    · subst e2
      have hlink : Cond.methodLink (owS (inf m).1) j ⟨"java/lang/String", "charAt", "(I)C"⟩ ∈ lw_all := by
        rcases h2 with h | h
        · cases h
        · rcases h.2 with h | h
          · have := Nat.eq_of_beq_eq_true h
            obtain ⟨z1, rfl⟩ : (inf m).1 = 3 ∧ j = 79 := by omega
            rw [z1]
            exact q1161
          · have := Nat.eq_of_beq_eq_true h
            obtain ⟨z1, rfl⟩ : (inf m).1 = 16 ∧ j = 163 := by omega
            rw [z1]
            exact q2508
      match as, hst, hnp, hp with
      | [.inr (.inr (.inl a)), .inl i], hst, hnp, hp =>
        obtain ⟨hg, ⟨i0, i1⟩, hp⟩ := gd_e (b := Nat.ble 2 a && Nat.ble a 38) (P := (0 ≤ i ∧ i < ((sbt a).length : Int)) ∧ aft (wpn n) m pc ls rest Qm (.inl [vi ((sbt a).getD i.toNat 0)]) w) hp
        rw [Bool.and_eq_true] at hg
        have g2 := Nat.le_of_ble_eq_true hg.1
        have g38 := Nat.le_of_ble_eq_true hg.2
        have hlen := sbt_len g2 g38
        obtain ⟨c0, c1⟩ := sbt_in g2 g38 (show i.toNat < (sbt a).length by omega)
        obtain ⟨v, hSF⟩ := hSF a g2 g38
        obtain ⟨cell, o1, o2, o3, -⟩ := hSF.1
        have hdp : 5 ≤ (inf m).2.2.1 := hdep
        subst hst
        refine pcall (ig := .invokevirtual j) (y := ⟨"java/lang/String", "charAt", "(I)C"⟩) (kc := 0) (ks := 0) (K := 64) (as := [.ref (θ a), .int (Int32.ofInt i)]) (rest := rest.map (vlv θ)) (P := fun v' H' => v' = some (.int (Int32.ofInt ((sbt a).getD i.toNat 0))) ∧ H' = H) (B := fun _ => False) hts q1164 (by decide +kernel) hsz hd (fun T hT X => into_V X hx (C := "java/lang/String") hown (hts _ hlink) (hts _ q1162) (hts _ q1163) (hts _ q1164) ⟨by decide, by decide⟩ (by rw [hT]; exact o1) o2 o3 rfl (argsL := [.int (Int32.ofInt i)]) (n := 1) rfl (by decide +kernel) rfl hd) (by omega) (by omega) (by have := hF.2.2.2.2.2.1.1; have := hF.2.2.2.2.2.2.1.1; have := hF.2.2.2.2.1.cw.1; omega) (by have := hF.2.2.2.2.2.1.2.1; have := hF.2.2.2.2.2.2.1.2; have := hF.2.2.2.2.1.cw.2; omega) (fun s' mk methk ck below' hv hh hts' hown' hr' hlk' hb' hml' => ?_) (fun v' H' L hP hL => ?_)
        · rw [← hh]
          exact run_charAt (A := A) (v := v) (N := (sbt a).length) (f := fun j => .int (Int32.ofInt ((sbt a).getD j 0))) hx hts' (by rw [hh]; exact hSF.warm hv) hlk' hown' hr' hb' hml' (by show 3 ≤ R.frames - 1; omega) (Nat.le_refl _) (by omega) i0 i1 rfl c0 c1
        · obtain ⟨rfl, rfl⟩ := hP
          obtain rfl := L_nil hL
          rw [List.append_nil]
          exact hgo (vi ((sbt a).getD i.toNat 0)) (by show r32 _; unfold r32; omega) hp
    · rw [nbeq e2, cond_false] at hp
      exact hp.elim
