/-! the rows of the syntax, member by member -/
set_option maxRecDepth 100000
theorem lnsX_75 {K : TK} : ∀ (l : List Int) (X : Nat → List Int), lnsX K l X 75 = X 75 ++ l
  | [], X => (List.append_nil _).symm
  | a :: l, X => by
    show lnsX K l (lnX K a X) 75 = _
    rw [lnsX_75 l]
    show (X 75 ++ [a]) ++ l = _
    rw [List.append_assoc]; rfl
theorem lnsX_73 {K : TK} : ∀ (l : List Int) (X : Nat → List Int), lnsX K l X 73 = X 73 ++ l.map (lkd K)
  | [], X => (List.append_nil _).symm
  | a :: l, X => by
    show lnsX K l (lnX K a X) 73 = _
    rw [lnsX_73 l]
    show (X 73 ++ [lkd K a]) ++ l.map (lkd K) = _
    rw [List.append_assoc]; rfl
theorem lnsX_77 {K : TK} : ∀ (l : List Int) (X : Nat → List Int), lnsX K l X 77 = X 77 ++ l.map (lop K)
  | [], X => (List.append_nil _).symm
  | a :: l, X => by
    show lnsX K l (lnX K a X) 77 = _
    rw [lnsX_77 l]
    show (X 77 ++ [lop K a]) ++ l.map (lop K) = _
    rw [List.append_assoc]; rfl
theorem lnsX_o {K : TK} {p : Nat} (h : Nat.beq p 73 = false ∧ Nat.beq p 75 = false ∧ Nat.beq p 77 = false) : ∀ (l : List Int) (X : Nat → List Int), lnsX K l X p = X p
  | [], _ => rfl
  | a :: l, X => by
    refine (lnsX_o h l (lnX K a X)).trans ?_
    unfold lnX
    rw [h.1, h.2.1, h.2.2]
    rfl
/-- of a member: the place of its ), its lines, its types, its end -/
noncomputable def bbp (K : TK) (a : Int) : Int := (ptys K (a + 3)).2
noncomputable def lnO (K : TK) (a : Int) : List Int := cit (K.w a 9) [] (llines K (bbp K a + 4))
noncomputable def tcO (K : TK) (a : Int) : Int := cit (K.w a 9) 1 (ltys K (a + 3)).length
noncomputable def clO (K : TK) (a : Int) : Int := cit (K.w a 9) (-1) (plines K (bbp K a + 4)).2
theorem mem2 {K : TK} {a : Int} {X : Nat → List Int} : memX2 K a X 63 = X 63 ++ [mkd K a] ∧ memX2 K a X 65 = X 65 ++ [a + 1] ∧ memX2 K a X 67 = X 67 ++ [tcO K a] ∧ memX2 K a X 71 = X 71 ++ [clO K a] ∧ memX2 K a X 73 = X 73 ++ (lnO K a).map (lkd K) ∧ memX2 K a X 75 = X 75 ++ lnO K a ∧ memX2 K a X 77 = X 77 ++ (lnO K a).map (lop K) ∧ memX2 K a X 59 = X 59 ∧ memX2 K a X 61 = X 61 := by
  unfold memX2 lnO tcO clO
  rcases Classical.em (K.w a 9) with h | h
  · simp only [cit_t h]
    exact ⟨rfl, rfl, rfl, rfl, (List.append_nil _).symm, (List.append_nil _).symm, (List.append_nil _).symm, rfl, rfl⟩
  · simp only [cit_f h]
    have e : a + 2 + 1 = a + 3 := by omega
    have eb : ∀ p, bdX K (a + 2) (memX1 K a X) p = xad (lnsX K (llines K (bbp K a + 4)) (xad (memX1 K a X) 67 (ltys K (a + 3)).length)) 71 (plines K (bbp K a + 4)).2 p := fun p => by
      unfold bdX bdX2 bbp
      rw [e]
    refine ⟨?_, ?_, ?_, ?_, ?_, ?_, ?_, ?_, ?_⟩
    · rw [eb]; show lnsX K _ _ 63 = _; rw [lnsX_o (by decide)]; rfl
    · rw [eb]; show lnsX K _ _ 65 = _; rw [lnsX_o (by decide)]; rfl
    · rw [eb]; show lnsX K _ _ 67 = _; rw [lnsX_o (by decide)]; rfl
    · rw [eb]; show lnsX K _ _ 71 ++ _ = _; rw [lnsX_o (by decide)]; rfl
    · rw [eb]; show lnsX K _ _ 73 = _; rw [lnsX_73]; rfl
    · rw [eb]; show lnsX K _ _ 75 = _; rw [lnsX_75]; rfl
    · rw [eb]; show lnsX K _ _ 77 = _; rw [lnsX_77]; rfl
    · rw [eb]; show lnsX K _ _ 59 = _; rw [lnsX_o (by decide)]; rfl
    · rw [eb]; show lnsX K _ _ 61 = _; rw [lnsX_o (by decide)]; rfl
/-- how many lines stand before the ends of members -/
noncomputable def cuml (K : TK) : List Int → Int → List Int
  | [], _ => []
  | a :: l, n => (n + (lnO K a).length) :: cuml K l (n + (lnO K a).length)
noncomputable def allL (K : TK) : List Int → List Int
  | [] => []
  | a :: l => lnO K a ++ allL K l
theorem mems_r {K : TK} : ∀ (l : List Int) (X : Nat → List Int), memsX K l X 63 = X 63 ++ l.map (mkd K) ∧ memsX K l X 65 = X 65 ++ l.map (fun a => a + 1) ∧ memsX K l X 67 = X 67 ++ l.map (tcO K) ∧ memsX K l X 71 = X 71 ++ l.map (clO K) ∧ memsX K l X 73 = X 73 ++ (allL K l).map (lkd K) ∧ memsX K l X 75 = X 75 ++ allL K l ∧ memsX K l X 77 = X 77 ++ (allL K l).map (lop K) ∧ memsX K l X 59 = X 59 ∧ memsX K l X 61 = X 61 ∧ memsX K l X 69 = X 69 ++ cuml K l (X 75).length
  | [], X => ⟨(List.append_nil _).symm, (List.append_nil _).symm, (List.append_nil _).symm, (List.append_nil _).symm, (List.append_nil _).symm, (List.append_nil _).symm, (List.append_nil _).symm, rfl, rfl, (List.append_nil _).symm⟩
  | a :: l, X => by
    obtain ⟨h1, h2, h3, h4, h5, h6, h7, h8, h9, h10⟩ := mems_r (K := K) l (memX K a X)
    obtain ⟨m1, m2, m3, m4, m5, m6, m7, m8, m9⟩ := mem2 (K := K) (a := a) (X := X)
    have e : memsX K (a :: l) X = memsX K l (memX K a X) := rfl
    have mo : ∀ p, Nat.beq p 69 = false → memX K a X p = memX2 K a X p := fun p hp => by
      show (bif Nat.beq p 69 then _ else memX2 K a X p) = _
      rw [hp]; rfl
    have m69 : memX K a X 69 = X 69 ++ [((memX2 K a X 75).length : Int)] := by
      show memX2 K a X 69 ++ _ = _
      rw [memX2_69]
    rw [mo 63 rfl, m1] at h1
    rw [mo 65 rfl, m2] at h2
    rw [mo 67 rfl, m3] at h3
    rw [mo 71 rfl, m4] at h4
    rw [mo 73 rfl, m5] at h5
    rw [mo 75 rfl, m6] at h6
    rw [mo 77 rfl, m7] at h7
    rw [mo 59 rfl, m8] at h8
    rw [mo 61 rfl, m9] at h9
    rw [m69, mo 75 rfl, m6] at h10
    rw [e]
    refine ⟨?_, ?_, ?_, ?_, ?_, ?_, ?_, h8, h9, ?_⟩
    · rw [h1, List.append_assoc]; rfl
    · rw [h2, List.append_assoc]; rfl
    · rw [h3, List.append_assoc]; rfl
    · rw [h4, List.append_assoc]; rfl
    · rw [h5, List.append_assoc]
      show _ = X 73 ++ (lnO K a ++ allL K l).map (lkd K)
      rw [List.map_append]
    · rw [h6, List.append_assoc]; rfl
    · rw [h7, List.append_assoc]
      show _ = X 77 ++ (lnO K a ++ allL K l).map (lop K)
      rw [List.map_append]
    · rw [h10, List.append_assoc, List.length_append]
      show _ = X 69 ++ ((((X 75).length : Int) + (lnO K a).length) :: cuml K l (((X 75).length : Int) + (lnO K a).length))
      rw [show (((X 75).length + (lnO K a).length : Nat) : Int) = ((X 75).length : Int) + (lnO K a).length by omega]
      rfl
/-- all members; how many stand before the ends of classes -/
noncomputable def allM (K : TK) : List Int → List Int
  | [] => []
  | a :: l => lmems K (a + 5) ++ allM K l
noncomputable def cumm (K : TK) : List Int → Int → List Int
  | [], _ => []
  | a :: l, n => (n + (lmems K (a + 5)).length) :: cumm K l (n + (lmems K (a + 5)).length)
theorem allL_a {K : TK} : ∀ (l l' : List Int), allL K (l ++ l') = allL K l ++ allL K l'
  | [], _ => rfl
  | a :: l, l' => by
    show lnO K a ++ allL K (l ++ l') = (lnO K a ++ allL K l) ++ allL K l'
    rw [allL_a l l', List.append_assoc]
theorem cuml_a {K : TK} : ∀ (l l' : List Int) (n : Int), cuml K (l ++ l') n = cuml K l n ++ cuml K l' (n + (allL K l).length)
  | [], l', n => by
    show cuml K l' n = cuml K l' (n + 0)
    rw [Int.add_zero]
  | a :: l, l', n => by
    show (n + (lnO K a).length) :: cuml K (l ++ l') (n + (lnO K a).length) = (n + (lnO K a).length) :: (cuml K l (n + (lnO K a).length) ++ cuml K l' (n + (lnO K a ++ allL K l).length))
    rw [cuml_a l l', List.length_append, show n + (((lnO K a).length + (allL K l).length : Nat) : Int) = n + (lnO K a).length + (allL K l).length by omega]
theorem clss_r {K : TK} : ∀ (l : List Int) (X : Nat → List Int), clssX K l X 63 = X 63 ++ (allM K l).map (mkd K) ∧ clssX K l X 65 = X 65 ++ (allM K l).map (fun a => a + 1) ∧ clssX K l X 67 = X 67 ++ (allM K l).map (tcO K) ∧ clssX K l X 71 = X 71 ++ (allM K l).map (clO K) ∧ clssX K l X 73 = X 73 ++ (allL K (allM K l)).map (lkd K) ∧ clssX K l X 75 = X 75 ++ allL K (allM K l) ∧ clssX K l X 77 = X 77 ++ (allL K (allM K l)).map (lop K) ∧ clssX K l X 59 = X 59 ++ l.map (fun a => a + 1) ∧ clssX K l X 61 = X 61 ++ cumm K l (X 63).length ∧ clssX K l X 69 = X 69 ++ cuml K (allM K l) (X 75).length
  | [], X => ⟨(List.append_nil _).symm, (List.append_nil _).symm, (List.append_nil _).symm, (List.append_nil _).symm, (List.append_nil _).symm, (List.append_nil _).symm, (List.append_nil _).symm, (List.append_nil _).symm, (List.append_nil _).symm, (List.append_nil _).symm⟩
  | a :: l, X => by
    obtain ⟨h1, h2, h3, h4, h5, h6, h7, h8, h9, h10⟩ := clss_r (K := K) l (clsX K a X)
    obtain ⟨m1, m2, m3, m4, m5, m6, m7, m8, m9, m10⟩ := mems_r (K := K) (lmems K (a + 5)) (xad X 59 (a + 1))
    have e : clssX K (a :: l) X = clssX K l (clsX K a X) := rfl
    have mo : ∀ p, Nat.beq p 61 = false → clsX K a X p = memsX K (lmems K (a + 5)) (xad X 59 (a + 1)) p := fun p hp => by
      show (bif Nat.beq p 61 then _ else _) = _
      rw [hp]; rfl
    have m61 : clsX K a X 61 = X 61 ++ [((X 63 ++ (lmems K (a + 5)).map (mkd K)).length : Int)] := by
      show memsX K (lmems K (a + 5)) (xad X 59 (a + 1)) 61 ++ _ = _
      rw [m9, m1]; rfl
    rw [mo 63 rfl, m1] at h1
    rw [mo 65 rfl, m2] at h2
    rw [mo 67 rfl, m3] at h3
    rw [mo 71 rfl, m4] at h4
    rw [mo 73 rfl, m5] at h5
    rw [mo 75 rfl, m6] at h6
    rw [mo 77 rfl, m7] at h7
    rw [mo 59 rfl, m8] at h8
    rw [m61, mo 63 rfl, m1] at h9
    rw [mo 69 rfl, m10, mo 75 rfl, m6] at h10
    rw [e]
    refine ⟨?_, ?_, ?_, ?_, ?_, ?_, ?_, ?_, ?_, ?_⟩
    · rw [h1, List.append_assoc, ← List.map_append]; rfl
    · rw [h2, List.append_assoc, ← List.map_append]; rfl
    · rw [h3, List.append_assoc, ← List.map_append]; rfl
    · rw [h4, List.append_assoc, ← List.map_append]; rfl
    · rw [h5, List.append_assoc, ← List.map_append, ← allL_a]; rfl
    · rw [h6, List.append_assoc, ← allL_a]; rfl
    · rw [h7, List.append_assoc, ← List.map_append, ← allL_a]; rfl
    · rw [h8]
      show (X 59 ++ [a + 1]) ++ _ = _
      rw [List.append_assoc]; rfl
    · rw [h9, List.append_assoc]
      have e2 : (((X 63) ++ (lmems K (a + 5)).map (mkd K)).length : Int) = ((X 63).length : Int) + (lmems K (a + 5)).length := by
        rw [List.length_append, List.length_map]; omega
      have e3 : ((xad X 59 (a + 1) 63 ++ (lmems K (a + 5)).map (mkd K)).length : Int) = ((X 63).length : Int) + (lmems K (a + 5)).length := e2
      rw [e2, e3]
      rfl
    · rw [h10, List.append_assoc]
      show X 69 ++ (cuml K (lmems K (a + 5)) ((X 75).length : Int) ++ cuml K (allM K l) ((X 75 ++ allL K (lmems K (a + 5))).length : Int)) = X 69 ++ cuml K (lmems K (a + 5) ++ allM K l) _
      rw [cuml_a, List.length_append, show (((X 75).length + (allL K (lmems K (a + 5))).length : Nat) : Int) = ((X 75).length : Int) + (allL K (lmems K (a + 5))).length by omega]
noncomputable def mms (K : TK) : List Int := allM K (lcls K)
/-- SafeCode's rows, as lists over classes, members and lines -/
theorem prog_r (K : TK) : progX K 63 = (mms K).map (mkd K) ∧ progX K 65 = (mms K).map (fun a => a + 1) ∧ progX K 67 = (mms K).map (tcO K) ∧ progX K 71 = (mms K).map (clO K) ∧ progX K 73 = (allL K (mms K)).map (lkd K) ∧ progX K 75 = allL K (mms K) ∧ progX K 77 = (allL K (mms K)).map (lop K) ∧ progX K 59 = (lcls K).map (fun a => a + 1) ∧ progX K 61 = cumm K (lcls K) 0 ∧ progX K 69 = cuml K (mms K) 0 := clss_r (K := K) (lcls K) (fun _ => [])
/-! what a right member has -/
theorem ltys_ok {K : TK} : ∀ (N : Nat) (a b : Int), plp (fun b => K.w b 13) (fun b => pm (K.ty b) b) N a = (true, b) → b = a + (pls (fun b => K.w b 13) (fun b => pm (K.ty b) b) N a).length ∧ (∀ j, a ≤ j → j < b → K.ty j ∧ ¬ K.w j 13) ∧ K.w b 13
  | 0, _, _, h => by cases h
  | N + 1, a, b, h => by
    by_cases h1 : K.w a 13
    · rw [plp_st (st := fun b => K.w b 13) h1] at h
      rw [pls_st (st := fun b => K.w b 13) h1]
      cases h
      exact ⟨by show a = a + 0; omega, fun j j1 j2 => by omega, h1⟩
    · have e : plp (fun b => K.w b 13) (fun b => pm (K.ty b) b) (N + 1) a = pb (pm (K.ty a) a) (plp (fun b => K.w b 13) (fun b => pm (K.ty b) b) N) := cit_f h1
      rw [e] at h
      obtain ⟨c, g1, g2⟩ := pb_t h
      have i1 := pm_e g1
      have i2 := ltys_ok N c b g2
      rw [pls_go (st := fun b => K.w b 13) (f := fun b => pm (K.ty b) b) h1, List.length_cons, show (pm (K.ty a) a).2 = c by rw [g1]]
      refine ⟨by have := i2.1; omega, fun j j1 j2 => ?_, i2.2.2⟩
      by_cases ej : j = a
      · rw [ej]; exact ⟨i1.1, h1⟩
      · exact i2.2.1 j (by omega) j2
/-- a static or a method: (, its types, ), its result, its locals, {, its lines, } -/
theorem mem_ok {K : TK} {a e : Int} (h9 : ¬ K.w a 9) (h : pmem K a = (true, e)) : (K.w a 10 ∨ K.w a 11) ∧ K.sn (a + 1) ∧ K.w (a + 2) 12 ∧ bbp K a = a + 3 + tcO K a ∧ 0 ≤ tcO K a ∧ (∀ j, a + 3 ≤ j → j < bbp K a → K.ty j ∧ ¬ K.w j 13) ∧ K.w (bbp K a) 13 ∧ (K.w (bbp K a + 1) 14 ∨ K.ty (bbp K a + 1)) ∧ K.num (bbp K a + 2) ∧ K.w (bbp K a + 3) 7 ∧ plines K (bbp K a + 4) = (true, clO K a) ∧ K.w (clO K a) 8 ∧ e = clO K a + 1 := by
  unfold pmem at h
  rw [cit_f h9] at h
  obtain ⟨c1, g1, h⟩ := pb_t h
  obtain ⟨c2, g2, h⟩ := pb_t h
  unfold pbody at h
  obtain ⟨d1, k1, h⟩ := pb_t h
  obtain ⟨d2, k2, h⟩ := pb_t h
  obtain ⟨d3, k3, h⟩ := pb_t h
  obtain ⟨d4, k4, h⟩ := pb_t h
  obtain ⟨d5, k5, h⟩ := pb_t h
  obtain ⟨d6, k6, hz⟩ := pb_t h
  have hz : (true, d6 + 1) = (true, e) := hz
  have i1 := pm_e g1
  have i2 := pm_e g2
  have j1 := pm_e k1
  have j3 := pm_e k3
  have j4 := pm_e k4
  have j5 := pm_e k5
  have e1 : c1 = a + 1 := i1.2
  subst e1
  have e2 : c2 = a + 2 := by omega
  subst e2
  have e3 : d1 = a + 3 := by omega
  subst e3
  have hb : bbp K a = d2 := by unfold bbp; rw [k2]
  have e4 : d3 = d2 + 2 := by omega
  subst e4
  have e5 : d4 = d2 + 3 := by omega
  subst e5
  have e6 : d5 = d2 + 4 := by omega
  subst e6
  have ht := ltys_ok _ _ _ k2
  have hc : clO K a = d6 := by unfold clO; rw [cit_f h9, hb, k6]
  have hn : tcO K a = (ltys K (a + 3)).length := cit_f h9
  have h6 := plp_ok (adv_line K) _ _ _ k6
  have hze : d6 + 1 = e := congrArg Prod.snd hz
  rw [hb, hc, hn]
  exact ⟨i1.1, i2.1, j1.1, ht.1, by omega, ht.2.1, ht.2.2, j3.1, j4.1, j5.1, k6, h6.2.1, hze.symm⟩
