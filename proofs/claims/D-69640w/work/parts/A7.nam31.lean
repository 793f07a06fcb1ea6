/-! names: the lines of a body in SafeCode's rows -/
set_option maxRecDepth 100000
theorem mem_lns {K : TK} {a e : Int} (h : pmem K a = (true, e)) : ((lnO K a).length : Int) ≤ e - a := by
  have h1 := adv_mem K _ _ h
  unfold lnO
  rcases Classical.em (K.w a 9) with g | g
  · rw [cit_t g]
    show (0 : Int) ≤ _
    omega
  · rw [cit_f g]
    have h2 := mem_ok g h
    have h3 := pls_len (adv_line K) _ _ _ h2.2.2.2.2.2.2.2.2.2.2.1
    have h4 : ((llines K (bbp K a + 4)).length : Int) ≤ clO K a - (bbp K a + 4) := h3
    have h5 := h2.2.2.2.1
    have h6 := h2.2.2.2.2.1
    have h7 := h2.2.2.2.2.2.2.2.2.2.2.2.2
    have h8 : e = clO K a + 1 := h7
    omega
theorem mems_lns {K : TK} {st : Int → Prop} : ∀ (N : Nat) (a b : Int), plp st (pmem K) N a = (true, b) → ((allL K (pls st (pmem K) N a)).length : Int) ≤ b - a
  | 0, _, _, h => by cases h
  | N + 1, a, b, h => by
    have h5 := plp_ok (adv_mem K) _ _ _ h
    unfold plp at h
    rcases Classical.em (st a) with h1 | h1
    · rw [pls_st h1]
      show (0 : Int) ≤ _
      omega
    · rw [cit_f h1] at h
      rw [pls_go h1]
      obtain ⟨c, h2, h3⟩ := pb_t h
      have h4 := mem_lns h2
      have := mems_lns N c b h3
      rw [h2]
      show ((lnO K a ++ allL K (pls st (pmem K) N c)).length : Int) ≤ _
      rw [List.length_append]
      omega
theorem cls_lns {K : TK} {a e : Int} (h : pcls K a = (true, e)) : ((allL K (lmems K (a + 5))).length : Int) ≤ e - a := by
  have h0 := h
  unfold pcls at h
  obtain ⟨c1, g1, h⟩ := pb_t h
  obtain ⟨c2, g2, h⟩ := pb_t h
  obtain ⟨c3, g3, h⟩ := pb_t h
  obtain ⟨c4, g4, h⟩ := pb_t h
  obtain ⟨c5, g5, h⟩ := pb_t h
  obtain ⟨c6, g6, h⟩ := pb_t h
  have i1 := (pm_e g1).2
  have i2 := (pm_e g2).2
  have i3 := (pm_e g3).2
  have i4 := (pm_e g4).2
  have i5 := (pm_e g5).2
  have e5 : a + 5 = c5 := by omega
  have := mems_lns _ _ _ g6
  have h : (true, c6 + 1) = (true, e) := h
  have h' : c6 + 1 = e := by cases h; rfl
  rw [e5]
  unfold lmems
  omega
theorem allL_len {K : TK} : ∀ (N : Nat) (a b : Int), plp (fun b => ¬ b < K.n) (pcls K) N a = (true, b) → ((allL K (allM K (pls (fun b => ¬ b < K.n) (pcls K) N a))).length : Int) ≤ b - a
  | 0, _, _, h => by cases h
  | N + 1, a, b, h => by
    have h5 := plp_ok (adv_cls K) _ _ _ h
    unfold plp at h
    rcases Classical.em (¬ a < K.n) with h1 | h1
    · rw [pls_st (st := fun b => ¬ b < K.n) h1]
      show (0 : Int) ≤ _
      omega
    · rw [cit_f h1] at h
      rw [pls_go (st := fun b => ¬ b < K.n) h1]
      obtain ⟨c, h2, h3⟩ := pb_t h
      have h4 := cls_lns h2
      have := allL_len N c b h3
      rw [h2, allM_c, allL_a, List.length_append]
      dsimp only
      omega
theorem lns_len {K : TK} (h : (pprog K).1 = true) (hn : 0 ≤ K.n) : ((allL K (mms K)).length : Int) ≤ K.n := by
  have h1 := allL_len (K := K) _ 0 _ (PR_t h)
  have h2 := plp_ok (adv_cls K) _ _ _ (PR_t h)
  have h3 : ((allL K (mms K)).length : Int) ≤ (pprog K).2 - 0 := h1
  by_cases e : 0 < (pprog K).2
  · have := h2.2.2 e
    have h4 : (pprog K).2 ≤ K.n := this
    omega
  · omega
theorem cuml_at {K : TK} : ∀ (p l : List Int) (a n : Int), lf (cuml K (p ++ a :: l) n) p.length = n + (allL K p).length + (lnO K a).length
  | [], l, a, n => by
    show (((n + (lnO K a).length) :: cuml K l (n + (lnO K a).length) : List Int)).getD (Int.toNat (0 : Nat)) 0 = _
    show n + ((lnO K a).length : Int) = n + ((([] : List Int).length : Nat) : Int) + _
    show n + ((lnO K a).length : Int) = n + 0 + _
    omega
  | b :: p, l, a, n => by
    have := cuml_at (K := K) p l a (n + (lnO K b).length)
    show lf ((n + (lnO K b).length) :: cuml K (p ++ a :: l) (n + (lnO K b).length)) ((p.length + 1 : Nat) : Int) = n + ((lnO K b ++ allL K p).length : Int) + _
    rw [List.length_append]
    have e : lf ((n + (lnO K b).length) :: cuml K (p ++ a :: l) (n + (lnO K b).length)) ((p.length + 1 : Nat) : Int) = lf (cuml K (p ++ a :: l) (n + (lnO K b).length)) p.length := by
      unfold lf
      rw [Int.toNat_natCast, Int.toNat_natCast]
      rfl
    rw [e, this]
    omega
/-- where the lines of member m begin -/
noncomputable def lnB (K : TK) (m : Int) : Int := cit (m = 0) 0 (lf (cuml K (mms K) 0) (m - 1))
theorem split_at {l : List Int} {m : Int} (h0 : 0 ≤ m) (h1 : m < l.length) : ∃ p s, l = p ++ lf l m :: s ∧ (p.length : Int) = m := by
  refine ⟨l.take m.toNat, l.drop (m.toNat + 1), ?_, ?_⟩
  · have h2 := lf_dc (l := l) (i := m.toNat) (by omega)
    rw [show ((m.toNat : Nat) : Int) = m by omega] at h2
    rw [← h2, List.take_append_drop]
  · rw [List.length_take]; omega
theorem lnB_e {K : TK} {p s : List Int} {a : Int} (e : mms K = p ++ a :: s) : lnB K p.length = (allL K p).length ∧ lf (cuml K (mms K) 0) p.length = (allL K p).length + (lnO K a).length := by
  refine ⟨?_, ?_⟩
  · unfold lnB
    by_cases h : (p.length : Int) = 0
    · rw [cit_t h]
      have : p = [] := List.length_eq_zero_iff.mp (by omega)
      rw [this]
      rfl
    · rw [cit_f h]
      have hp : p.length - 1 < p.length := by omega
      obtain ⟨q, s2, e2, e3⟩ := split_at (l := p) (m := (p.length : Int) - 1) (by omega) (by omega)
      have e4 : mms K = q ++ lf p ((p.length : Int) - 1) :: (s2 ++ a :: s) := by rw [e]; conv => lhs; rw [e2]; simp
      have h5 := cuml_at (K := K) q (s2 ++ a :: s) (lf p ((p.length : Int) - 1)) 0
      rw [← e4, e3] at h5
      rw [h5]
      have e6 : s2 = [] := by
        have := congrArg List.length e2
        rw [List.length_append, List.length_cons] at this
        exact List.length_eq_zero_iff.mp (by omega)
      rw [e6] at e2
      conv => rhs; rw [e2, allL_a]
      rw [List.length_append]
      show _ = (((allL K q).length + (lnO K (lf p ((p.length : Int) - 1)) ++ allL K []).length : Nat) : Int)
      rw [List.length_append]
      show _ = (((allL K q).length + ((lnO K (lf p ((p.length : Int) - 1))).length + 0) : Nat) : Int)
      omega
  · rw [e, cuml_at]; omega
theorem lf_app {p l : List Int} {i : Int} (h0 : 0 ≤ i) : lf (p ++ l) (p.length + i) = lf l i := by
  unfold lf
  rw [show ((p.length : Int) + i).toNat = p.length + i.toNat by omega, List.getD_eq_getElem?_getD, List.getD_eq_getElem?_getD, List.getElem?_append_right (by omega), show p.length + i.toNat - p.length = i.toNat by omega]
theorem lf_apl {p l : List Int} {i : Int} (h0 : 0 ≤ i) (h1 : i < p.length) : lf (p ++ l) i = lf p i := by
  unfold lf
  rw [List.getD_eq_getElem?_getD, List.getD_eq_getElem?_getD, List.getElem?_append_left (by omega)]
/-- the lines of a member lie in SafeCode's rows -/
theorem lnp_i {K : TK} {D : Dt} (h : SR D (progX K)) {m : Int} (h0 : 0 ≤ m) (h1 : m < (mms K).length) : LNp K (lnO K (lf (mms K) m)) (lnB K m) D ∧ lf (cuml K (mms K) 0) m = lnB K m + (lnO K (lf (mms K) m)).length ∧ 0 ≤ lnB K m ∧ lnB K m + (lnO K (lf (mms K) m)).length ≤ (allL K (mms K)).length := by
  obtain ⟨p, s, e, em⟩ := split_at h0 h1
  have hb := lnB_e e
  rw [em] at hb
  obtain ⟨r1, r2, r3, r4, r5, r6, r7, r8, r9, r10⟩ := prog_r K
  obtain ⟨x59, x61, x63, x65, x67, x69, x71, x73, x75, x77⟩ := h
  rw [r5] at x73
  rw [r6] at x75
  rw [r7] at x77
  have eA : allL K (mms K) = allL K p ++ (lnO K (lf (mms K) m) ++ allL K s) := by
    conv => lhs; rw [e, allL_a]
    rfl
  have hL : (allL K (mms K)).length = (allL K p).length + ((lnO K (lf (mms K) m)).length + (allL K s).length) := by rw [eA, List.length_append, List.length_append]
  refine ⟨fun i i0 i1 => ?_, by rw [hb.2, hb.1], by rw [hb.1]; omega, by rw [hb.1]; omega⟩
  rw [hb.1]
  have hi : ((allL K p).length : Int) + i < (allL K (mms K)).length := by omega
  have y73 := lr_lf x73 (m := (allL K p).length + i) (by omega) (by rw [List.length_map]; exact hi)
  have y75 := lr_lf x75 (m := (allL K p).length + i) (by omega) hi
  have y77 := lr_lf x77 (m := (allL K p).length + i) (by omega) (by rw [List.length_map]; exact hi)
  rw [lf_map (by omega) hi] at y73 y77
  have eL : lf (allL K (mms K)) ((allL K p).length + i) = lf (lnO K (lf (mms K) m)) i := by
    rw [eA, lf_app i0, lf_apl i0 i1]
  rw [eL] at y73 y75 y77
  exact ⟨⟨y73.2, y75.2, y77.2⟩, y73.1, y75.1, y77.1⟩
/-- what a right line has -/
theorem pl_of {K : TK} {l : Int} (h : (pline K l).1 = true) : K.sn l ∧ ((K.w (l + 1) 15 ∧ (pline K l).2 = l + 2) ∨ (¬ K.w (l + 1) 15 ∧ K.w l 16 ∧ l + 4 < K.n ∧ (pline K l).2 = l + 5) ∨ (¬ K.w (l + 1) 15 ∧ ¬ K.w l 16 ∧ 0 ≤ K.op l ∧ (pops K (K.op l) (l + 1)).1 = true ∧ (pline K l).2 = (pops K (K.op l) (l + 1)).2)) := by
  have h := PR_t h
  rcases Classical.em (K.sn l) with g | g
  · refine ⟨g, ?_⟩
    have e : pline K l = _ := cit_t g
    rcases Classical.em (K.w (l + 1) 15) with g1 | g1
    · rw [cit_t g1] at e
      exact Or.inl ⟨g1, by rw [e]⟩
    · rw [cit_f g1] at e
      rcases Classical.em (K.w l 16) with g2 | g2
      · rw [cit_t g2] at e
        refine Or.inr (Or.inl ⟨g1, g2, ?_⟩)
        rw [e] at h
        obtain ⟨c1, i1, h⟩ := pb_t h
        obtain ⟨c2, i2, h⟩ := pb_t h
        obtain ⟨c3, i3, h⟩ := pb_t h
        have j1 := pm_e i1
        have j2 := pm_e i2
        have j3 := pm_e i3
        have j4 := pm_e h
        have j5 := j4.1.1
        rw [e]
        exact ⟨by omega, by omega⟩
      · rw [cit_f g2] at e
        rcases Classical.em (K.op l < 0) with g3 | g3
        · rw [cit_t g3] at e
          rw [e] at h
          cases h
        · rw [cit_f g3] at e
          refine Or.inr (Or.inr ⟨g1, g2, by omega, ?_, by rw [e]⟩)
          rw [← e, h]
  · rw [show pline K l = (false, l) from cit_f g] at h
    cases h
theorem r217_0 {L c3 c4 c5 c6 : Nat} {D : Dt} {Q : Out → Wd → Prop} {i : Int} (H : (0 ≤ i ∧ i < 1024) ∧ ((D 212 i = 19 → (Q (.inl [vi 0]) (D, SS L 1 2 c3 c4 c5 c6))) ∧ (¬ (D 212 i = 19) → ((0 ≤ i ∧ i < 1024) ∧ ((D 212 i = 41 → (Q (.inl [vi 0]) (D, SS L 1 2 c3 c4 c5 c6))) ∧ (¬ (D 212 i = 41) → ((0 ≤ i ∧ i < 1024) ∧ ((D 212 i = 42 → (Q (.inl [vi 0]) (D, SS L 1 2 c3 c4 c5 c6))) ∧ (¬ (D 212 i = 42) → ((0 ≤ i ∧ i < 1024) ∧ ((D 212 i = 43 → (Q (.inl [vi 0]) (D, SS L 1 2 c3 c4 c5 c6))) ∧ (¬ (D 212 i = 43) → (Q (.inl [vi 1]) (D, SS L 1 2 c3 c4 c5 c6)))))))))))))) : wp 217 0 [vr 197, vi i] [] (D, SS L 1 2 c3 c4 c5 c6) Q := vc_wp [4] 200 _ _ _ _ _ _ (show wp 217 4 [vr 197, vi i] [vr 212] (D, SS L 1 2 c3 c4 c5 c6) Q from vc_wp [15] 200 _ _ _ _ _ _ (show (0 ≤ i ∧ i < 1024) ∧ ((D 212 i = 19 → (((0 : Int) ≤ 0 ∧ 0 ≤ (1 : Int)) ∧ (Q (.inl [vi 0]) (D, SS L 1 2 c3 c4 c5 c6)))) ∧ (¬ (D 212 i = 19) → (wp 217 15 [vr 197, vi i] [vr 212] (D, SS L 1 2 c3 c4 c5 c6) Q))) from ⟨H.1, ⟨fun h7 => ⟨(by decide), (H.2.1 h7)⟩, fun h8 => vc_wp [26] 200 _ _ _ _ _ _ (show (0 ≤ i ∧ i < 1024) ∧ ((D 212 i = 41 → (((0 : Int) ≤ 0 ∧ 0 ≤ (1 : Int)) ∧ (Q (.inl [vi 0]) (D, SS L 1 2 c3 c4 c5 c6)))) ∧ (¬ (D 212 i = 41) → (wp 217 26 [vr 197, vi i] [vr 212] (D, SS L 1 2 c3 c4 c5 c6) Q))) from ⟨(H.2.2 h8).1, ⟨fun h5 => ⟨(by decide), ((H.2.2 h8).2.1 h5)⟩, fun h6 => vc_wp [37] 200 _ _ _ _ _ _ (show (0 ≤ i ∧ i < 1024) ∧ ((D 212 i = 42 → (((0 : Int) ≤ 0 ∧ 0 ≤ (1 : Int)) ∧ (Q (.inl [vi 0]) (D, SS L 1 2 c3 c4 c5 c6)))) ∧ (¬ (D 212 i = 42) → (wp 217 37 [vr 197, vi i] [vr 212] (D, SS L 1 2 c3 c4 c5 c6) Q))) from ⟨((H.2.2 h8).2.2 h6).1, ⟨fun h3 => ⟨(by decide), (((H.2.2 h8).2.2 h6).2.1 h3)⟩, fun h4 => vc_wp [] 200 _ _ _ _ _ _ (show (0 ≤ i ∧ i < 1024) ∧ ((D 212 i = 43 → (((0 : Int) ≤ 0 ∧ 0 ≤ (1 : Int)) ∧ (Q (.inl [vi 0]) (D, SS L 1 2 c3 c4 c5 c6)))) ∧ (¬ (D 212 i = 43) → (((0 : Int) ≤ 1 ∧ 1 ≤ (1 : Int)) ∧ (Q (.inl [vi 1]) (D, SS L 1 2 c3 c4 c5 c6))))) from ⟨(((H.2.2 h8).2.2 h6).2.2 h4).1, ⟨fun h1 => ⟨(by decide), ((((H.2.2 h8).2.2 h6).2.2 h4).2.1 h1)⟩, fun h2 => ⟨(by decide), ((((H.2.2 h8).2.2 h6).2.2 h4).2.2 h2)⟩⟩⟩)⟩⟩)⟩⟩)⟩⟩))
theorem s217 {L c3 c4 c5 c6 : Nat} {D : Dt} {Q : Out → Wd → Prop} {i : Int} (H : (0 ≤ i ∧ i < 1024) ∧ Q (.inl [vi (ib (goOn (D 212 i)))]) (D, SS L 1 2 c3 c4 c5 c6)) : wp 217 0 [vr 197, vi i] [] (D, SS L 1 2 c3 c4 c5 c6) Q := by
  obtain ⟨hi, H⟩ := H
  exact r217_0 ⟨hi, fun g => q_i H (ib_f fun x => x.1 g), fun g => ⟨hi, fun g1 => q_i H (ib_f fun x => x.2.1 g1), fun g1 => ⟨hi, fun g2 => q_i H (ib_f fun x => x.2.2.1 g2), fun g2 => ⟨hi, fun g3 => q_i H (ib_f fun x => x.2.2.2 g3), fun g3 => q_i H (ib_t ⟨g, g1, g2, g3⟩)⟩⟩⟩⟩
theorem r85_0 {L c3 c4 c5 c6 : Nat} {D : Dt} {Q : Out → Wd → Prop} {m : Int} (H : ((m = 0 → (Q (.inl [vi 0]) (D, SS L 1 2 c3 c4 c5 c6))) ∧ (¬ (m = 0) → (((-2147483648) ≤ m - 1 ∧ m - 1 ≤ 2147483647) ∧ ((0 ≤ m - 1 ∧ m - 1 < D 70 (-1)) ∧ (Q (.inl [vi (D 70 (m - 1))]) (D, SS L 1 2 c3 c4 c5 c6))))))) : wp 85 0 [vr 79, vi m] [] (D, SS L 1 2 c3 c4 c5 c6) Q := vc_wp [12] 200 _ _ _ _ _ _ (show ((m = 0 → (Q (.inl [vi 0]) (D, SS L 1 2 c3 c4 c5 c6))) ∧ (¬ (m = 0) → (wp 85 12 [vr 79, vi m] [vr 58] (D, SS L 1 2 c3 c4 c5 c6) Q))) from ⟨fun h2 => (H.1 h2), fun h3 => vc_wp [15] 200 _ _ _ _ _ _ (show wp 85 15 [vr 79, vi m] [vr 69] (D, SS L 1 2 c3 c4 c5 c6) Q from vc_wp [18] 200 _ _ _ _ _ _ (show wp 85 18 [vr 79, vi m] [vr 70] (D, SS L 1 2 c3 c4 c5 c6) Q from vc_wp [21] 200 _ _ _ _ _ _ (show wp 85 21 [vr 79, vi m] [vi (w32 (m - 1)), vr 70] (D, SS L 1 2 c3 c4 c5 c6) Q from w32_i (fun z1 : Int => wp 85 21 [vr 79, vi m] [vi z1, vr 70] (D, SS L 1 2 c3 c4 c5 c6) Q) ((H.2 h3)).1 (vc_wp [] 200 _ _ _ _ _ _ (show (0 ≤ m - 1 ∧ m - 1 < D 70 (-1)) ∧ (Q (.inl [vi (D 70 (m - 1))]) (D, SS L 1 2 c3 c4 c5 c6)) from ⟨((H.2 h3)).2.1, ((H.2 h3)).2.2⟩)))))⟩)
theorem s85 {L c3 c4 c5 c6 : Nat} {D : Dt} {Q : Out → Wd → Prop} {m : Int} (H : (0 ≤ m ∧ m ≤ D 70 (-1) ∧ m ≤ 4000) ∧ Q (.inl [vi (cit (m = 0) 0 (D 70 (m - 1)))]) (D, SS L 1 2 c3 c4 c5 c6)) : wp 85 0 [vr 79, vi m] [] (D, SS L 1 2 c3 c4 c5 c6) Q := by
  obtain ⟨⟨h0, h1, h2⟩, H⟩ := H
  exact r85_0 ⟨fun g => q_i H (cit_t g), fun g => ⟨by omega, by omega, q_i H (cit_f g)⟩⟩
