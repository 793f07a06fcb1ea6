/-! SafeCode's syntax: the whole -/
set_option maxRecDepth 100000
theorem lnsX_69 {K : TK} : ∀ (l : List Int) (X : Nat → List Int), lnsX K l X 69 = X 69
  | [], _ => rfl
  | a :: l, X => (lnsX_69 l (lnX K a X)).trans rfl
theorem memX2_69 {K : TK} {a : Int} {X : Nat → List Int} : memX2 K a X 69 = X 69 := by
  unfold memX2
  rcases Classical.em (K.w a 9) with h | h
  · rw [cit_t h]; rfl
  · rw [cit_f h]
    show lnsX K _ _ 69 = X 69
    rw [lnsX_69]; rfl
theorem mem_ab {K : TK} {a : Int} (h : (pmem K a).1 = true) : a < (pmem K a).2 ∧ (pmem K a).2 ≤ K.n := adv_mem K _ _ (PR_t h)
theorem XL.mem {K : TK} {a : Int} {X : Nat → List Int} (hX : XL X a) (h : (pmem K a).1 = true) : XL (memX K a X) (pmem K a).2 := by
  have h1 := mem_ab h
  have hm : XL (memX2 K a X) (pmem K a).2 := by
    have h2 : XL (memX1 K a X) (a + 2) := (hX.a (b := a + 1) (by omega)).a (by omega)
    unfold memX2
    rcases Classical.em (K.w a 9) with h9 | h9
    · rw [cit_t h9]
      have e : pmem K a = pb (pm (K.sn (a + 1)) (a + 1)) fun b => pm (K.ty b) b := cit_t h9
      have e' := PR_t h
      rw [e] at e'
      obtain ⟨c1, g1, e'⟩ := pb_t e'
      have g1' := (pm_e g1).2
      have g2' := (pm_e e').2
      rw [← e] at g2'
      have e3 : (pmem K a).2 = a + 3 := by omega
      intro q
      rw [e3]
      show (((bif Nat.beq q 71 then xad (memX1 K a X) 67 1 71 ++ [-1] else bif Nat.beq q 67 then memX1 K a X 67 ++ [1] else memX1 K a X q) : List Int).length : Int) ≤ a + 3
      cases Nat.beq q 71 with
      | true =>
        have := h2 71
        show (((memX1 K a X) 71 ++ [-1]).length : Int) ≤ a + 3
        rw [List.length_append]
        show ((((memX1 K a X) 71).length + 1 : Nat) : Int) ≤ a + 3
        omega
      | false =>
        cases Nat.beq q 67 with
        | true =>
          have := h2 67
          show (((memX1 K a X) 67 ++ [1]).length : Int) ≤ a + 3
          rw [List.length_append]
          show ((((memX1 K a X) 67).length + 1 : Nat) : Int) ≤ a + 3
          omega
        | false => have := h2 q; show (((memX1 K a X) q).length : Int) ≤ a + 3; omega
    · rw [cit_f h9]
      have e' := PR_t h
      have e : pmem K a = pb (pm (K.w a 10 ∨ K.w a 11) a) fun b => pb (pm (K.sn b) b) fun b => pbody K b := cit_f h9
      rw [e] at e'
      obtain ⟨c1, g1, e'⟩ := pb_t e'
      obtain ⟨c2, g2, e'⟩ := pb_t e'
      have g1' := (pm_e g1).2
      have g2' := (pm_e g2).2
      have e2 : c2 = a + 2 := by omega
      subst e2
      have h3 : (pbody K (a + 2)).1 = true := by rw [e']
      have h4 := h2.bd h3
      have h5 : (pbody K (a + 2)).2 = (pmem K a).2 := by rw [e', ← e]
      rw [h5] at h4
      exact h4
  intro q
  show (((bif Nat.beq q 69 then memX2 K a X 69 ++ [((memX2 K a X 75).length : Int)] else memX2 K a X q) : List Int).length : Int) ≤ (pmem K a).2
  cases Nat.beq q 69 with
  | true =>
    have := hX 69
    show ((memX2 K a X 69 ++ [((memX2 K a X 75).length : Int)]).length : Int) ≤ (pmem K a).2
    rw [memX2_69, List.length_append]
    show (((X 69).length + 1 : Nat) : Int) ≤ (pmem K a).2
    omega
  | false => exact hm q
noncomputable def memsX (K : TK) (l : List Int) (X : Nat → List Int) : Nat → List Int := l.foldl (fun X a => memX K a X) X
noncomputable def clsX (K : TK) (a : Int) (X : Nat → List Int) : Nat → List Int := xad (memsX K (lmems K (a + 5)) (xad X 59 (a + 1))) 61 (memsX K (lmems K (a + 5)) (xad X 59 (a + 1)) 63).length
noncomputable def clssX (K : TK) (l : List Int) (X : Nat → List Int) : Nat → List Int := l.foldl (fun X a => clsX K a X) X
noncomputable def progX (K : TK) : Nat → List Int := clssX K (lcls K) (fun _ => [])
theorem r60_0 {L c2 c3 c4 c5 c6 : Nat} {K : TK} {D : Dt} {Q : Out → Wd → Prop} (H : (R1 D) ∧ ((∀ (G2 : Nat → Int → Int), (G2 58 2 = 0 ∧ SR G2 (fun _ => [])) → (wp 60 4 [vr 58] [] (ov D 58 78 G2, SS L 1 c2 c3 c4 c5 c6) Q)))) : wp 60 0 [vr 58] [] (D, SS L 1 c2 c3 c4 c5 c6) Q := vc_wp [] 200 _ _ _ _ _ _ (show wp 61 0 [vr 58] [] (D, SS L 1 c2 c3 c4 c5 c6) (aft wp 60 1 [vr 58] [] Q) from s61 ⟨H.1, (fun G2 q3 => (show wp 60 4 [vr 58] [] (ov D 58 78 G2, SS L 1 c2 c3 c4 c5 c6) Q from (H.2 G2 q3)))⟩)
theorem r60_4 {L c2 c3 c4 c5 c6 : Nat} {K : TK} {D : Dt} {Q : Out → Wd → Prop} (H : (SKp K (D 54) (D 55) (D 56) (D 57) (D 224)) ∧ ((((D 58 2 < K.n → ((SKp K (D 54) (D 55) (D 56) (D 57) (D 224) ∧ 0 ≤ (D 58 2)) ∧ (((SKp K (D 54) (D 55) (D 56) (D 57) (D 224) ∧ 0 ≤ D 58 2 ∧ D 58 2 ≤ 20000) ∧ ((((K.w (D 58 2) 5) ∧ D 58 2 < K.n) → ((SKp K (D 54) (D 55) (D 56) (D 57) (D 224) ∧ 0 ≤ (D 58 2 + 1)) ∧ (((SKp K (D 54) (D 55) (D 56) (D 57) (D 224) ∧ 0 ≤ D 58 2 + 1 ∧ D 58 2 + 1 ≤ 20000) ∧ ((((K.cn (D 58 2 + 1)) ∧ D 58 2 + 1 < K.n) → (((-2147483648) ≤ (D 58 2 + 1 + 1) - 1 ∧ (D 58 2 + 1 + 1) - 1 ≤ 2147483647) ∧ ((RowOK (D 59) (D 60) ∧ D 59 1 ≤ 4096) ∧ ((∀ (z12 : Int → Int) (r13 : Int → Int), (AddP (D 59) (D 60) z12 r13 ((D 58 2 + 1 + 1) - 1)) → ((SKp K (D 54) (D 55) (D 56) (D 57) (D 224) ∧ 0 ≤ (D 58 2 + 1 + 1)) ∧ (((SKp K (D 54) (D 55) (D 56) (D 57) (D 224) ∧ 0 ≤ D 58 2 + 1 + 1 ∧ D 58 2 + 1 + 1 ≤ 20000) ∧ ((((K.w (D 58 2 + 1 + 1) 6) ∧ D 58 2 + 1 + 1 < K.n) → ((SKp K (D 54) (D 55) (D 56) (D 57) (D 224) ∧ 0 ≤ (D 58 2 + 1 + 1 + 1)) ∧ (((SKp K (D 54) (D 55) (D 56) (D 57) (D 224) ∧ 0 ≤ D 58 2 + 1 + 1 + 1 ∧ D 58 2 + 1 + 1 + 1 ≤ 20000) ∧ ((((K.cn (D 58 2 + 1 + 1 + 1)) ∧ D 58 2 + 1 + 1 + 1 < K.n) → ((SKp K (D 54) (D 55) (D 56) (D 57) (D 224) ∧ 0 ≤ (D 58 2 + 1 + 1 + 1 + 1)) ∧ (((SKp K (D 54) (D 55) (D 56) (D 57) (D 224) ∧ 0 ≤ D 58 2 + 1 + 1 + 1 + 1 ∧ D 58 2 + 1 + 1 + 1 + 1 ≤ 20000) ∧ ((((K.w (D 58 2 + 1 + 1 + 1 + 1) 7) ∧ D 58 2 + 1 + 1 + 1 + 1 < K.n) → (wp 60 112 [vr 58] [] (up (sp (sp (up D 58 2 (D 58 2 + 1 + 1)) 59 z12) 60 r13) 58 2 (D 58 2 + 1 + 1 + 1 + 1 + 1), SS L 1 c2 c3 c4 c5 c6) Q)) ∧ ((¬ ((K.w (D 58 2 + 1 + 1 + 1 + 1) 7) ∧ D 58 2 + 1 + 1 + 1 + 1 < K.n)) → (Q (.inr 52) (up (up (up (sp (sp (up D 58 2 (D 58 2 + 1 + 1)) 59 z12) 60 r13) 58 2 (D 58 2 + 1 + 1 + 1 + 1)) 51 1 2) 51 2 (D 58 2 + 1 + 1 + 1 + 1), SS L 1 c2 c3 c4 c5 c6)))))))) ∧ ((¬ ((K.cn (D 58 2 + 1 + 1 + 1)) ∧ D 58 2 + 1 + 1 + 1 < K.n)) → (Q (.inr 52) (up (up (up (sp (sp (up D 58 2 (D 58 2 + 1 + 1)) 59 z12) 60 r13) 58 2 (D 58 2 + 1 + 1 + 1)) 51 1 2) 51 2 (D 58 2 + 1 + 1 + 1), SS L 1 c2 c3 c4 c5 c6)))))))) ∧ ((¬ ((K.w (D 58 2 + 1 + 1) 6) ∧ D 58 2 + 1 + 1 < K.n)) → (Q (.inr 52) (up (up (sp (sp (up D 58 2 (D 58 2 + 1 + 1)) 59 z12) 60 r13) 51 1 2) 51 2 (D 58 2 + 1 + 1), SS L 1 c2 c3 c4 c5 c6)))))))))))) ∧ ((¬ ((K.cn (D 58 2 + 1)) ∧ D 58 2 + 1 < K.n)) → (Q (.inr 52) (up (up (up D 58 2 (D 58 2 + 1)) 51 1 2) 51 2 (D 58 2 + 1), SS L 1 c2 c3 c4 c5 c6)))))))) ∧ ((¬ ((K.w (D 58 2) 5) ∧ D 58 2 < K.n)) → (Q (.inr 52) (up (up D 51 1 2) 51 2 (D 58 2), SS L 1 c2 c3 c4 c5 c6)))))))) ∧ (¬ (D 58 2 < K.n) → (Q (.inl []) (D, SS L 1 c2 c3 c4 c5 c6))))))) : wp 60 4 [vr 58] [] (D, SS L 1 c2 c3 c4 c5 c6) Q := vc_wp [12] 200 _ _ _ _ _ _ (show wp 60 12 [vr 58] [vr 53, vi (D 58 2)] (D, SS L 1 c2 c3 c4 c5 c6) Q from vc_wp [] 200 _ _ _ _ _ _ (show wp 32 0 [vr 53] [] (D, SS L 1 c2 c3 c4 c5 c6) (aft wp 60 12 [vr 58] [vi (D 58 2)] Q) from k32 ⟨H.1, (show wp 60 15 [vr 58] [vi K.n, vi (D 58 2)] (D, SS L 1 c2 c3 c4 c5 c6) Q from vc_wp [23] 200 _ _ _ _ _ _ (show ((D 58 2 < K.n → (wp 60 23 [vr 58] [vr 53, vr 58] (D, SS L 1 c2 c3 c4 c5 c6) Q)) ∧ (¬ (D 58 2 < K.n) → (Q (.inl []) (D, SS L 1 c2 c3 c4 c5 c6)))) from ⟨fun h33 => vc_wp [] 200 _ _ _ _ _ _ (show wp 37 0 [vr 53, vi (D 58 2), vr 5] [] (D, SS L 1 c2 c3 c4 c5 c6) (aft wp 60 29 [vr 58] [vr 58] Q) from k37s5 ⟨(H.2.1 h33).1, (show wp 60 32 [vr 58] [vi (ib (K.w (D 58 2) 5)), vr 58] (D, SS L 1 c2 c3 c4 c5 c6) Q from vc_wp [] 200 _ _ _ _ _ _ (show wp 62 0 [vr 58, vi (ib (K.w (D 58 2) 5))] [] (D, SS L 1 c2 c3 c4 c5 c6) (aft wp 60 32 [vr 58] [] Q) from b62 ⟨(H.2.1 h33).2.1, (fun q6 => (show wp 60 35 [vr 58] [] (up D 58 2 (D 58 2 + 1), SS L 1 c2 c3 c4 c5 c6) Q from vc_wp [40] 200 _ _ _ _ _ _ (show wp 60 40 [vr 58] [vr 53, vr 58] (up D 58 2 (D 58 2 + 1), SS L 1 c2 c3 c4 c5 c6) Q from vc_wp [] 200 _ _ _ _ _ _ (show wp 39 0 [vr 53, vi (D 58 2 + 1)] [] (up D 58 2 (D 58 2 + 1), SS L 1 c2 c3 c4 c5 c6) (aft wp 60 44 [vr 58] [vr 58] Q) from k39 ⟨((H.2.1 h33).2.2.1 q6).1, (show wp 60 47 [vr 58] [vi (ib (K.cn (D 58 2 + 1))), vr 58] (up D 58 2 (D 58 2 + 1), SS L 1 c2 c3 c4 c5 c6) Q from vc_wp [] 200 _ _ _ _ _ _ (show wp 62 0 [vr 58, vi (ib (K.cn (D 58 2 + 1)))] [] (up D 58 2 (D 58 2 + 1), SS L 1 c2 c3 c4 c5 c6) (aft wp 60 47 [vr 58] [] Q) from b62 ⟨((H.2.1 h33).2.2.1 q6).2.1, (fun q10 => (show wp 60 50 [vr 58] [] (up (up D 58 2 (D 58 2 + 1)) 58 2 (D 58 2 + 1 + 1), SS L 1 c2 c3 c4 c5 c6) Q from uu_i (fun Dz => wp 60 50 [vr 58] [] (Dz, SS L 1 c2 c3 c4 c5 c6) Q) (vc_wp [54] 200 _ _ _ _ _ _ (show wp 60 54 [vr 58] [vr 59] (up D 58 2 (D 58 2 + 1 + 1), SS L 1 c2 c3 c4 c5 c6) Q from vc_wp [60] 200 _ _ _ _ _ _ (show wp 60 60 [vr 58] [vi (w32 ((D 58 2 + 1 + 1) - 1)), vr 59] (up D 58 2 (D 58 2 + 1 + 1), SS L 1 c2 c3 c4 c5 c6) Q from w32_i (fun z30 : Int => wp 60 60 [vr 58] [vi z30, vr 59] (up D 58 2 (D 58 2 + 1 + 1), SS L 1 c2 c3 c4 c5 c6) Q) ((((H.2.1 h33).2.2.1 q6).2.2.1 q10)).1 (vc_wp [] 200 _ _ _ _ _ _ (show wp 58 0 [vr 59, vi ((D 58 2 + 1 + 1) - 1)] [] (up D 58 2 (D 58 2 + 1 + 1), SS L 1 c2 c3 c4 c5 c6) (aft wp 60 60 [vr 58] [] Q) from s58a59 ⟨((((H.2.1 h33).2.2.1 q6).2.2.1 q10)).2.1, (fun z12 r13 q14 => (show wp 60 63 [vr 58] [] (sp (sp (up D 58 2 (D 58 2 + 1 + 1)) 59 z12) 60 r13, SS L 1 c2 c3 c4 c5 c6) Q from vc_wp [68] 200 _ _ _ _ _ _ (show wp 60 68 [vr 58] [vr 53, vr 58] (sp (sp (up D 58 2 (D 58 2 + 1 + 1)) 59 z12) 60 r13, SS L 1 c2 c3 c4 c5 c6) Q from vc_wp [] 200 _ _ _ _ _ _ (show wp 37 0 [vr 53, vi (D 58 2 + 1 + 1), vr 6] [] (sp (sp (up D 58 2 (D 58 2 + 1 + 1)) 59 z12) 60 r13, SS L 1 c2 c3 c4 c5 c6) (aft wp 60 74 [vr 58] [vr 58] Q) from k37s6 ⟨(((((H.2.1 h33).2.2.1 q6).2.2.1 q10)).2.2 z12 r13 q14).1, (show wp 60 77 [vr 58] [vi (ib (K.w (D 58 2 + 1 + 1) 6)), vr 58] (sp (sp (up D 58 2 (D 58 2 + 1 + 1)) 59 z12) 60 r13, SS L 1 c2 c3 c4 c5 c6) Q from vc_wp [] 200 _ _ _ _ _ _ (show wp 62 0 [vr 58, vi (ib (K.w (D 58 2 + 1 + 1) 6))] [] (sp (sp (up D 58 2 (D 58 2 + 1 + 1)) 59 z12) 60 r13, SS L 1 c2 c3 c4 c5 c6) (aft wp 60 77 [vr 58] [] Q) from b62 ⟨(((((H.2.1 h33).2.2.1 q6).2.2.1 q10)).2.2 z12 r13 q14).2.1, (fun q18 => (show wp 60 80 [vr 58] [] (up (sp (sp (up D 58 2 (D 58 2 + 1 + 1)) 59 z12) 60 r13) 58 2 (D 58 2 + 1 + 1 + 1), SS L 1 c2 c3 c4 c5 c6) Q from vc_wp [85] 200 _ _ _ _ _ _ (show wp 60 85 [vr 58] [vr 53, vr 58] (up (sp (sp (up D 58 2 (D 58 2 + 1 + 1)) 59 z12) 60 r13) 58 2 (D 58 2 + 1 + 1 + 1), SS L 1 c2 c3 c4 c5 c6) Q from vc_wp [] 200 _ _ _ _ _ _ (show wp 39 0 [vr 53, vi (D 58 2 + 1 + 1 + 1)] [] (up (sp (sp (up D 58 2 (D 58 2 + 1 + 1)) 59 z12) 60 r13) 58 2 (D 58 2 + 1 + 1 + 1), SS L 1 c2 c3 c4 c5 c6) (aft wp 60 89 [vr 58] [vr 58] Q) from k39 ⟨((((((H.2.1 h33).2.2.1 q6).2.2.1 q10)).2.2 z12 r13 q14).2.2.1 q18).1, (show wp 60 92 [vr 58] [vi (ib (K.cn (D 58 2 + 1 + 1 + 1))), vr 58] (up (sp (sp (up D 58 2 (D 58 2 + 1 + 1)) 59 z12) 60 r13) 58 2 (D 58 2 + 1 + 1 + 1), SS L 1 c2 c3 c4 c5 c6) Q from vc_wp [] 200 _ _ _ _ _ _ (show wp 62 0 [vr 58, vi (ib (K.cn (D 58 2 + 1 + 1 + 1)))] [] (up (sp (sp (up D 58 2 (D 58 2 + 1 + 1)) 59 z12) 60 r13) 58 2 (D 58 2 + 1 + 1 + 1), SS L 1 c2 c3 c4 c5 c6) (aft wp 60 92 [vr 58] [] Q) from b62 ⟨((((((H.2.1 h33).2.2.1 q6).2.2.1 q10)).2.2 z12 r13 q14).2.2.1 q18).2.1, (fun q22 => (show wp 60 95 [vr 58] [] (up (up (sp (sp (up D 58 2 (D 58 2 + 1 + 1)) 59 z12) 60 r13) 58 2 (D 58 2 + 1 + 1 + 1)) 58 2 (D 58 2 + 1 + 1 + 1 + 1), SS L 1 c2 c3 c4 c5 c6) Q from uu_i (fun Dz => wp 60 95 [vr 58] [] (Dz, SS L 1 c2 c3 c4 c5 c6) Q) (vc_wp [100] 200 _ _ _ _ _ _ (show wp 60 100 [vr 58] [vr 53, vr 58] (up (sp (sp (up D 58 2 (D 58 2 + 1 + 1)) 59 z12) 60 r13) 58 2 (D 58 2 + 1 + 1 + 1 + 1), SS L 1 c2 c3 c4 c5 c6) Q from vc_wp [] 200 _ _ _ _ _ _ (show wp 37 0 [vr 53, vi (D 58 2 + 1 + 1 + 1 + 1), vr 7] [] (up (sp (sp (up D 58 2 (D 58 2 + 1 + 1)) 59 z12) 60 r13) 58 2 (D 58 2 + 1 + 1 + 1 + 1), SS L 1 c2 c3 c4 c5 c6) (aft wp 60 106 [vr 58] [vr 58] Q) from k37s7 ⟨(((((((H.2.1 h33).2.2.1 q6).2.2.1 q10)).2.2 z12 r13 q14).2.2.1 q18).2.2.1 q22).1, (show wp 60 109 [vr 58] [vi (ib (K.w (D 58 2 + 1 + 1 + 1 + 1) 7)), vr 58] (up (sp (sp (up D 58 2 (D 58 2 + 1 + 1)) 59 z12) 60 r13) 58 2 (D 58 2 + 1 + 1 + 1 + 1), SS L 1 c2 c3 c4 c5 c6) Q from vc_wp [] 200 _ _ _ _ _ _ (show wp 62 0 [vr 58, vi (ib (K.w (D 58 2 + 1 + 1 + 1 + 1) 7))] [] (up (sp (sp (up D 58 2 (D 58 2 + 1 + 1)) 59 z12) 60 r13) 58 2 (D 58 2 + 1 + 1 + 1 + 1), SS L 1 c2 c3 c4 c5 c6) (aft wp 60 109 [vr 58] [] Q) from b62 ⟨(((((((H.2.1 h33).2.2.1 q6).2.2.1 q10)).2.2 z12 r13 q14).2.2.1 q18).2.2.1 q22).2.1, (fun q26 => (show wp 60 112 [vr 58] [] (up (up (sp (sp (up D 58 2 (D 58 2 + 1 + 1)) 59 z12) 60 r13) 58 2 (D 58 2 + 1 + 1 + 1 + 1)) 58 2 (D 58 2 + 1 + 1 + 1 + 1 + 1), SS L 1 c2 c3 c4 c5 c6) Q from uu_i (fun Dz => wp 60 112 [vr 58] [] (Dz, SS L 1 c2 c3 c4 c5 c6) Q) (((((((((H.2.1 h33).2.2.1 q6).2.2.1 q10)).2.2 z12 r13 q14).2.2.1 q18).2.2.1 q22).2.2.1 q26)))), (fun q27 => (show Q (.inr 52) (up (up (up (sp (sp (up D 58 2 (D 58 2 + 1 + 1)) 59 z12) 60 r13) 58 2 (D 58 2 + 1 + 1 + 1 + 1)) 51 1 2) 51 2 (D 58 2 + 1 + 1 + 1 + 1), SS L 1 c2 c3 c4 c5 c6) from ((((((((H.2.1 h33).2.2.1 q6).2.2.1 q10)).2.2 z12 r13 q14).2.2.1 q18).2.2.1 q22).2.2.2 q27)))⟩))⟩))))), (fun q28 => (show Q (.inr 52) (up (up (up (sp (sp (up D 58 2 (D 58 2 + 1 + 1)) 59 z12) 60 r13) 58 2 (D 58 2 + 1 + 1 + 1)) 51 1 2) 51 2 (D 58 2 + 1 + 1 + 1), SS L 1 c2 c3 c4 c5 c6) from (((((((H.2.1 h33).2.2.1 q6).2.2.1 q10)).2.2 z12 r13 q14).2.2.1 q18).2.2.2 q28)))⟩))⟩)))), (fun q29 => (show Q (.inr 52) (up (up (sp (sp (up D 58 2 (D 58 2 + 1 + 1)) 59 z12) 60 r13) 51 1 2) 51 2 (D 58 2 + 1 + 1), SS L 1 c2 c3 c4 c5 c6) from ((((((H.2.1 h33).2.2.1 q6).2.2.1 q10)).2.2 z12 r13 q14).2.2.2 q29)))⟩))⟩))))⟩))))))), (fun q31 => (show Q (.inr 52) (up (up (up D 58 2 (D 58 2 + 1)) 51 1 2) 51 2 (D 58 2 + 1), SS L 1 c2 c3 c4 c5 c6) from (((H.2.1 h33).2.2.1 q6).2.2.2 q31)))⟩))⟩)))), (fun q32 => (show Q (.inr 52) (up (up D 51 1 2) 51 2 (D 58 2), SS L 1 c2 c3 c4 c5 c6) from ((H.2.1 h33).2.2.2 q32)))⟩))⟩), fun h34 => (H.2.2 h34)⟩))⟩))
theorem r60_112 {L c2 c3 c4 c5 c6 : Nat} {K : TK} {D : Dt} {Q : Out → Wd → Prop} (H : (SKp K (D 54) (D 55) (D 56) (D 57) (D 224) ∧ 0 ≤ (D 58 2)) ∧ ((((K.w (D 58 2) 8 → (((-2147483648) ≤ (D 58 2) + 1 ∧ (D 58 2) + 1 ≤ 2147483647) ∧ ((RowOK (D 61) (D 62) ∧ D 61 1 ≤ 4096) ∧ ((∀ (z10 : Int → Int) (r11 : Int → Int), (AddP (D 61) (D 62) z10 r11 (D 63 1)) → (wp 60 4 [vr 58] [] (sp (sp (up D 58 2 ((D 58 2) + 1)) 61 z10) 62 r11, SS L 1 c2 c3 c4 c5 c6) Q)))))) ∧ (¬ (K.w (D 58 2) 8) → (∃ (X3 : Nat → List Int), (SKp K (D 54) (D 55) (D 56) (D 57) (D 224) ∧ 0 ≤ D 58 2 ∧ D 58 2 ≤ K.n ∧ K.n ≤ 4000 ∧ SR D X3 ∧ XL X3 (D 58 2)) ∧ ((∀ (G5 : Nat → Int → Int), ((pmem K (D 58 2)).1 = true ∧ G5 58 2 = (pmem K (D 58 2)).2 ∧ SR G5 (memX K (D 58 2) X3)) → (wp 60 112 [vr 58] [] (ov D 58 78 G5, SS L 1 c2 c3 c4 c5 c6) Q)) ∧ (∀ (G7 : Nat → Int → Int), (¬ (pmem K (D 58 2)).1 = true ∧ R1 G7) → (Q (.inr 52) (up (up (ov D 58 78 G7) 51 1 2) 51 2 ((pmem K (D 58 2)).2), SS L 1 c2 c3 c4 c5 c6)))))))))) : wp 60 112 [vr 58] [] (D, SS L 1 c2 c3 c4 c5 c6) Q := vc_wp [116] 200 _ _ _ _ _ _ (show wp 60 116 [vr 58] [vr 53] (D, SS L 1 c2 c3 c4 c5 c6) Q from vc_wp [] 200 _ _ _ _ _ _ (show wp 37 0 [vr 53, vi (D 58 2), vr 8] [] (D, SS L 1 c2 c3 c4 c5 c6) (aft wp 60 122 [vr 58] [] Q) from k37s8 ⟨H.1, (show wp 60 125 [vr 58] [vi (ib (K.w (D 58 2) 8))] (D, SS L 1 c2 c3 c4 c5 c6) Q from vc_wp [142] 200 _ _ _ _ _ _ (show ((ib (K.w (D 58 2) 8) = 0 → (wp 63 0 [vr 58, vu] [] (D, SS L 1 c2 c3 c4 c5 c6) (aft wp 60 129 [vr 58] [] Q))) ∧ (¬ (ib (K.w (D 58 2) 8) = 0) → (wp 60 142 [vr 58] [vi (w32 ((D 58 2) + 1)), vr 58] (D, SS L 1 c2 c3 c4 c5 c6) Q))) from ⟨fun h14 => Exists.elim ((H.2.2 ((ib_z).mp h14))) fun X3 x4 => s63 ⟨X3, x4.1, (fun G5 q6 => (show wp 60 132 [vr 58] [] (ov D 58 78 G5, SS L 1 c2 c3 c4 c5 c6) Q from vc_wp [112] 200 _ _ _ _ _ _ (show wp 60 112 [vr 58] [] (ov D 58 78 G5, SS L 1 c2 c3 c4 c5 c6) Q from (x4.2.1 G5 q6)))), (fun G7 q8 => (show Q (.inr 52) (up (up (ov D 58 78 G7) 51 1 2) 51 2 ((pmem K (D 58 2)).2), SS L 1 c2 c3 c4 c5 c6) from (x4.2.2 G7 q8)))⟩, fun h15 => w32_i (fun z13 : Int => wp 60 142 [vr 58] [vi z13, vr 58] (D, SS L 1 c2 c3 c4 c5 c6) Q) ((H.2.1 (Classical.not_not.mp (mt (ib_z).mpr h15)))).1 (vc_wp [145] 200 _ _ _ _ _ _ (show wp 60 145 [vr 58] [] (up D 58 2 ((D 58 2) + 1), SS L 1 c2 c3 c4 c5 c6) Q from vc_wp [149] 200 _ _ _ _ _ _ (show wp 60 149 [vr 58] [vr 61] (up D 58 2 ((D 58 2) + 1), SS L 1 c2 c3 c4 c5 c6) Q from vc_wp [153] 200 _ _ _ _ _ _ (show wp 60 153 [vr 58] [vr 63, vr 61] (up D 58 2 ((D 58 2) + 1), SS L 1 c2 c3 c4 c5 c6) Q from vc_wp [] 200 _ _ _ _ _ _ (show wp 58 0 [vr 61, vi (D 63 1)] [] (up D 58 2 ((D 58 2) + 1), SS L 1 c2 c3 c4 c5 c6) (aft wp 60 156 [vr 58] [] Q) from s58a61 ⟨((H.2.1 (Classical.not_not.mp (mt (ib_z).mpr h15)))).2.1, (fun z10 r11 q12 => (show wp 60 159 [vr 58] [] (sp (sp (up D 58 2 ((D 58 2) + 1)) 61 z10) 62 r11, SS L 1 c2 c3 c4 c5 c6) Q from vc_wp [4] 200 _ _ _ _ _ _ (show wp 60 4 [vr 58] [] (sp (sp (up D 58 2 ((D 58 2) + 1)) 61 z10) 62 r11, SS L 1 c2 c3 c4 c5 c6) Q from (((H.2.1 (Classical.not_not.mp (mt (ib_z).mpr h15)))).2.2 z10 r11 q12))))⟩)))))⟩))⟩))
theorem l60 {L c2 c3 c4 c5 c6 : Nat} {D : Dt} {Q : Out → Wd → Prop} {K : TK} (hn : K.n ≤ 4000) (hS : SKp K (D 54) (D 55) (D 56) (D 57) (D 224)) : ∀ (N : Nat) (a : Int) (D1 : Dt) (X : Nat → List Int), (K.n - a).toNat < N → 0 ≤ a → a ≤ K.n → Frs D D1 → D1 58 2 = a → SR D1 X → XL X a → RY D (SS L 1 c2 c3 c4 c5 c6) Q (plp (fun b => ¬ b < K.n) (pcls K) N a) (clssX K (pls (fun b => ¬ b < K.n) (pcls K) N a) X) → wp 60 4 [vr 58] [] (D1, SS L 1 c2 c3 c4 c5 c6) Q := by
  intro N
  induction N with
  | zero => intro a _ _ h; omega
  | succ N ih =>
    intro a D1 X hN h0 h1 hf ha hX hL H
    have hS1 := sk_f hS hf
    refine r60_4 (K := K) ?_
    rw [ha]
    refine ⟨hS1, fun hlt => ?_, fun hlt => ?_⟩
    · have e0 : plp (fun b => ¬ b < K.n) (pcls K) (N + 1) a = pb (pcls K a) (plp (fun b => ¬ b < K.n) (pcls K) N) := cit_f (fun h => h hlt)
      rw [e0, pls_go (st := fun b => ¬ b < K.n) (fun h => h hlt)] at H
      have hmem : ∀ (M : Nat) (c : Int) (D2 : Dt) (X2 : Nat → List Int), a < c → (K.n - c).toNat < M → c ≤ K.n → Frs D D2 → D2 58 2 = c → SR D2 X2 → XL X2 c → pcls K a = (pb (plp (fun b => K.w b 8) (pmem K) M c) fun b => (true, b + 1)) → clsX K a X = xad (memsX K (pls (fun b => K.w b 8) (pmem K) M c) X2) 61 (memsX K (pls (fun b => K.w b 8) (pmem K) M c) X2 63).length → wp 60 112 [vr 58] [] (D2, SS L 1 c2 c3 c4 c5 c6) Q := by
        intro M
        induction M with
        | zero => intro c _ _ _ h; omega
        | succ M ihM =>
          intro c D2 X2 hac hM hc hf2 ha2 hX2 hL2 hp hx
          have hS2 := sk_f hS hf2
          refine r60_112 (K := K) ?_
          rw [ha2]
          refine ⟨⟨hS2, by omega⟩, fun h8 => ?_, fun h8 => ⟨X2, ⟨hS2, by omega, hc, hn, hX2, hL2⟩, fun G hG => ?_, fun G hG => ?_⟩⟩
          · have hl8 := w_lt h8
            obtain ⟨x59, x61, x63, x65, x67, x69, x71, x73, x75, x77⟩ := hX2
            have l61 := hL2 61
            rw [← x61.1] at l61
            rw [plp_st (st := fun b => K.w b 8) h8] at hp
            rw [pls_st (st := fun b => K.w b 8) h8] at hx
            replace hp : pcls K a = (true, c + 1) := hp
            replace hx : clsX K a X = xad X2 61 (X2 63).length := hx
            refine ⟨by omega, ⟨x61.2.1, by omega⟩, fun z r a61 => ?_⟩
            rw [x63.1] at a61
            refine ih (c + 1) _ (clsX K a X) (by omega) (by omega) (by omega) (hf2.t fun b hb => by rw [sp_a (by omega), sp_a (by omega), ub_a (by omega)]) rfl ?_ ?_ ?_
            · rw [hx]
              exact ⟨x59, x61.add a61, x63, x65, x67, x69, x71, x73, x75, x77⟩
            · rw [hx]; exact hL2.a (by omega)
            · rw [hp] at H
              exact H
          · have e := PR_t hG.1
            have h2 := adv_mem K _ _ e
            refine ihM _ (ov D2 58 78 G) (memX K c X2) (by omega) (fu_lt (adv_mem K) hM e) (by omega) (hf2.t (frs_ov D2 G)) hG.2.1 hG.2.2 (hL2.mem hG.1) ?_ ?_
            · rw [hp, plp_go (st := fun b => K.w b 8) h8 e]
            · rw [hx, pls_go (st := fun b => K.w b 8) h8]; rfl
          · refine H.z ?_ (hf2.t (frs_ov D2 G)) hG.2
            rw [hp, plp_no (st := fun b => K.w b 8) h8 (PR_f hG.1)]; rfl
      have hXr := hX.r1
      obtain ⟨x59, x61, x63, x65, x67, x69, x71, x73, x75, x77⟩ := hX
      have l59 := hL 59
      rw [← x59.1] at l59
      have hp0 : pcls K a = pb (pm (K.w a 5) a) fun b => pb (pm (K.cn b) b) fun b => pb (pm (K.w b 6) b) fun b => pb (pm (K.cn b) b) fun b => pb (pm (K.w b 7) b) fun b => pb (pmems K b) fun b => (true, b + 1) := rfl
      refine ⟨⟨hS1, h0⟩, ⟨hS1, h0, by omega⟩, fun g1 => ?_, fun g1 => H.z (by rw [hp0, pm_f (fun x => g1 ⟨x, x.1⟩)]; rfl) hf hXr⟩
      rw [pm_t g1.1] at hp0
      replace hp0 : pcls K a = pb (pm (K.cn (a + 1)) (a + 1)) fun b => pb (pm (K.w b 6) b) fun b => pb (pm (K.cn b) b) fun b => pb (pm (K.w b 7) b) fun b => pb (pmems K b) fun b => (true, b + 1) := hp0
      refine ⟨⟨hS1, by omega⟩, ⟨hS1, by omega, by omega⟩, fun g2 => ?_, fun g2 => H.z (by rw [hp0, pm_f (fun x => g2 ⟨x, x.1⟩)]; rfl) (hf.t fun b hb => by rw [ub_a (by omega)]) hXr⟩
      rw [pm_t g2.1] at hp0
      replace hp0 : pcls K a = pb (pm (K.w (a + 1 + 1) 6) (a + 1 + 1)) fun b => pb (pm (K.cn b) b) fun b => pb (pm (K.w b 7) b) fun b => pb (pmems K b) fun b => (true, b + 1) := hp0
      refine ⟨by omega, ⟨x59.2.1, by omega⟩, fun z r a59 => ?_⟩
      rw [show a + 1 + 1 - 1 = a + 1 by omega] at a59
      have hR1 : ∀ v, SR (up (sp (sp (up D1 58 2 (a + 1 + 1)) 59 z) 60 r) 58 2 v) (xad X 59 (a + 1)) := fun v => ⟨x59.add a59, x61, x63, x65, x67, x69, x71, x73, x75, x77⟩
      have hR0 : SR (sp (sp (up D1 58 2 (a + 1 + 1)) 59 z) 60 r) (xad X 59 (a + 1)) := ⟨x59.add a59, x61, x63, x65, x67, x69, x71, x73, x75, x77⟩
      have hf0 : Frs D (sp (sp (up D1 58 2 (a + 1 + 1)) 59 z) 60 r) := hf.t fun b hb => by rw [sp_a (by omega), sp_a (by omega), ub_a (by omega)]
      have hf1 : ∀ v, Frs D (up (sp (sp (up D1 58 2 (a + 1 + 1)) 59 z) 60 r) 58 2 v) := fun v => hf0.t fun b hb => by rw [ub_a (by omega)]
      refine ⟨⟨hS1, by omega⟩, ⟨hS1, by omega, by omega⟩, fun g3 => ?_, fun g3 => H.z (by rw [hp0, pm_f (fun x => g3 ⟨x, x.1⟩)]; rfl) hf0 hR0.r1⟩
      rw [pm_t g3.1] at hp0
      replace hp0 : pcls K a = pb (pm (K.cn (a + 1 + 1 + 1)) (a + 1 + 1 + 1)) fun b => pb (pm (K.w b 7) b) fun b => pb (pmems K b) fun b => (true, b + 1) := hp0
      refine ⟨⟨hS1, by omega⟩, ⟨hS1, by omega, by omega⟩, fun g4 => ?_, fun g4 => H.z (by rw [hp0, pm_f (fun x => g4 ⟨x, x.1⟩)]; rfl) (hf1 _) (hR1 _).r1⟩
      rw [pm_t g4.1] at hp0
      replace hp0 : pcls K a = pb (pm (K.w (a + 1 + 1 + 1 + 1) 7) (a + 1 + 1 + 1 + 1)) fun b => pb (pmems K b) fun b => (true, b + 1) := hp0
      refine ⟨⟨hS1, by omega⟩, ⟨hS1, by omega, by omega⟩, fun g5 => ?_, fun g5 => H.z (by rw [hp0, pm_f (fun x => g5 ⟨x, x.1⟩)]; rfl) (hf1 _) (hR1 _).r1⟩
      rw [pm_t g5.1] at hp0
      replace hp0 : pcls K a = pb (pmems K (a + 1 + 1 + 1 + 1 + 1)) fun b => (true, b + 1) := hp0
      have hl5 := g5.2
      have e5 : a + 1 + 1 + 1 + 1 + 1 = a + 5 := by omega
      rw [e5] at hp0 ⊢
      exact hmem (fu K (a + 5)) (a + 5) _ (xad X 59 (a + 1)) (by omega) (by unfold fu; omega) (by omega) (hf1 _) rfl (hR1 _) (hL.a (by omega)) hp0 rfl
    · rw [plp_st (st := fun b => ¬ b < K.n) hlt, pls_st (st := fun b => ¬ b < K.n) hlt] at H
      exact H.y (by rw [ha]) hf hX
theorem s60 {L c2 c3 c4 c5 c6 : Nat} {D : Dt} {Q : Out → Wd → Prop} {K : TK} (H : (SKp K (D 54) (D 55) (D 56) (D 57) (D 224) ∧ K.n ≤ 4000 ∧ R1 D) ∧ (∀ G, ((pprog K).1 = true ∧ G 58 2 = (pprog K).2 ∧ SR G (progX K)) → Q (.inl []) (ov D 58 78 G, SS L 1 c2 c3 c4 c5 c6)) ∧ (∀ G, (¬ (pprog K).1 = true ∧ R1 G) → Q (.inr 52) (up (up (ov D 58 78 G) 51 1 2) 51 2 (pprog K).2, SS L 1 c2 c3 c4 c5 c6))) : wp 60 0 [vr 58] [] (D, SS L 1 c2 c3 c4 c5 c6) Q := by
  obtain ⟨⟨hS, hn, hR⟩, H1, H2⟩ := H
  have H := ry_ov H1 H2
  have h0 : 0 ≤ K.n := by rw [← hS.2.2.1]; exact hS.1.1
  refine r60_0 (K := K) ⟨hR, fun G hG => ?_⟩
  exact l60 (D := D) hn hS (fu K 0) 0 _ (fun _ => []) (by unfold fu; omega) (by omega) (by omega) (frs_ov D G) hG.1 hG.2 (fun _ => Int.le_refl 0) H
