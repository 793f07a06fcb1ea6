/-! SafeCode's load, up to the change of programs -/
set_option maxRecDepth 100000
theorem r27_0 {L c1 c2 c3 c4 c5 c6 : Nat} {D : Dt} {Q : Out → Wd → Prop} (H : Q (.inl []) (up (up D 51 1 0) 51 2 (-1), SS L c1 c2 c3 c4 c5 c6)) : wp 27 0 [vr 51] [] (D, SS L c1 c2 c3 c4 c5 c6) Q := vc_wp [5] 200 _ _ _ _ _ _ (show wp 27 5 [vr 51] [] (up D 51 1 0, SS L c1 c2 c3 c4 c5 c6) Q from vc_wp [10] 200 _ _ _ _ _ _ (show wp 27 10 [vr 51] [] (up (up D 51 1 0) 51 2 (-1), SS L c1 c2 c3 c4 c5 c6) Q from vc_wp [] 200 _ _ _ _ _ _ (show Q (.inl []) (up (up D 51 1 0) 51 2 (-1), SS L c1 c2 c3 c4 c5 c6) from H)))
theorem s27 {L c1 c2 c3 c4 c5 c6 : Nat} {D : Dt} {Q : Out → Wd → Prop} (H : Q (.inl []) (up (up D 51 1 0) 51 2 (-1), SS L c1 c2 c3 c4 c5 c6)) : wp 27 0 [vr 51] [] (D, SS L c1 c2 c3 c4 c5 c6) Q := r27_0 H
theorem r4_0 {L c1 c2 c3 c4 c5 c6 : Nat} {D : Dt} {Q : Out → Wd → Prop} (H : (0 ≤ (D 50 14) ∧ (D 50 14) ≤ 4000 ∧ 1 ≤ D 55 (-1) ∧ 1 ≤ D 57 (-1)) ∧ ((∀ (zf4 : Int → Int) (tf5 : Int → Int) (zt6 : Int → Int) (tt7 : Int → Int) (rs8 : List (Int × Int)), (tks (D 224) (D 50 14) = (true, rs8) ∧ CutOK zf4 tf5 zt6 tt7 rs8) → (wp 4 29 [vr 50, vi (D 50 14), vu] [] (sp (sp (sp (sp (up (up (up D 51 1 0) 51 2 (-1)) 50 14 0) 54 zf4) 55 tf5) 56 zt6) 57 tt7, SS L 1 c2 c3 c4 c5 c6) Q)) ∧ (∀ (zf10 : Int → Int) (tf11 : Int → Int) (zt12 : Int → Int) (tt13 : Int → Int) (rs14 : List (Int × Int)), (tks (D 224) (D 50 14) = (false, rs14) ∧ CutOK zf10 tf11 zt12 tt13 rs14) → (wp 4 61 [vr 50, vi (D 50 14), vu] [vr 52] (up (up (sp (sp (sp (sp (up (up (up D 51 1 0) 51 2 (-1)) 50 14 0) 54 zf10) 55 tf11) 56 zt12) 57 tt13) 51 1 1) 51 2 rs14.length, SS L 1 c2 c3 c4 c5 c6) Q)))) : wp 4 0 [vr 50, vu, vu] [] (D, SS L c1 c2 c3 c4 c5 c6) Q := vc_wp [4] 200 _ _ _ _ _ _ (show wp 4 4 [vr 50, vu, vu] [vr 51] (D, SS L c1 c2 c3 c4 c5 c6) Q from vc_wp [] 200 _ _ _ _ _ _ (show wp 27 0 [vr 51] [] (D, SS L c1 c2 c3 c4 c5 c6) (aft wp 4 4 [vr 50, vu, vu] [] Q) from s27 (show wp 4 7 [vr 50, vu, vu] [] (up (up D 51 1 0) 51 2 (-1), SS L c1 c2 c3 c4 c5 c6) Q from vc_wp [17] 200 _ _ _ _ _ _ (show wp 4 17 [vr 50, vi (D 50 14), vu] [] (up (up (up D 51 1 0) 51 2 (-1)) 50 14 0, SS L c1 c2 c3 c4 c5 c6) Q from vc_wp [21] 200 _ _ _ _ _ _ (show wp 4 21 [vr 50, vi (D 50 14), vu] [vr 53] (up (up (up D 51 1 0) 51 2 (-1)) 50 14 0, SS L c1 c2 c3 c4 c5 c6) Q from vc_wp [25] 200 _ _ _ _ _ _ (show wp 4 25 [vr 50, vi (D 50 14), vu] [vr 224, vr 53] (up (up (up D 51 1 0) 51 2 (-1)) 50 14 0, SS L c1 c2 c3 c4 c5 c6) Q from vc_wp [] 200 _ _ _ _ _ _ (show wp 30 0 [vr 53, vr 224, vi (D 50 14), vu, vu] [] (up (up (up D 51 1 0) 51 2 (-1)) 50 14 0, SS L c1 c2 c3 c4 c5 c6) (aft wp 4 26 [vr 50, vi (D 50 14), vu] [] Q) from s30 ⟨H.1, (fun zf4 tf5 zt6 tt7 rs8 q9 => (show wp 4 29 [vr 50, vi (D 50 14), vu] [] (sp (sp (sp (sp (up (up (up D 51 1 0) 51 2 (-1)) 50 14 0) 54 zf4) 55 tf5) 56 zt6) 57 tt7, SS L 1 c2 c3 c4 c5 c6) Q from (H.2.1 zf4 tf5 zt6 tt7 rs8 q9))), (fun zf10 tf11 zt12 tt13 rs14 q15 => (show wp 4 61 [vr 50, vi (D 50 14), vu] [vr 52] (up (up (sp (sp (sp (sp (up (up (up D 51 1 0) 51 2 (-1)) 50 14 0) 54 zf10) 55 tf11) 56 zt12) 57 tt13) 51 1 1) 51 2 rs14.length, SS L 1 c2 c3 c4 c5 c6) Q from (H.2.2 zf10 tf11 zt12 tt13 rs14 q15)))⟩)))))))
theorem r4_29 {L c2 c3 c4 c5 c6 : Nat} {K : TK} {D : Dt} {Q : Out → Wd → Prop} {n : Int} (H : (SKp K (D 54) (D 55) (D 56) (D 57) (D 224) ∧ K.n ≤ 4000 ∧ R1 D) ∧ ((∀ (G2 : Nat → Int → Int), ((pprog K).1 = true ∧ G2 58 2 = (pprog K).2 ∧ SR G2 (progX K)) → ((SKp K (D 54) (D 55) (D 56) (D 57) (D 224) ∧ SR (ov D 58 78 G2) (progX K) ∧ (pprog K).1 = true ∧ (0 ≤ K.n ∧ K.n ≤ 4000) ∧ RowOK (D 83) (D 84) ∧ RowOK (D 85) (D 86)) ∧ ((∀ (E5 : Dt) (ns6 : List Int) (ab7 : List Int) (X8 : XB) (Y9 : XB), (ldR K = ((true, 0), ns6, ab7, X8, Y9) ∧ FrKo (ov D 58 78 G2) E5 ∧ PS K ns6 ab7 X8 Y9 E5 ∧ PX K ns6 ab7 X8 Y9 ∧ RowOK (E5 83) (E5 84) ∧ RowOK (E5 85) (E5 86)) → (∃ (xk11 : List Int × List Int × XB × XB), (SCt xk11.2.1 xk11.2.2.1 xk11.2.2.2 E5 ∧ PT xk11.1 xk11.2.1 xk11.2.2.1 xk11.2.2.2) ∧ ((∀ (E13 : Dt), ((chR xk11.2.1 xk11.2.2.1 xk11.2.2.2 (xk11.2.2.1 4).length 0).1 = true ∧ FrP E5 E13 ∧ (∀ b : Int, 0 ≤ b → b < (xk11.2.2.1 4).length → BOk xk11.2.1 xk11.2.2.1 xk11.2.2.2 b ∧ ∀ i : Int, lf (xk11.2.2.2 11) b ≤ i → i < lf (xk11.2.2.2 12) b → E13 217 i = htF xk11.2.2.1 xk11.2.2.2 b i)) → (wp 4 70 [vr 50, vi n, vu] [] (E13, SS L 1 2 2 c4 c5 c6) Q)) ∧ (∀ (E15 : Dt), (¬ (chR xk11.2.1 xk11.2.2.1 xk11.2.2.2 (xk11.2.2.1 4).length 0).1 = true ∧ FrP E5 E15) → (wp 4 61 [vr 50, vi n, vu] [vr 52] (up (up E15 51 1 4) 51 2 ((chR xk11.2.1 xk11.2.2.1 xk11.2.2.2 (xk11.2.2.1 4).length 0).2), SS L 1 2 2 c4 c5 c6) Q))))) ∧ (∀ (E17 : Dt), (¬ (ldR K).1.1 = true ∧ FrKo (ov D 58 78 G2) E17 ∧ RowOK (E17 83) (E17 84) ∧ RowOK (E17 85) (E17 86)) → (wp 4 61 [vr 50, vi n, vu] [vr 52] (up (up E17 51 1 3) 51 2 ((ldR K).1.2), SS L 1 2 c3 c4 c5 c6) Q))))) ∧ (∀ (G19 : Nat → Int → Int), (¬ (pprog K).1 = true ∧ R1 G19) → (wp 4 61 [vr 50, vi n, vu] [vr 52] (up (up (ov D 58 78 G19) 51 1 2) 51 2 ((pprog K).2), SS L 1 c2 c3 c4 c5 c6) Q)))) : wp 4 29 [vr 50, vi n, vu] [] (D, SS L 1 c2 c3 c4 c5 c6) Q := vc_wp [33] 200 _ _ _ _ _ _ (show wp 4 33 [vr 50, vi n, vu] [vr 58] (D, SS L 1 c2 c3 c4 c5 c6) Q from vc_wp [] 200 _ _ _ _ _ _ (show wp 60 0 [vr 58] [] (D, SS L 1 c2 c3 c4 c5 c6) (aft wp 4 33 [vr 50, vi n, vu] [] Q) from s60 ⟨H.1, (fun G2 q3 => (show wp 4 36 [vr 50, vi n, vu] [] (ov D 58 78 G2, SS L 1 c2 c3 c4 c5 c6) Q from vc_wp [40] 200 _ _ _ _ _ _ (show wp 4 40 [vr 50, vi n, vu] [vr 79] (ov D 58 78 G2, SS L 1 c2 c3 c4 c5 c6) Q from vc_wp [44] 200 _ _ _ _ _ _ (show wp 4 44 [vr 50, vi n, vu] [vr 197, vr 79] (ov D 58 78 G2, SS L 1 c2 c3 c4 c5 c6) Q from vc_wp [] 200 _ _ _ _ _ _ (show wp 68 0 [vr 79, vr 197, vu, vu] [] (ov D 58 78 G2, SS L 1 c2 c3 c4 c5 c6) (aft wp 4 44 [vr 50, vi n, vu] [] Q) from s68 ⟨(H.2.1 G2 q3).1, (fun E5 ns6 ab7 X8 Y9 q10 => (show wp 4 47 [vr 50, vi n, vu] [] (E5, SS L 1 2 c3 c4 c5 c6) Q from vc_wp [51] 200 _ _ _ _ _ _ (show wp 4 51 [vr 50, vi n, vu] [vr 87] (E5, SS L 1 2 c3 c4 c5 c6) Q from vc_wp [55] 200 _ _ _ _ _ _ (show wp 4 55 [vr 50, vi n, vu] [vr 197, vr 87] (E5, SS L 1 2 c3 c4 c5 c6) Q from vc_wp [] 200 _ _ _ _ _ _ (show wp 94 0 [vr 87, vr 197, vu, vu, vu] [] (E5, SS L 1 2 c3 c4 c5 c6) (aft wp 4 55 [vr 50, vi n, vu] [] Q) from Exists.elim (((H.2.1 G2 q3).2.1 E5 ns6 ab7 X8 Y9 q10)) fun xk11 x12 => s94 ⟨xk11, x12.1, (fun E13 q14 => (show wp 4 58 [vr 50, vi n, vu] [] (E13, SS L 1 2 2 c4 c5 c6) Q from vc_wp [70] 200 _ _ _ _ _ _ (show wp 4 70 [vr 50, vi n, vu] [] (E13, SS L 1 2 2 c4 c5 c6) Q from (x12.2.1 E13 q14)))), (fun E15 q16 => (show wp 4 61 [vr 50, vi n, vu] [vr 52] (up (up E15 51 1 4) 51 2 ((chR xk11.2.1 xk11.2.2.1 xk11.2.2.2 (xk11.2.2.1 4).length 0).2), SS L 1 2 2 c4 c5 c6) Q from (x12.2.2 E15 q16)))⟩))))), (fun E17 q18 => (show wp 4 61 [vr 50, vi n, vu] [vr 52] (up (up E17 51 1 3) 51 2 ((ldR K).1.2), SS L 1 2 c3 c4 c5 c6) Q from ((H.2.1 G2 q3).2.2 E17 q18)))⟩))))), (fun G19 q20 => (show wp 4 61 [vr 50, vi n, vu] [vr 52] (up (up (ov D 58 78 G19) 51 1 2) 51 2 ((pprog K).2), SS L 1 c2 c3 c4 c5 c6) Q from (H.2.2 G19 q20)))⟩))
theorem r4_61 {L c2 c3 c4 c5 c6 : Nat} {D : Dt} {Q : Out → Wd → Prop} {n : Int} (H : Q (.inl [vi (D 51 1)]) (D, SS L 1 c2 c3 c4 c5 c6)) : wp 4 61 [vr 50, vi n, vu] [vr 52] (D, SS L 1 c2 c3 c4 c5 c6) Q := vc_wp [66] 200 _ _ _ _ _ _ (show wp 4 66 [vr 50, vi n, vr 52] [vr 51] (D, SS L 1 c2 c3 c4 c5 c6) Q from vc_wp [] 200 _ _ _ _ _ _ (show Q (.inl [vi (D 51 1)]) (D, SS L 1 c2 c3 c4 c5 c6) from H))
/-- what SafeCode's loading needs of its rows -/
def IL (D : Dt) : Prop := (1 ≤ D 55 (-1) ∧ 1 ≤ D 57 (-1)) ∧ R1 D ∧ RowOK (D 83) (D 84) ∧ RowOK (D 85) (D 86)
/-- what it may change -/
def FrSl (D E : Dt) : Prop := (∀ b, ¬ b = 50 → ¬ b = 51 → ¬ (54 ≤ b ∧ b ≤ 91) → ¬ (197 ≤ b ∧ b ≤ 222) → E b = D b) ∧ (∀ i, ¬ i = 14 → E 50 i = D 50 i) ∧ E 50 14 = 0
theorem lr_1 {z r : Int → Int} {l : List Int} (h : LR z r l) : 1 ≤ r (-1) := h.2.1.2.2
theorem sr_r1 {G : Nat → Int → Int} {X : Nat → List Int} (h : SR G X) : R1 G := ⟨lr_1 h.1, lr_1 h.2.1, lr_1 h.2.2.1, lr_1 h.2.2.2.1, lr_1 h.2.2.2.2.1, lr_1 h.2.2.2.2.2.1, lr_1 h.2.2.2.2.2.2.1, lr_1 h.2.2.2.2.2.2.2.1, lr_1 h.2.2.2.2.2.2.2.2.1, lr_1 h.2.2.2.2.2.2.2.2.2⟩
theorem PS.p {K : TK} {ns ab : List Int} {X Y : XB} {D E : Dt} (h : PS K ns ab X Y D) (f : ∀ b, ¬ (87 ≤ b ∧ b ≤ 91) ∧ ¬ b = 217 → E b = D b) : PS K ns ab X Y E := by
  unfold PS FdS BS CdS FeS
  rw [f 197 (by decide), f 60 (by decide), f 198 (by decide), f 199 (by decide), f 80 (by decide), f 200 (by decide), f 201 (by decide), f 203 (by decide), f 81 (by decide), f 205 (by decide), f 206 (by decide), f 208 (by decide), f 209 (by decide), f 82 (by decide), f 204 (by decide), f 207 (by decide), f 212 (by decide), f 213 (by decide), f 214 (by decide), f 215 (by decide), f 216 (by decide), f 218 (by decide), f 219 (by decide), f 220 (by decide), f 221 (by decide), f 222 (by decide), f 210 (by decide), f 211 (by decide), f 202 (by decide)]
  exact h
theorem R1.f {D E : Dt} (h : R1 D) (f : ∀ b, 58 ≤ b → b ≤ 78 → E b = D b) : R1 E := by
  unfold R1
  rw [f 60 (by decide) (by decide), f 62 (by decide) (by decide), f 64 (by decide) (by decide), f 66 (by decide) (by decide), f 68 (by decide) (by decide), f 70 (by decide) (by decide), f 72 (by decide) (by decide), f 74 (by decide) (by decide), f 76 (by decide) (by decide), f 78 (by decide) (by decide)]
  exact h
theorem l4 {L c1 c2 c3 c4 c5 c6 : Nat} {D : Dt} {Q : Out → Wd → Prop} (hn : 0 ≤ D 50 14 ∧ D 50 14 ≤ 4000) (hI : IL D) (Hz : ∀ E e2 e3, (¬ (ocF (D 224) (D 50 14)).1 = 0 ∧ FrSl D E ∧ IL E ∧ E 51 1 = (ocF (D 224) (D 50 14)).1 ∧ E 51 2 = (ocF (D 224) (D 50 14)).2) → Q (.inl [vi (ocF (D 224) (D 50 14)).1]) (E, SS L 1 e2 e3 c4 c5 c6)) (Hk : ∀ E ns ab X Y n, (ocF (D 224) (D 50 14) = (0, -1) ∧ (pprog (KT (D 224) (tks (D 224) (D 50 14)).2)).1 = true ∧ ldR (KT (D 224) (tks (D 224) (D 50 14)).2) = ((true, 0), ns, ab, X, Y) ∧ PX (KT (D 224) (tks (D 224) (D 50 14)).2) ns ab X Y ∧ FrSl D E ∧ IL E ∧ E 51 1 = 0 ∧ E 51 2 = -1 ∧ PS (KT (D 224) (tks (D 224) (D 50 14)).2) ns ab X Y E ∧ COk ab X Y (E 217)) → wp 4 88 [vr 50, vi n, vu] [] (sgD sg0 E, SS L 1 1 1 (sw c4) (sw c5) c6) Q) : wp 4 0 [vr 50, vu, vu] [] (D, SS L c1 c2 c3 c4 c5 c6) Q := by
  obtain ⟨⟨i1, i2⟩, i3, i4, i5⟩ := hI
  generalize eo : ocF (D 224) (D 50 14) = o at *
  refine r4_0 ⟨⟨hn.1, hn.2, i1, i2⟩, fun zf tf zt tt rs x => ?_, fun zf tf zt tt rs x => ?_⟩
  · obtain ⟨et, hc⟩ := x
    have er : (tks (D 224) (D 50 14)).2 = rs := by rw [et]
    have hc' : CutOK zf tf zt tt (tks (D 224) (D 50 14)).2 := by rw [er]; exact hc
    have hS := kt_s (tx := D 224) hn.1 (by omega) hc'
    have hlen := (tks_in (tx := D 224) hn.1).2
    generalize eK : KT (D 224) (tks (D 224) (D 50 14)).2 = K at *
    have hKn : K.n = rs.length := by rw [← eK, er]; rfl
    rw [er] at hlen
    have eo1 : ocR K = o := by
      rw [← eo]
      unfold ocF
      rw [et, cit_t rfl, ← er, eK]
    have hD1 : ∀ b, ¬ b = 50 → ¬ b = 51 → ¬ (54 ≤ b ∧ b ≤ 57) → sp (sp (sp (sp (up (up (up D 51 1 0) 51 2 (-1)) 50 14 0) 54 zf) 55 tf) 56 zt) 57 tt b = D b := fun b h1 h2 h3 => by
      rw [sp_a (by omega), sp_a (by omega), sp_a (by omega), sp_a (by omega), ub_a h1, ub_a h2, ub_a h2]
    have h50 : ∀ i, ¬ i = 14 → sp (sp (sp (sp (up (up (up D 51 1 0) 51 2 (-1)) 50 14 0) 54 zf) 55 tf) 56 zt) 57 tt 50 i = D 50 i := fun i hi => by
      rw [sp_a (by decide), sp_a (by decide), sp_a (by decide), sp_a (by decide), ub_n hi, ub_a (by decide), ub_a (by decide)]
    have h5014 : sp (sp (sp (sp (up (up (up D 51 1 0) 51 2 (-1)) 50 14 0) 54 zf) 55 tf) 56 zt) 57 tt 50 14 = 0 := by
      rw [sp_a (by decide), sp_a (by decide), sp_a (by decide), sp_a (by decide), ub_s]
    have h511 : sp (sp (sp (sp (up (up (up D 51 1 0) 51 2 (-1)) 50 14 0) 54 zf) 55 tf) 56 zt) 57 tt 51 1 = 0 := by
      rw [sp_a (by decide), sp_a (by decide), sp_a (by decide), sp_a (by decide), ub_a (by decide), ub_n (by decide), ub_s]
    have h512 : sp (sp (sp (sp (up (up (up D 51 1 0) 51 2 (-1)) 50 14 0) 54 zf) 55 tf) 56 zt) 57 tt 51 2 = -1 := by
      rw [sp_a (by decide), sp_a (by decide), sp_a (by decide), sp_a (by decide), ub_a (by decide), ub_s]
    have hSK : SKp K (sp (sp (sp (sp (up (up (up D 51 1 0) 51 2 (-1)) 50 14 0) 54 zf) 55 tf) 56 zt) 57 tt 54) (sp (sp (sp (sp (up (up (up D 51 1 0) 51 2 (-1)) 50 14 0) 54 zf) 55 tf) 56 zt) 57 tt 55) (sp (sp (sp (sp (up (up (up D 51 1 0) 51 2 (-1)) 50 14 0) 54 zf) 55 tf) 56 zt) 57 tt 56) (sp (sp (sp (sp (up (up (up D 51 1 0) 51 2 (-1)) 50 14 0) 54 zf) 55 tf) 56 zt) 57 tt 57) (sp (sp (sp (sp (up (up (up D 51 1 0) 51 2 (-1)) 50 14 0) 54 zf) 55 tf) 56 zt) 57 tt 224) := by
      rw [hD1 224 (by decide) (by decide) (by decide)]
      exact hS
    have hro55 : 1 ≤ sp (sp (sp (sp (up (up (up D 51 1 0) 51 2 (-1)) 50 14 0) 54 zf) 55 tf) 56 zt) 57 tt 55 (-1) ∧ 1 ≤ sp (sp (sp (sp (up (up (up D 51 1 0) 51 2 (-1)) 50 14 0) 54 zf) 55 tf) 56 zt) 57 tt 57 (-1) := ⟨hc.2.2.2.1.2.2, hc.2.2.2.2.2.2⟩
    generalize sp (sp (sp (sp (up (up (up D 51 1 0) 51 2 (-1)) 50 14 0) 54 zf) 55 tf) 56 zt) 57 tt = D1 at *
    have r1 : R1 D1 := i3.f (fun b h1 h2 => hD1 b (by omega) (by omega) (by omega))
    have r8 : RowOK (D1 83) (D1 84) ∧ RowOK (D1 85) (D1 86) := by
      rw [hD1 83 (by decide) (by decide) (by decide), hD1 84 (by decide) (by decide) (by decide), hD1 85 (by decide) (by decide) (by decide), hD1 86 (by decide) (by decide) (by decide)]
      exact ⟨i4, i5⟩
    -- a fault, thrown
    have hthr : ∀ (E : Dt) (e2 e3 : Nat) (kd t : Int), (∀ b, ¬ (58 ≤ b ∧ b ≤ 91) → ¬ (197 ≤ b ∧ b ≤ 222) → E b = D1 b) → R1 E → RowOK (E 83) (E 84) ∧ RowOK (E 85) (E 86) → o = (kd, t) → ¬ kd = 0 → wp 4 61 [vr 50, vi (D 50 14), vu] [vr 52] (up (up E 51 1 kd) 51 2 t, SS L 1 e2 e3 c4 c5 c6) Q := by
      intro E e2 e3 kd t hE q1 q2 eq hk
      have := Hz (up (up E 51 1 kd) 51 2 t) e2 e3 ⟨by rw [eq]; exact hk, ⟨fun b h1 h2 h3 h4 => ?_, fun i hi => ?_, ?_⟩, ⟨?_, ?_, ?_⟩, ?_, ?_⟩
      · rw [eq] at this
        exact r4_61 this
      · rw [ub_a h2, ub_a h2, hE b (by omega) h4]; exact hD1 b h1 h2 (by omega)
      · rw [ub_a (by decide), ub_a (by decide), hE 50 (by decide) (by decide)]; exact h50 i hi
      · rw [ub_a (by decide), ub_a (by decide), hE 50 (by decide) (by decide)]; exact h5014
      · rw [ub_a (by decide), ub_a (by decide), ub_a (by decide), ub_a (by decide), hE 55 (by decide) (by decide), hE 57 (by decide) (by decide)]; exact hro55
      · exact q1.f (fun b h1 h2 => by rw [ub_a (by omega), ub_a (by omega)])
      · rw [ub_a (by decide), ub_a (by decide), ub_a (by decide), ub_a (by decide), ub_a (by decide), ub_a (by decide), ub_a (by decide), ub_a (by decide)]; exact q2
      · rw [ub_n (by decide), ub_s, eq]
      · rw [ub_s, eq]
    unfold ocR at eo1
    refine r4_29 (K := K) ⟨⟨hSK, by omega, r1⟩, fun G g => ?_, fun G g => ?_⟩
    · rw [cit_t g.1] at eo1
      have hov : ∀ b, ¬ (58 ≤ b ∧ b ≤ 78) → ov D1 58 78 G b = D1 b := fun b hb => ov_o hb
      have hovi : ∀ b, 58 ≤ b → b ≤ 78 → ov D1 58 78 G b = G b := fun b h1 h2 => ov_n ⟨h1, h2⟩
      have hSR : SR (ov D1 58 78 G) (progX K) := g.2.2
      refine ⟨⟨hSK, hSR, g.1, ⟨by omega, by omega⟩, r8.1, r8.2⟩, fun E ns ab X Y y => ?_, fun E y => ?_⟩
      · obtain ⟨y1, y2, y3, y4, y5, y6⟩ := y
        have hSRE : SR E (progX K) := hSR.k y2
        have hEo : ∀ b, ¬ (58 ≤ b ∧ b ≤ 91) → ¬ (197 ≤ b ∧ b ≤ 222) → E b = D1 b := fun b h1 h2 => (y2 b (by omega) h2).trans (hov b (by omega))
        rw [y1, cit_t rfl] at eo1
        dsimp only at eo1
        refine ⟨(ns, ab, X, Y), ⟨ps_s y3, px_t y4⟩, fun E2 z => ?_, fun E2 z => ?_⟩
        · dsimp only at z
          obtain ⟨z1, z2, z3⟩ := z
          rw [cit_t z1] at eo1
          have hE2 : ∀ b, ¬ (58 ≤ b ∧ b ≤ 91) → ¬ (197 ≤ b ∧ b ≤ 222) → E2 b = D1 b := fun b h1 h2 => (z2.1 b (by omega) (by omega)).trans (hEo b h1 h2)
          refine mac4 (Hk E2 ns ab X Y (D 50 14) ⟨eo1.symm, g.1, y1, y4, ⟨fun b h1 h2 h3 h4 => ?_, fun i hi => ?_, ?_⟩, ⟨?_, ?_, ?_⟩, ?_, ?_, y3.p (fun b hb => z2.1 b hb.1 hb.2), z3⟩)
          · rw [hE2 b (by omega) h4]; exact hD1 b h1 h2 (by omega)
          · rw [hE2 50 (by decide) (by decide)]; exact h50 i hi
          · rw [hE2 50 (by decide) (by decide)]; exact h5014
          · rw [hE2 55 (by decide) (by decide), hE2 57 (by decide) (by decide)]; exact hro55
          · exact R1.f (D := E) (sr_r1 hSRE) (fun b h1 h2 => z2.1 b (by omega) (by omega))
          · rw [z2.1 83 (by decide) (by decide), z2.1 84 (by decide) (by decide), z2.1 85 (by decide) (by decide), z2.1 86 (by decide) (by decide)]; exact ⟨y5, y6⟩
          · rw [hE2 51 (by decide) (by decide)]; exact h511
          · rw [hE2 51 (by decide) (by decide)]; exact h512
        · dsimp only at z
          rw [cit_f z.1] at eo1
          refine hthr E2 2 2 4 _ (fun b h1 h2 => (z.2.1 b (by omega) (by omega)).trans (hEo b h1 h2)) (R1.f (D := E) (sr_r1 hSRE) (fun b h1 h2 => z.2.1 b (by omega) (by omega))) ?_ eo1.symm (by decide)
          rw [z.2.1 83 (by decide) (by decide), z.2.1 84 (by decide) (by decide), z.2.1 85 (by decide) (by decide), z.2.1 86 (by decide) (by decide)]; exact ⟨y5, y6⟩
      · rw [cit_f y.1] at eo1
        exact hthr E 2 c3 3 _ (fun b h1 h2 => (y.2.1 b (by omega) h2).trans (hov b (by omega))) (sr_r1 (hSR.k y.2.1)) y.2.2 eo1.symm (by decide)
    · rw [cit_f g.1] at eo1
      refine hthr (ov D1 58 78 G) c2 c3 2 _ (fun b h1 h2 => ov_o (by omega)) ?_ ?_ eo1.symm (by decide)
      · exact g.2
      · rw [ov_o (by decide), ov_o (by decide), ov_o (by decide), ov_o (by decide)]; exact r8
  · obtain ⟨et, hc⟩ := x
    have eo1 : o = (1, (rs.length : Int)) := by
      rw [← eo]
      unfold ocF
      rw [et, cit_f (fun h => by cases h)]
    have hf1 : ∀ b, ¬ b = 51 → up (up (sp (sp (sp (sp (up (up (up D 51 1 0) 51 2 (-1)) 50 14 0) 54 zf) 55 tf) 56 zt) 57 tt) 51 1 1) 51 2 rs.length b = (sp (sp (sp (sp (up (up (up D 51 1 0) 51 2 (-1)) 50 14 0) 54 zf) 55 tf) 56 zt) 57 tt) b := fun b hb => by rw [ub_a hb, ub_a hb]
    have := Hz (up (up (sp (sp (sp (sp (up (up (up D 51 1 0) 51 2 (-1)) 50 14 0) 54 zf) 55 tf) 56 zt) 57 tt) 51 1 1) 51 2 rs.length) c2 c3 ⟨by rw [eo1]; exact (by decide : ¬ (1 : Int) = 0), ⟨fun b h1 h2 h3 h4 => ?_, fun i hi => ?_, ?_⟩, ⟨?_, ?_, ?_⟩, ?_, ?_⟩
    · rw [eo1] at this
      exact r4_61 this
    · rw [hf1 b h2, sp_a (by omega), sp_a (by omega), sp_a (by omega), sp_a (by omega), ub_a h1, ub_a h2, ub_a h2]
    · rw [hf1 50 (by decide), sp_a (by decide), sp_a (by decide), sp_a (by decide), sp_a (by decide), ub_n hi, ub_a (by decide), ub_a (by decide)]
    · rw [hf1 50 (by decide), sp_a (by decide), sp_a (by decide), sp_a (by decide), sp_a (by decide), ub_s]
    · rw [hf1 55 (by decide), hf1 57 (by decide)]; exact ⟨hc.2.2.2.1.2.2, hc.2.2.2.2.2.2⟩
    · exact i3.f (fun b h1 h2 => by rw [hf1 b (by omega), sp_a (by omega), sp_a (by omega), sp_a (by omega), sp_a (by omega), ub_a (by omega), ub_a (by omega), ub_a (by omega)])
    · exact ⟨i4, i5⟩
    · rw [ub_n (by decide), ub_s, eo1]
    · rw [ub_s, eo1]
