/-! both programs cut the text: SafeCode's Tokens.cut, the model's cut -/
set_option maxRecDepth 100000
theorem r30_0 {L c1 c2 c3 c4 c5 c6 : Nat} {D : Dt} {Q : Out → Wd → Prop} {n : Int} (H : wp 30 21 [vr 53, vr 224, vi n, vi 0, vu] [] (up (up D 54 1 0) 56 1 0, SS L 1 c2 c3 c4 c5 c6) Q) : wp 30 0 [vr 53, vr 224, vi n, vu, vu] [] (D, SS L c1 c2 c3 c4 c5 c6) Q := vc_wp [5] 200 _ _ _ _ _ _ (show wp 30 5 [vr 53, vr 224, vi n, vu, vu] [] (D, urf (SS L c1 c2 c3 c4 c5 c6).1 53 1 224, (SS L c1 c2 c3 c4 c5 c6).2) Q from sx_11 (fun S => wp 30 5 [vr 53, vr 224, vi n, vu, vu] [] (D, S) Q) (vc_wp [9] 200 _ _ _ _ _ _ (show wp 30 9 [vr 53, vr 224, vi n, vu, vu] [vr 54] (D, SS L 1 c2 c3 c4 c5 c6) Q from vc_wp [] 200 _ _ _ _ _ _ (show wp 57 0 [vr 54] [] (D, SS L 1 c2 c3 c4 c5 c6) (aft wp 30 9 [vr 53, vr 224, vi n, vu, vu] [] Q) from r57_0a54 (show wp 30 12 [vr 53, vr 224, vi n, vu, vu] [] (up D 54 1 0, SS L 1 c2 c3 c4 c5 c6) Q from vc_wp [16] 200 _ _ _ _ _ _ (show wp 30 16 [vr 53, vr 224, vi n, vu, vu] [vr 56] (up D 54 1 0, SS L 1 c2 c3 c4 c5 c6) Q from vc_wp [] 200 _ _ _ _ _ _ (show wp 57 0 [vr 56] [] (up D 54 1 0, SS L 1 c2 c3 c4 c5 c6) (aft wp 30 16 [vr 53, vr 224, vi n, vu, vu] [] Q) from r57_0a56 (show wp 30 19 [vr 53, vr 224, vi n, vu, vu] [] (up (up D 54 1 0) 56 1 0, SS L 1 c2 c3 c4 c5 c6) Q from vc_wp [21] 200 _ _ _ _ _ _ (show wp 30 21 [vr 53, vr 224, vi n, vi 0, vu] [] (up (up D 54 1 0) 56 1 0, SS L 1 c2 c3 c4 c5 c6) Q from H)))))))))
theorem r30_21 {L c2 c3 c4 c5 c6 : Nat} {D : Dt} {Q : Out → Wd → Prop} {n k : Int} (H : ((k < n → ((0 ≤ k ∧ k < 16000) ∧ ((cR (D 224 k) → ((D 224 k = 59 → ((0 ≤ k ∧ n ≤ 16000) ∧ ((∀ (e4 : Int), (e4 = scan (fun j => ¬ D 224 j = 10) k n ∧ ∀ j, k ≤ j → j < e4 → cR (D 224 j)) → (wp 30 21 [vr 53, vr 224, vi n, vi e4, vu] [] (D, SS L 1 c2 c3 c4 c5 c6) Q)) ∧ ((∃ j, k ≤ j ∧ j < scan (fun j => ¬ D 224 j = 10) k n ∧ ¬ cR (D 224 j)) → (Q (.inr 52) (up (up D 51 1 1) 51 2 (D 54 1), SS L 1 c2 c3 c4 c5 c6)))))) ∧ (¬ (D 224 k = 59) → ((cB (D 224 k) → (((-2147483648) ≤ k + 1 ∧ k + 1 ≤ 2147483647) ∧ (wp 30 21 [vr 53, vr 224, vi n, vi (k + 1), vu] [] (D, SS L 1 c2 c3 c4 c5 c6) Q))) ∧ (¬ (cB (D 224 k)) → ((RowOK (D 54) (D 55) ∧ D 54 1 ≤ 4096) ∧ ((∀ (z8 : Int → Int) (r9 : Int → Int), (AddP (D 54) (D 55) z8 r9 k) → ((cM (D 224 k) → (((-2147483648) ≤ k + 1 ∧ k + 1 ≤ 2147483647) ∧ ((RowOK (D 56) (D 57) ∧ D 56 1 ≤ 4096) ∧ ((∀ (z16 : Int → Int) (r17 : Int → Int), (AddP (D 56) (D 57) z16 r17 (k + 1)) → (wp 30 21 [vr 53, vr 224, vi n, vi (k + 1), vu] [] (sp (sp (sp (sp D 54 z8) 55 r9) 56 z16) 57 r17, SS L 1 c2 c3 c4 c5 c6) Q)))))) ∧ (¬ (cM (D 224 k)) → ((0 ≤ k ∧ n ≤ 16000) ∧ (((RowOK (D 56) (D 57) ∧ D 56 1 ≤ 4096) ∧ ((∀ (z13 : Int → Int) (r14 : Int → Int), (AddP (D 56) (D 57) z13 r14 (scan (fun j => cW (D 224 j)) k n)) → (wp 30 21 [vr 53, vr 224, vi n, vi (scan (fun j => cW (D 224 j)) k n), vu] [] (sp (sp (sp (sp D 54 z8) 55 r9) 56 z13) 57 r14, SS L 1 c2 c3 c4 c5 c6) Q)))))))))))))))) ∧ (¬ (cR (D 224 k)) → (Q (.inr 52) (up (up D 51 1 1) 51 2 (D 54 1), SS L 1 c2 c3 c4 c5 c6)))))) ∧ (¬ (k < n) → (Q (.inl []) (D, SS L 1 c2 c3 c4 c5 c6))))) : wp 30 21 [vr 53, vr 224, vi n, vi k, vu] [] (D, SS L 1 c2 c3 c4 c5 c6) Q := vc_wp [30] 200 _ _ _ _ _ _ (show ((k < n → (wp 30 30 [vr 53, vr 224, vi n, vi k, vu] [vr 224] (D, SS L 1 c2 c3 c4 c5 c6) Q)) ∧ (¬ (k < n) → (Q (.inl []) (D, SS L 1 c2 c3 c4 c5 c6)))) from ⟨fun h29 => vc_wp [] 200 _ _ _ _ _ _ (show (0 ≤ k ∧ k < 16000) ∧ (wp 31 0 [vi (D 224 k)] [] (D, SS L 1 c2 c3 c4 c5 c6) (aft wp 30 36 [vr 53, vr 224, vi n, vi k, vi (D 224 k)] [] Q)) from ⟨(H.1 h29).1, s31 (show wp 30 39 [vr 53, vr 224, vi n, vi k, vi (D 224 k)] [vi (ib (cR (D 224 k)))] (D, SS L 1 c2 c3 c4 c5 c6) Q from vc_wp [46] 200 _ _ _ _ _ _ (show ((ib (cR (D 224 k)) = 0 → (wp 30 46 [vr 53, vr 224, vi n, vi k, vi (D 224 k)] [vr 51] (D, SS L 1 c2 c3 c4 c5 c6) Q)) ∧ (¬ (ib (cR (D 224 k)) = 0) → ((D 224 k = 59 → (wp 33 0 [vr 53, vi k, vi n, vu] [] (D, SS L 1 c2 c3 c4 c5 c6) (aft wp 30 65 [vr 53, vr 224, vi n, vi k, vi (D 224 k)] [] Q))) ∧ (¬ (D 224 k = 59) → (wp 34 0 [vi (D 224 k)] [] (D, SS L 1 c2 c3 c4 c5 c6) (aft wp 30 74 [vr 53, vr 224, vi n, vi k, vi (D 224 k)] [] Q)))))) from ⟨fun h27 => vc_wp [] 200 _ _ _ _ _ _ (show wp 32 0 [vr 53] [] (D, SS L 1 c2 c3 c4 c5 c6) (aft wp 30 48 [vr 53, vr 224, vi n, vi k, vi (D 224 k)] [vi 1, vr 51] Q) from r32_0 (show wp 30 51 [vr 53, vr 224, vi n, vi k, vi (D 224 k)] [vi (D 54 1), vi 1, vr 51] (D, SS L 1 c2 c3 c4 c5 c6) Q from vc_wp [] 200 _ _ _ _ _ _ (show wp 28 0 [vr 51, vi 1, vi (D 54 1)] [] (D, SS L 1 c2 c3 c4 c5 c6) (aft wp 30 51 [vr 53, vr 224, vi n, vi k, vi (D 224 k)] [] Q) from r28_0 (show wp 30 54 [vr 53, vr 224, vi n, vi k, vi (D 224 k)] [vr 52] (up (up D 51 1 1) 51 2 (D 54 1), SS L 1 c2 c3 c4 c5 c6) Q from vc_wp [] 200 _ _ _ _ _ _ (show Q (.inr 52) (up (up D 51 1 1) 51 2 (D 54 1), SS L 1 c2 c3 c4 c5 c6) from ((H.1 h29).2.2 ((ib_z).mp h27))))))), fun h28 => ⟨fun h25 => s33 ⟨(((H.1 h29).2.1 (Classical.not_not.mp (mt (ib_z).mpr h28))).1 h25).1, (fun e4 q5 => (show wp 30 68 [vr 53, vr 224, vi n, vi k, vi (D 224 k)] [vi e4] (D, SS L 1 c2 c3 c4 c5 c6) Q from vc_wp [21] 200 _ _ _ _ _ _ (show wp 30 21 [vr 53, vr 224, vi n, vi e4, vi (D 224 k)] [] (D, SS L 1 c2 c3 c4 c5 c6) Q from wp_d (Lle.k rfl (Lle.k rfl (Lle.k rfl (Lle.k rfl (Lle.v rfl (Lle.nil)))))) (((((H.1 h29).2.1 (Classical.not_not.mp (mt (ib_z).mpr h28))).1 h25).2.1 e4 q5))))), (fun q6 => (show Q (.inr 52) (up (up D 51 1 1) 51 2 (D 54 1), SS L 1 c2 c3 c4 c5 c6) from ((((H.1 h29).2.1 (Classical.not_not.mp (mt (ib_z).mpr h28))).1 h25).2.2 q6)))⟩, fun h26 => s34 (show wp 30 77 [vr 53, vr 224, vi n, vi k, vi (D 224 k)] [vi (ib (cB (D 224 k)))] (D, SS L 1 c2 c3 c4 c5 c6) Q from vc_wp [83, 90] 200 _ _ _ _ _ _ (show ((ib (cB (D 224 k)) = 0 → (wp 30 90 [vr 53, vr 224, vi n, vi k, vi (D 224 k)] [vr 54] (D, SS L 1 c2 c3 c4 c5 c6) Q)) ∧ (¬ (ib (cB (D 224 k)) = 0) → (wp 30 83 [vr 53, vr 224, vi n, vi (w32 (k + 1)), vi (D 224 k)] [] (D, SS L 1 c2 c3 c4 c5 c6) Q))) from ⟨fun h23 => vc_wp [] 200 _ _ _ _ _ _ (show wp 58 0 [vr 54, vi k] [] (D, SS L 1 c2 c3 c4 c5 c6) (aft wp 30 91 [vr 53, vr 224, vi n, vi k, vi (D 224 k)] [] Q) from s58a54 ⟨((((H.1 h29).2.1 (Classical.not_not.mp (mt (ib_z).mpr h28))).2 h26).2 ((ib_z).mp h23)).1, (fun z8 r9 q10 => (show wp 30 94 [vr 53, vr 224, vi n, vi k, vi (D 224 k)] [] (sp (sp D 54 z8) 55 r9, SS L 1 c2 c3 c4 c5 c6) Q from vc_wp [] 200 _ _ _ _ _ _ (show wp 35 0 [vi (D 224 k)] [] (sp (sp D 54 z8) 55 r9, SS L 1 c2 c3 c4 c5 c6) (aft wp 30 96 [vr 53, vr 224, vi n, vi k, vi (D 224 k)] [] Q) from s35 (show wp 30 99 [vr 53, vr 224, vi n, vi k, vi (D 224 k)] [vi (ib (cM (D 224 k)))] (sp (sp D 54 z8) 55 r9, SS L 1 c2 c3 c4 c5 c6) Q from vc_wp [105] 200 _ _ _ _ _ _ (show ((ib (cM (D 224 k)) = 0 → (wp 36 0 [vr 53, vi k, vi n, vu] [] (sp (sp D 54 z8) 55 r9, SS L 1 c2 c3 c4 c5 c6) (aft wp 30 111 [vr 53, vr 224, vi n, vi k, vi (D 224 k)] [] Q))) ∧ (¬ (ib (cM (D 224 k)) = 0) → (wp 30 105 [vr 53, vr 224, vi n, vi k, vi (D 224 k)] [vi (w32 (k + 1))] (sp (sp D 54 z8) 55 r9, SS L 1 c2 c3 c4 c5 c6) Q))) from ⟨fun h20 => s36 ⟨((((((H.1 h29).2.1 (Classical.not_not.mp (mt (ib_z).mpr h28))).2 h26).2 ((ib_z).mp h23)).2 z8 r9 q10).2 ((ib_z).mp h20)).1, (show wp 30 114 [vr 53, vr 224, vi n, vi k, vi (D 224 k)] [vi (scan (fun j => cW (D 224 j)) k n)] (sp (sp D 54 z8) 55 r9, SS L 1 c2 c3 c4 c5 c6) Q from vc_wp [119] 200 _ _ _ _ _ _ (show wp 30 119 [vr 53, vr 224, vi n, vi (scan (fun j => cW (D 224 j)) k n), vi (D 224 k)] [vr 56] (sp (sp D 54 z8) 55 r9, SS L 1 c2 c3 c4 c5 c6) Q from vc_wp [] 200 _ _ _ _ _ _ (show wp 58 0 [vr 56, vi (scan (fun j => cW (D 224 j)) k n)] [] (sp (sp D 54 z8) 55 r9, SS L 1 c2 c3 c4 c5 c6) (aft wp 30 120 [vr 53, vr 224, vi n, vi (scan (fun j => cW (D 224 j)) k n), vi (D 224 k)] [] Q) from s58a56 ⟨((((((H.1 h29).2.1 (Classical.not_not.mp (mt (ib_z).mpr h28))).2 h26).2 ((ib_z).mp h23)).2 z8 r9 q10).2 ((ib_z).mp h20)).2.1, (fun z13 r14 q15 => (show wp 30 123 [vr 53, vr 224, vi n, vi (scan (fun j => cW (D 224 j)) k n), vi (D 224 k)] [] (sp (sp (sp (sp D 54 z8) 55 r9) 56 z13) 57 r14, SS L 1 c2 c3 c4 c5 c6) Q from vc_wp [21] 200 _ _ _ _ _ _ (show wp 30 21 [vr 53, vr 224, vi n, vi (scan (fun j => cW (D 224 j)) k n), vi (D 224 k)] [] (sp (sp (sp (sp D 54 z8) 55 r9) 56 z13) 57 r14, SS L 1 c2 c3 c4 c5 c6) Q from wp_d (Lle.k rfl (Lle.k rfl (Lle.k rfl (Lle.k rfl (Lle.v rfl (Lle.nil)))))) ((((((((H.1 h29).2.1 (Classical.not_not.mp (mt (ib_z).mpr h28))).2 h26).2 ((ib_z).mp h23)).2 z8 r9 q10).2 ((ib_z).mp h20)).2.2 z13 r14 q15)))))⟩)))⟩, fun h21 => w32_i (fun z19 : Int => wp 30 105 [vr 53, vr 224, vi n, vi k, vi (D 224 k)] [vi z19] (sp (sp D 54 z8) 55 r9, SS L 1 c2 c3 c4 c5 c6) Q) (((((((H.1 h29).2.1 (Classical.not_not.mp (mt (ib_z).mpr h28))).2 h26).2 ((ib_z).mp h23)).2 z8 r9 q10).1 (Classical.not_not.mp (mt (ib_z).mpr h21)))).1 (vc_wp [119] 200 _ _ _ _ _ _ (show wp 30 119 [vr 53, vr 224, vi n, vi (k + 1), vi (D 224 k)] [vr 56] (sp (sp D 54 z8) 55 r9, SS L 1 c2 c3 c4 c5 c6) Q from vc_wp [] 200 _ _ _ _ _ _ (show wp 58 0 [vr 56, vi (k + 1)] [] (sp (sp D 54 z8) 55 r9, SS L 1 c2 c3 c4 c5 c6) (aft wp 30 120 [vr 53, vr 224, vi n, vi (k + 1), vi (D 224 k)] [] Q) from s58a56 ⟨(((((((H.1 h29).2.1 (Classical.not_not.mp (mt (ib_z).mpr h28))).2 h26).2 ((ib_z).mp h23)).2 z8 r9 q10).1 (Classical.not_not.mp (mt (ib_z).mpr h21)))).2.1, (fun z16 r17 q18 => (show wp 30 123 [vr 53, vr 224, vi n, vi (k + 1), vi (D 224 k)] [] (sp (sp (sp (sp D 54 z8) 55 r9) 56 z16) 57 r17, SS L 1 c2 c3 c4 c5 c6) Q from vc_wp [21] 200 _ _ _ _ _ _ (show wp 30 21 [vr 53, vr 224, vi n, vi (k + 1), vi (D 224 k)] [] (sp (sp (sp (sp D 54 z8) 55 r9) 56 z16) 57 r17, SS L 1 c2 c3 c4 c5 c6) Q from wp_d (Lle.k rfl (Lle.k rfl (Lle.k rfl (Lle.k rfl (Lle.v rfl (Lle.nil)))))) (((((((((H.1 h29).2.1 (Classical.not_not.mp (mt (ib_z).mpr h28))).2 h26).2 ((ib_z).mp h23)).2 z8 r9 q10).1 (Classical.not_not.mp (mt (ib_z).mpr h21)))).2.2 z16 r17 q18)))))⟩)))⟩)))))⟩), fun h24 => w32_i (fun z22 : Int => wp 30 83 [vr 53, vr 224, vi n, vi z22, vi (D 224 k)] [] (D, SS L 1 c2 c3 c4 c5 c6) Q) (((((H.1 h29).2.1 (Classical.not_not.mp (mt (ib_z).mpr h28))).2 h26).1 (Classical.not_not.mp (mt (ib_z).mpr h24)))).1 (vc_wp [21] 200 _ _ _ _ _ _ (show wp 30 21 [vr 53, vr 224, vi n, vi (k + 1), vi (D 224 k)] [] (D, SS L 1 c2 c3 c4 c5 c6) Q from wp_d (Lle.k rfl (Lle.k rfl (Lle.k rfl (Lle.k rfl (Lle.v rfl (Lle.nil)))))) ((((((H.1 h29).2.1 (Classical.not_not.mp (mt (ib_z).mpr h28))).2 h26).1 (Classical.not_not.mp (mt (ib_z).mpr h24)))).2)))⟩))⟩⟩))⟩), fun h30 => (H.2 h30)⟩)
/-- the rows of tokens after a cut -/
def CutOK (z f zt t : Int → Int) (r : List (Int × Int)) : Prop := TRep f t r ∧ z 1 = r.length ∧ zt 1 = r.length ∧ RowOK z f ∧ RowOK zt t
theorem CutOK.add {z f zt t z' f' zt' t' : Int → Int} {r : List (Int × Int)} {a b : Int} (h : CutOK z f zt t r) (h1 : AddP z f z' f' a) (h2 : AddP zt t zt' t' b) : CutOK z' f' zt' t' ((a, b) :: r) := by
  obtain ⟨q1, q2, q3, q4, q5⟩ := h
  obtain ⟨a1, a2, a3, a4, a5⟩ := h1
  obtain ⟨b1, b2, b3, b4, b5⟩ := h2
  rw [q2] at a1 a2 a3 a4
  rw [q3] at b1 b2 b3 b4
  refine ⟨⟨a3, b3, TRep_c r (fun i h1 h2 => ⟨a2 i h1 h2, b2 i h1 h2⟩) q1⟩, ?_, ?_, ⟨by omega, by omega, a5⟩, ⟨by omega, by omega, b5⟩⟩
  · rw [List.length_cons]; omega
  · rw [List.length_cons]; omega
theorem l30 {L c2 c3 c4 c5 c6 : Nat} {D0 : Dt} {Q : Out → Wd → Prop} {n : Int} (hn : n ≤ 4000) (H : (∀ z f zt t r, (tks (D0 224) n = (true, r) ∧ CutOK z f zt t r) → Q (.inl []) (sp (sp (sp (sp D0 54 z) 55 f) 56 zt) 57 t, SS L 1 c2 c3 c4 c5 c6)) ∧ (∀ z f zt t r, (tks (D0 224) n = (false, r) ∧ CutOK z f zt t r) → Q (.inr 52) (up (up (sp (sp (sp (sp D0 54 z) 55 f) 56 zt) 57 t) 51 1 1) 51 2 r.length, SS L 1 c2 c3 c4 c5 c6))) : ∀ (N : Nat) (k : Int) (D : Dt) (r : List (Int × Int)) (w : Int), (n - k).toNat = N → 0 ≤ k → (r.length : Int) ≤ k → (∀ b, ¬ b ∈ [54, 55, 56, 57] → D b = D0 b) → CutOK (D 54) (D 55) (D 56) (D 57) r → tks (D0 224) n = tp (trun (D0 224) (n - k).toNat k (r, w, 0)) → (w = 0 ∨ (k < n → ¬ cW (D0 224 k))) → wp 30 21 [vr 53, vr 224, vi n, vi k, vu] [] (D, SS L 1 c2 c3 c4 c5 c6) Q := by
  intro N
  induction N using Nat.strongRecOn with
  | ind N ih =>
  intro k D r w e h0 hl hD hC hT hw
  have hx : D 224 = D0 224 := hD 224 (by decide)
  have hE : D = sp (sp (sp (sp D0 54 (D 54)) 55 (D 55)) 56 (D 56)) 57 (D 57) := spl_ext [54, 55, 56, 57] hD
  have hthr : tks (D0 224) n = (false, r) → Q (.inr 52) (up (up D 51 1 1) 51 2 (D 54 1), SS L 1 c2 c3 c4 c5 c6) := fun h => by
    have := H.2 _ _ _ _ r ⟨h, hC⟩
    rw [← hE] at this
    rw [hC.2.1]
    exact this
  refine r30_21 ⟨fun hk => ⟨by omega, fun hr => ⟨fun hs => ⟨by omega, ?_, ?_⟩, fun hs => ⟨fun hb => ⟨by omega, ?_⟩, fun hb => ⟨⟨hC.2.2.2.1, by rw [hC.2.1]; omega⟩, ?_⟩⟩⟩, fun hr => ?_⟩, fun hk => ?_⟩
  · intro e1 he1
    rw [hx] at he1 hr hs
    have hsc := scan_ok (fun j => ¬ D0 224 j = 10) n _ k rfl
    rw [← he1.1] at hsc
    have hgt : k < e1 := by
      have := scan_t (p := fun j => ¬ D0 224 j = 10) hk (by rw [hs]; decide)
      have h3 := (scan_ok (fun j => ¬ D0 224 j = 10) n _ (k + 1) rfl).1
      rw [← this, ← he1.1] at h3
      omega
    refine ih _ ?_ e1 D r 0 rfl (by omega) (by omega) hD hC ?_ (Or.inl rfl)
    · have := hsc.2.1 (by omega); omega
    · have hm : rmk (D0 224 k) 0 = 1 := by unfold rmk; rw [hs]; decide
      rw [hT, trun_t hk hr, tst_b (s := (r, w, 0)) (Or.inl (show ¬ rmk (D0 224 k) 0 = 0 by rw [hm]; decide))]
      show tp (trun (D0 224) (n - (k + 1)).toNat (k + 1) (r, 0, rmk (D0 224 k) 0)) = _
      rw [hm, trun_r _ (k + 1) e1 rfl (by omega) (hsc.2.1 (by omega)) (fun i h1 h2 => ⟨hsc.2.2.1 i (by omega) h2, he1.2 i (by omega) h2⟩)]
      exact trun_re fun h => Classical.not_not.mp (hsc.2.2.2 h)
  · rintro ⟨j, h1, h2, h3⟩
    rw [hx] at h2 h3 hr hs
    have hsc := scan_ok (fun j => ¬ D0 224 j = 10) n _ k rfl
    have hjn : j < n := by have := hsc.2.1 (by omega); omega
    have hjk : ¬ j = k := fun e => h3 (e ▸ hr)
    refine hthr ?_
    have hm : rmk (D0 224 k) 0 = 1 := by unfold rmk; rw [hs]; decide
    rw [hT, trun_t hk hr, tst_b (s := (r, w, 0)) (Or.inl (show ¬ rmk (D0 224 k) 0 = 0 by rw [hm]; decide))]
    show tp (trun (D0 224) (n - (k + 1)).toNat (k + 1) (r, 0, rmk (D0 224 k) 0)) = _
    rw [hm]
    exact trun_rf _ (k + 1) j rfl (by omega) hjn h3 (fun i h4 h5 => hsc.2.2.1 i (by omega) (by omega))
  · rw [hx] at hr hs hb
    have hm : rmk (D0 224 k) 0 = 0 := by unfold rmk; rw [if_neg hs]; split <;> rfl
    refine ih _ (by omega) (k + 1) D r 0 rfl (by omega) (by omega) hD hC ?_ (Or.inl rfl)
    rw [hT, trun_t hk hr, tst_b (s := (r, w, 0)) (Or.inr hb)]
    show tp (trun (D0 224) (n - (k + 1)).toNat (k + 1) (r, 0, rmk (D0 224 k) 0)) = _
    rw [hm]
  · intro z1 r1 ha1
    rw [hx] at hr hs hb
    have hm : rmk (D0 224 k) 0 = 0 := by unfold rmk; rw [if_neg hs]; split <;> rfl
    have hnb : ¬ (¬ rmk (D0 224 k) 0 = 0 ∨ cB (D0 224 k)) := fun x => x.elim (fun y => y hm) hb
    have hfr : ∀ (z2 r2 : Int → Int) b, ¬ b ∈ [54, 55, 56, 57] → sp (sp (sp (sp D 54 z1) 55 r1) 56 z2) 57 r2 b = D0 b := fun z2 r2 b hb' => by
      have h4 : ¬ b = 54 ∧ ¬ b = 55 ∧ ¬ b = 56 ∧ ¬ b = 57 := by
        simp only [List.mem_cons, List.not_mem_nil, or_false, not_or] at hb'
        exact hb'
      rw [sp_a h4.2.2.2, sp_a h4.2.2.1, sp_a h4.2.1, sp_a h4.1]
      exact hD b hb'
    refine ⟨fun hm2 => ⟨by omega, ⟨hC.2.2.2.2, by rw [hC.2.2.1]; omega⟩, fun z2 r2 ha2 => ?_⟩, fun hm2 => ⟨by omega, ⟨hC.2.2.2.2, by rw [hC.2.2.1]; omega⟩, fun z2 r2 ha2 => ?_⟩⟩
    · rw [hx] at hm2
      refine ih _ (by omega) (k + 1) _ ((k, k + 1) :: r) 0 rfl (by omega) (by rw [List.length_cons]; omega) (hfr z2 r2) (hC.add ha1 ha2) ?_ (Or.inl rfl)
      rw [hT, trun_t hk hr, tst_m (s := (r, w, 0)) hnb hm2]
      show tp (trun (D0 224) (n - (k + 1)).toNat (k + 1) (_, 0, rmk (D0 224 k) 0)) = _
      rw [hm]
    · rw [hx] at hm2
      rw [hx] at ha2 ⊢
      have hcw : cW (D0 224 k) := ⟨hr, hb, hm2, hs⟩
      have hw0 : w = 0 := hw.elim id (fun y => absurd hcw (y hk))
      have hsc := scan_ok (fun j => cW (D0 224 j)) n _ k rfl
      have hgt : k + 1 ≤ scan (fun j => cW (D0 224 j)) k n := by
        rw [scan_t (p := fun j => cW (D0 224 j)) hk hcw]
        exact (scan_ok (fun j => cW (D0 224 j)) n _ (k + 1) rfl).1
      refine ih _ ?_ _ _ ((k, scan (fun j => cW (D0 224 j)) k n) :: r) 1 rfl (by omega) (by rw [List.length_cons]; omega) (hfr z2 r2) (hC.add ha1 ha2) ?_ (Or.inr fun h => hsc.2.2.2 h)
      · have := hsc.2.1 (by omega); omega
      · rw [hT, trun_t hk hr, tst_w (s := (r, w, 0)) hnb hm2 hw0]
        show tp (trun (D0 224) (n - (k + 1)).toNat (k + 1) (_, 1, rmk (D0 224 k) 0)) = _
        rw [hm, trun_w _ (k + 1) (scan (fun j => cW (D0 224 j)) k n) rfl hgt (hsc.2.1 (by omega)) (fun i h1 h2 => hsc.2.2.1 i (by omega) h2)]
  · refine hthr ?_
    rw [hx] at hr
    rw [hT, trun_f hk hr]
    rfl
  · have h := H.1 _ _ _ _ r ⟨?_, hC⟩
    · rw [← hE] at h
      exact h
    · rw [hT, trun_z hk]; rfl
theorem s30 {L c1 c2 c3 c4 c5 c6 : Nat} {D : Dt} {Q : Out → Wd → Prop} {n : Int} (H : (0 ≤ n ∧ n ≤ 4000 ∧ 1 ≤ D 55 (-1) ∧ 1 ≤ D 57 (-1)) ∧ (∀ z f zt t r, (tks (D 224) n = (true, r) ∧ CutOK z f zt t r) → Q (.inl []) (sp (sp (sp (sp D 54 z) 55 f) 56 zt) 57 t, SS L 1 c2 c3 c4 c5 c6)) ∧ (∀ z f zt t r, (tks (D 224) n = (false, r) ∧ CutOK z f zt t r) → Q (.inr 52) (up (up (sp (sp (sp (sp D 54 z) 55 f) 56 zt) 57 t) 51 1 1) 51 2 r.length, SS L 1 c2 c3 c4 c5 c6))) : wp 30 0 [vr 53, vr 224, vi n, vu, vu] [] (D, SS L c1 c2 c3 c4 c5 c6) Q := by
  obtain ⟨⟨h0, hn, h1, h2⟩, H⟩ := H
  refine r30_0 (l30 (D0 := D) hn H _ 0 _ [] 0 rfl (by omega) (by decide) (fun b hb => ?_) ⟨trivial, rfl, rfl, ⟨by show (0 : Int) ≤ 0; omega, by show (0 : Int) ≤ D 55 (-1); omega, h1⟩, ⟨by show (0 : Int) ≤ 0; omega, by show (0 : Int) ≤ D 57 (-1); omega, h2⟩⟩ ?_ (Or.inl rfl))
  · have h4 : ¬ b = 54 ∧ ¬ b = 55 ∧ ¬ b = 56 ∧ ¬ b = 57 := by
      simp only [List.mem_cons, List.not_mem_nil, or_false, not_or] at hb
      exact hb
    rw [ub_a h4.2.2.1, ub_a h4.1]
  · show tks (D 224) n = _
    unfold tks
    rw [show (n - 0).toNat = n.toNat by omega]
