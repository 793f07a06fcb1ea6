/-! SafeCode's syntax: lines -/
set_option maxRecDepth 100000
theorem k66 {L c2 c3 c4 c5 c6 : Nat} {D : Dt} {Q : Out → Wd → Prop} {K : TK} {op : Int} (H : (SKp K (D 54) (D 55) (D 56) (D 57) (D 224) ∧ 0 ≤ D 58 2 ∧ D 58 2 ≤ 16000) ∧ (∀ b, pops K op (D 58 2) = (true, b) → Q (.inl []) (up D 58 2 b, SS L 1 c2 c3 c4 c5 c6)) ∧ (∀ b, pops K op (D 58 2) = (false, b) → Q (.inr 52) (up (up (up D 58 2 b) 51 1 2) 51 2 b, SS L 1 c2 c3 c4 c5 c6))) : wp 66 0 [vr 58, vi op] [] (D, SS L 1 c2 c3 c4 c5 c6) Q := by
  obtain ⟨⟨hS, h0, h1⟩, H1, H2⟩ := H
  refine s66 hS h0 h1 ⟨fun e => H1 _ (PR_t e), fun e => H2 _ (PR_f (by rw [e]; decide))⟩
def LR (z r : Int → Int) (l : List Int) : Prop := z 1 = l.length ∧ RowOK z r ∧ ∀ i : Nat, i < l.length → r i = l.getD i 0
theorem LR.add {z r z' r' : Int → Int} {l : List Int} {v : Int} (h : LR z r l) (ha : AddP z r z' r' v) : LR z' r' (l ++ [v]) := by
  obtain ⟨h1, h2, h3⟩ := h
  obtain ⟨a1, a2, a3, a4, a5⟩ := ha
  refine ⟨by rw [List.length_append, a1, h1]; simp, ⟨by have := h2.1; omega, by omega, a5⟩, fun i hi => ?_⟩
  rw [List.length_append] at hi
  have hi : i < l.length + 1 := hi
  by_cases e : i < l.length
  · rw [a2 i (by omega) (by rw [h1]; omega), h3 i e]
    simp only [List.getD_eq_getElem?_getD, List.getElem?_append_left e]
  · have e2 : i = l.length := by omega
    subst e2
    rw [h1] at a3
    rw [a3]
    simp [List.getD_eq_getElem?_getD]
/-- all numbers of some places at once -/
def ov (D : Dt) (lo hi : Nat) (G : Nat → Int → Int) : Dt := fun b => bif Nat.ble lo b && Nat.ble b hi then G b else D b
theorem ov_o {D : Dt} {lo hi b : Nat} {G : Nat → Int → Int} (h : ¬ (lo ≤ b ∧ b ≤ hi)) : ov D lo hi G b = D b := by
  show (bif Nat.ble lo b && Nat.ble b hi then G b else D b) = D b
  cases e : Nat.ble lo b && Nat.ble b hi with
  | true =>
    rw [Bool.and_eq_true] at e
    exact absurd ⟨Nat.le_of_ble_eq_true e.1, Nat.le_of_ble_eq_true e.2⟩ h
  | false => rfl
theorem ov_n {D : Dt} {lo hi b : Nat} {G : Nat → Int → Int} (h : lo ≤ b ∧ b ≤ hi) : ov D lo hi G b = G b := by
  show (bif Nat.ble lo b && Nat.ble b hi then G b else D b) = G b
  rw [Nat.ble_eq_true_of_le h.1, Nat.ble_eq_true_of_le h.2]
  rfl
theorem ov_ext {D D' : Dt} (lo hi : Nat) (h : ∀ b, ¬ (lo ≤ b ∧ b ≤ hi) → D' b = D b) : D' = ov D lo hi D' := by
  funext b
  by_cases e : lo ≤ b ∧ b ≤ hi
  · rw [ov_n e]
  · rw [ov_o e, h b e]
theorem ov_ov {D : Dt} {lo hi : Nat} {G G' : Nat → Int → Int} : ov (ov D lo hi G) lo hi G' = ov D lo hi G' := by
  funext b
  by_cases e : lo ≤ b ∧ b ≤ hi
  · rw [ov_n e, ov_n e]
  · rw [ov_o e, ov_o e, ov_o e]
/-- the ten rows of the syntax -/
abbrev rs10 : List Nat := [59, 61, 63, 65, 67, 69, 71, 73, 75, 77]
def SR (G : Nat → Int → Int) (X : Nat → List Int) : Prop := LR (G 59) (G 60) (X 59) ∧ LR (G 61) (G 62) (X 61) ∧ LR (G 63) (G 64) (X 63) ∧ LR (G 65) (G 66) (X 65) ∧ LR (G 67) (G 68) (X 67) ∧ LR (G 69) (G 70) (X 69) ∧ LR (G 71) (G 72) (X 71) ∧ LR (G 73) (G 74) (X 73) ∧ LR (G 75) (G 76) (X 75) ∧ LR (G 77) (G 78) (X 77)
def R1 (G : Nat → Int → Int) : Prop := 1 ≤ G 60 (-1) ∧ 1 ≤ G 62 (-1) ∧ 1 ≤ G 64 (-1) ∧ 1 ≤ G 66 (-1) ∧ 1 ≤ G 68 (-1) ∧ 1 ≤ G 70 (-1) ∧ 1 ≤ G 72 (-1) ∧ 1 ≤ G 74 (-1) ∧ 1 ≤ G 76 (-1) ∧ 1 ≤ G 78 (-1)
theorem SR.r1 {G : Nat → Int → Int} {X : Nat → List Int} (h : SR G X) : R1 G := ⟨h.1.2.1.2.2, h.2.1.2.1.2.2, h.2.2.1.2.1.2.2, h.2.2.2.1.2.1.2.2, h.2.2.2.2.1.2.1.2.2, h.2.2.2.2.2.1.2.1.2.2, h.2.2.2.2.2.2.1.2.1.2.2, h.2.2.2.2.2.2.2.1.2.1.2.2, h.2.2.2.2.2.2.2.2.1.2.1.2.2, h.2.2.2.2.2.2.2.2.2.2.1.2.2⟩
/-- so many at most -/
def XL (X : Nat → List Int) (a : Int) : Prop := ∀ p, ((X p).length : Int) ≤ a
theorem r65_0 {L c2 c3 c4 c5 c6 : Nat} {K : TK} {D : Dt} {Q : Out → Wd → Prop} (H : (SKp K (D 54) (D 55) (D 56) (D 57) (D 224) ∧ 0 ≤ (D 58 2)) ∧ (((SKp K (D 54) (D 55) (D 56) (D 57) (D 224) ∧ 0 ≤ D 58 2 ∧ D 58 2 ≤ 20000) ∧ ((((K.sn (D 58 2)) ∧ D 58 2 < K.n) → ((RowOK (D 75) (D 76) ∧ D 75 1 ≤ 4096) ∧ ((∀ (z6 : Int → Int) (r7 : Int → Int), (AddP (D 75) (D 76) z6 r7 (D 58 2)) → ((SKp K (D 54) (D 55) (D 56) (D 57) (D 224) ∧ 0 ≤ (D 58 2 + 1)) ∧ ((((K.w (D 58 2 + 1) 15 → (((-2147483648) ≤ (D 58 2 + 1) + 1 ∧ (D 58 2 + 1) + 1 ≤ 2147483647) ∧ ((RowOK (D 73) (D 74) ∧ D 73 1 ≤ 4096) ∧ ((∀ (z43 : Int → Int) (r44 : Int → Int), (AddP (D 73) (D 74) z43 r44 (0 : Int)) → ((RowOK (D 77) (D 78) ∧ D 77 1 ≤ 4096) ∧ ((∀ (z47 : Int → Int) (r48 : Int → Int), (AddP (D 77) (D 78) z47 r48 ((-1) : Int)) → (Q (.inl []) (sp (sp (sp (sp (up (sp (sp (up D 58 2 (D 58 2 + 1)) 75 z6) 76 r7) 58 2 ((D 58 2 + 1) + 1)) 73 z43) 74 r44) 77 z47) 78 r48, SS L 1 c2 c3 c4 c5 c6)))))))))) ∧ (¬ (K.w (D 58 2 + 1) 15) → ((SKp K (D 54) (D 55) (D 56) (D 57) (D 224) ∧ 0 ≤ (D 58 2)) ∧ ((((K.w (D 58 2) 16 → ((RowOK (D 73) (D 74) ∧ D 73 1 ≤ 4096) ∧ ((∀ (z33 : Int → Int) (r34 : Int → Int), (AddP (D 73) (D 74) z33 r34 (1 : Int)) → ((RowOK (D 77) (D 78) ∧ D 77 1 ≤ 4096) ∧ ((∀ (z37 : Int → Int) (r38 : Int → Int), (AddP (D 77) (D 78) z37 r38 ((-1) : Int)) → (wp 65 104 [vr 58, vu, vi 0] [] (sp (sp (sp (sp (sp (sp (up D 58 2 (D 58 2 + 1)) 75 z6) 76 r7) 73 z33) 74 r34) 77 z37) 78 r38, SS L 1 c2 c3 c4 c5 c6) Q)))))))) ∧ (¬ (K.w (D 58 2) 16) → ((SKp K (D 54) (D 55) (D 56) (D 57) (D 224) ∧ 0 ≤ (D 58 2) ∧ (D 58 2) < K.n) ∧ ((((K.op (D 58 2) < 0 → (Q (.inr 52) (up (up (sp (sp (up D 58 2 (D 58 2 + 1)) 75 z6) 76 r7) 51 1 2) 51 2 (D 58 2 + 1), SS L 1 c2 c3 c4 c5 c6))) ∧ (¬ (K.op (D 58 2) < 0) → ((RowOK (D 73) (D 74) ∧ D 73 1 ≤ 4096) ∧ ((∀ (z18 : Int → Int) (r19 : Int → Int), (AddP (D 73) (D 74) z18 r19 (2 : Int)) → ((RowOK (D 77) (D 78) ∧ D 77 1 ≤ 4096) ∧ ((∀ (z22 : Int → Int) (r23 : Int → Int), (AddP (D 77) (D 78) z22 r23 (K.op (D 58 2))) → ((SKp K (D 54) (D 55) (D 56) (D 57) (D 224) ∧ 0 ≤ D 58 2 + 1 ∧ D 58 2 + 1 ≤ 16000) ∧ ((∀ (b26 : Int), (pops K (K.op (D 58 2)) (D 58 2 + 1) = (true, b26)) → (Q (.inl []) (up (sp (sp (sp (sp (sp (sp (up D 58 2 (D 58 2 + 1)) 75 z6) 76 r7) 73 z18) 74 r19) 77 z22) 78 r23) 58 2 b26, SS L 1 c2 c3 c4 c5 c6))) ∧ (∀ (b28 : Int), (pops K (K.op (D 58 2)) (D 58 2 + 1) = (false, b28)) → (Q (.inr 52) (up (up (up (sp (sp (sp (sp (sp (sp (up D 58 2 (D 58 2 + 1)) 75 z6) 76 r7) 73 z18) 74 r19) 77 z22) 78 r23) 58 2 b28) 51 1 2) 51 2 b28, SS L 1 c2 c3 c4 c5 c6)))))))))))))))))))))))))))))) ∧ ((¬ ((K.sn (D 58 2)) ∧ D 58 2 < K.n)) → (Q (.inr 52) (up (up D 51 1 2) 51 2 (D 58 2), SS L 1 c2 c3 c4 c5 c6))))))) : wp 65 0 [vr 58, vu, vu] [] (D, SS L 1 c2 c3 c4 c5 c6) Q := vc_wp [10] 200 _ _ _ _ _ _ (show wp 65 10 [vr 58, vi (D 58 2), vu] [vr 53, vr 58] (D, SS L 1 c2 c3 c4 c5 c6) Q from vc_wp [] 200 _ _ _ _ _ _ (show wp 41 0 [vr 53, vi (D 58 2)] [] (D, SS L 1 c2 c3 c4 c5 c6) (aft wp 65 14 [vr 58, vi (D 58 2), vu] [vr 58] Q) from k41 ⟨H.1, (show wp 65 17 [vr 58, vi (D 58 2), vu] [vi (ib (K.sn (D 58 2))), vr 58] (D, SS L 1 c2 c3 c4 c5 c6) Q from vc_wp [] 200 _ _ _ _ _ _ (show wp 62 0 [vr 58, vi (ib (K.sn (D 58 2)))] [] (D, SS L 1 c2 c3 c4 c5 c6) (aft wp 65 17 [vr 58, vi (D 58 2), vu] [] Q) from b62 ⟨H.2.1, (fun q4 => (show wp 65 20 [vr 58, vi (D 58 2), vu] [] (up D 58 2 (D 58 2 + 1), SS L 1 c2 c3 c4 c5 c6) Q from vc_wp [24] 200 _ _ _ _ _ _ (show wp 65 24 [vr 58, vi (D 58 2), vu] [vr 75] (up D 58 2 (D 58 2 + 1), SS L 1 c2 c3 c4 c5 c6) Q from vc_wp [] 200 _ _ _ _ _ _ (show wp 58 0 [vr 75, vi (D 58 2)] [] (up D 58 2 (D 58 2 + 1), SS L 1 c2 c3 c4 c5 c6) (aft wp 65 25 [vr 58, vi (D 58 2), vu] [] Q) from s58a75 ⟨(H.2.2.1 q4).1, (fun z6 r7 q8 => (show wp 65 28 [vr 58, vi (D 58 2), vu] [] (sp (sp (up D 58 2 (D 58 2 + 1)) 75 z6) 76 r7, SS L 1 c2 c3 c4 c5 c6) Q from vc_wp [32] 200 _ _ _ _ _ _ (show wp 65 32 [vr 58, vi (D 58 2), vu] [vr 53] (sp (sp (up D 58 2 (D 58 2 + 1)) 75 z6) 76 r7, SS L 1 c2 c3 c4 c5 c6) Q from vc_wp [] 200 _ _ _ _ _ _ (show wp 37 0 [vr 53, vi (D 58 2 + 1), vr 15] [] (sp (sp (up D 58 2 (D 58 2 + 1)) 75 z6) 76 r7, SS L 1 c2 c3 c4 c5 c6) (aft wp 65 38 [vr 58, vi (D 58 2), vu] [] Q) from k37s15 ⟨((H.2.2.1 q4).2 z6 r7 q8).1, (show wp 65 41 [vr 58, vi (D 58 2), vu] [vi (ib (K.w (D 58 2 + 1) 15))] (sp (sp (up D 58 2 (D 58 2 + 1)) 75 z6) 76 r7, SS L 1 c2 c3 c4 c5 c6) Q from vc_wp [51, 77] 200 _ _ _ _ _ _ (show ((ib (K.w (D 58 2 + 1) 15) = 0 → (wp 65 77 [vr 58, vi (D 58 2), vu] [vr 53] (sp (sp (up D 58 2 (D 58 2 + 1)) 75 z6) 76 r7, SS L 1 c2 c3 c4 c5 c6) Q)) ∧ (¬ (ib (K.w (D 58 2 + 1) 15) = 0) → (wp 65 51 [vr 58, vi (D 58 2), vu] [vi (w32 ((D 58 2 + 1) + 1)), vr 58] (sp (sp (up D 58 2 (D 58 2 + 1)) 75 z6) 76 r7, SS L 1 c2 c3 c4 c5 c6) Q))) from ⟨fun h51 => vc_wp [] 200 _ _ _ _ _ _ (show wp 37 0 [vr 53, vi (D 58 2), vr 16] [] (sp (sp (up D 58 2 (D 58 2 + 1)) 75 z6) 76 r7, SS L 1 c2 c3 c4 c5 c6) (aft wp 65 80 [vr 58, vi (D 58 2), vu] [] Q) from k37s16 ⟨(((H.2.2.1 q4).2 z6 r7 q8).2.2 ((ib_z).mp h51)).1, (show wp 65 83 [vr 58, vi (D 58 2), vu] [vi (ib (K.w (D 58 2) 16))] (sp (sp (up D 58 2 (D 58 2 + 1)) 75 z6) 76 r7, SS L 1 c2 c3 c4 c5 c6) Q from vc_wp [90, 152] 200 _ _ _ _ _ _ (show ((ib (K.w (D 58 2) 16) = 0 → (wp 65 152 [vr 58, vi (D 58 2), vu] [vr 53] (sp (sp (up D 58 2 (D 58 2 + 1)) 75 z6) 76 r7, SS L 1 c2 c3 c4 c5 c6) Q)) ∧ (¬ (ib (K.w (D 58 2) 16) = 0) → (wp 65 90 [vr 58, vi (D 58 2), vu] [vr 73] (sp (sp (up D 58 2 (D 58 2 + 1)) 75 z6) 76 r7, SS L 1 c2 c3 c4 c5 c6) Q))) from ⟨fun h40 => vc_wp [] 200 _ _ _ _ _ _ (show wp 48 0 [vr 53, vi (D 58 2), vr 17] [] (sp (sp (up D 58 2 (D 58 2 + 1)) 75 z6) 76 r7, SS L 1 c2 c3 c4 c5 c6) (aft wp 65 155 [vr 58, vi (D 58 2), vu] [] Q) from k48 ⟨((((H.2.2.1 q4).2 z6 r7 q8).2.2 ((ib_z).mp h51)).2.2 ((ib_z).mp h40)).1, (show wp 65 158 [vr 58, vi (D 58 2), vu] [vi (K.op (D 58 2))] (sp (sp (up D 58 2 (D 58 2 + 1)) 75 z6) 76 r7, SS L 1 c2 c3 c4 c5 c6) Q from vc_wp [167, 180] 200 _ _ _ _ _ _ (show ((K.op (D 58 2) < 0 → (wp 65 167 [vr 58, vi (D 58 2), vi (K.op (D 58 2))] [vr 51] (sp (sp (up D 58 2 (D 58 2 + 1)) 75 z6) 76 r7, SS L 1 c2 c3 c4 c5 c6) Q)) ∧ (¬ (K.op (D 58 2) < 0) → (wp 65 180 [vr 58, vi (D 58 2), vi (K.op (D 58 2))] [vr 73] (sp (sp (up D 58 2 (D 58 2 + 1)) 75 z6) 76 r7, SS L 1 c2 c3 c4 c5 c6) Q))) from ⟨fun h30 => vc_wp [] 200 _ _ _ _ _ _ (show wp 28 0 [vr 51, vi 2, vi (D 58 2 + 1)] [] (sp (sp (up D 58 2 (D 58 2 + 1)) 75 z6) 76 r7, SS L 1 c2 c3 c4 c5 c6) (aft wp 65 172 [vr 58, vi (D 58 2), vi (K.op (D 58 2))] [] Q) from r28_0 (show wp 65 175 [vr 58, vi (D 58 2), vi (K.op (D 58 2))] [vr 52] (up (up (sp (sp (up D 58 2 (D 58 2 + 1)) 75 z6) 76 r7) 51 1 2) 51 2 (D 58 2 + 1), SS L 1 c2 c3 c4 c5 c6) Q from vc_wp [] 200 _ _ _ _ _ _ (show Q (.inr 52) (up (up (sp (sp (up D 58 2 (D 58 2 + 1)) 75 z6) 76 r7) 51 1 2) 51 2 (D 58 2 + 1), SS L 1 c2 c3 c4 c5 c6) from (((((H.2.2.1 q4).2 z6 r7 q8).2.2 ((ib_z).mp h51)).2.2 ((ib_z).mp h40)).2.1 h30)))), fun h31 => vc_wp [] 200 _ _ _ _ _ _ (show wp 58 0 [vr 73, vi 2] [] (sp (sp (up D 58 2 (D 58 2 + 1)) 75 z6) 76 r7, SS L 1 c2 c3 c4 c5 c6) (aft wp 65 181 [vr 58, vi (D 58 2), vi (K.op (D 58 2))] [] Q) from s58a73 ⟨(((((H.2.2.1 q4).2 z6 r7 q8).2.2 ((ib_z).mp h51)).2.2 ((ib_z).mp h40)).2.2 h31).1, (fun z18 r19 q20 => (show wp 65 184 [vr 58, vi (D 58 2), vi (K.op (D 58 2))] [] (sp (sp (sp (sp (up D 58 2 (D 58 2 + 1)) 75 z6) 76 r7) 73 z18) 74 r19, SS L 1 c2 c3 c4 c5 c6) Q from vc_wp [188] 200 _ _ _ _ _ _ (show wp 65 188 [vr 58, vi (D 58 2), vi (K.op (D 58 2))] [vr 77] (sp (sp (sp (sp (up D 58 2 (D 58 2 + 1)) 75 z6) 76 r7) 73 z18) 74 r19, SS L 1 c2 c3 c4 c5 c6) Q from vc_wp [] 200 _ _ _ _ _ _ (show wp 58 0 [vr 77, vi (K.op (D 58 2))] [] (sp (sp (sp (sp (up D 58 2 (D 58 2 + 1)) 75 z6) 76 r7) 73 z18) 74 r19, SS L 1 c2 c3 c4 c5 c6) (aft wp 65 189 [vr 58, vi (D 58 2), vi (K.op (D 58 2))] [] Q) from s58a77 ⟨((((((H.2.2.1 q4).2 z6 r7 q8).2.2 ((ib_z).mp h51)).2.2 ((ib_z).mp h40)).2.2 h31).2 z18 r19 q20).1, (fun z22 r23 q24 => (show wp 65 192 [vr 58, vi (D 58 2), vi (K.op (D 58 2))] [] (sp (sp (sp (sp (sp (sp (up D 58 2 (D 58 2 + 1)) 75 z6) 76 r7) 73 z18) 74 r19) 77 z22) 78 r23, SS L 1 c2 c3 c4 c5 c6) Q from vc_wp [] 200 _ _ _ _ _ _ (show wp 66 0 [vr 58, vi (K.op (D 58 2))] [] (sp (sp (sp (sp (sp (sp (up D 58 2 (D 58 2 + 1)) 75 z6) 76 r7) 73 z18) 74 r19) 77 z22) 78 r23, SS L 1 c2 c3 c4 c5 c6) (aft wp 65 194 [vr 58, vi (D 58 2), vi (K.op (D 58 2))] [] Q) from k66 ⟨(((((((H.2.2.1 q4).2 z6 r7 q8).2.2 ((ib_z).mp h51)).2.2 ((ib_z).mp h40)).2.2 h31).2 z18 r19 q20).2 z22 r23 q24).1, (fun b26 q27 => (show wp 65 197 [vr 58, vi (D 58 2), vi (K.op (D 58 2))] [] (up (sp (sp (sp (sp (sp (sp (up D 58 2 (D 58 2 + 1)) 75 z6) 76 r7) 73 z18) 74 r19) 77 z22) 78 r23) 58 2 b26, SS L 1 c2 c3 c4 c5 c6) Q from vc_wp [] 200 _ _ _ _ _ _ (show Q (.inl []) (up (sp (sp (sp (sp (sp (sp (up D 58 2 (D 58 2 + 1)) 75 z6) 76 r7) 73 z18) 74 r19) 77 z22) 78 r23) 58 2 b26, SS L 1 c2 c3 c4 c5 c6) from ((((((((H.2.2.1 q4).2 z6 r7 q8).2.2 ((ib_z).mp h51)).2.2 ((ib_z).mp h40)).2.2 h31).2 z18 r19 q20).2 z22 r23 q24).2.1 b26 q27)))), (fun b28 q29 => (show Q (.inr 52) (up (up (up (sp (sp (sp (sp (sp (sp (up D 58 2 (D 58 2 + 1)) 75 z6) 76 r7) 73 z18) 74 r19) 77 z22) 78 r23) 58 2 b28) 51 1 2) 51 2 b28, SS L 1 c2 c3 c4 c5 c6) from ((((((((H.2.2.1 q4).2 z6 r7 q8).2.2 ((ib_z).mp h51)).2.2 ((ib_z).mp h40)).2.2 h31).2 z18 r19 q20).2 z22 r23 q24).2.2 b28 q29)))⟩)))⟩))))⟩)⟩))⟩), fun h41 => vc_wp [] 200 _ _ _ _ _ _ (show wp 58 0 [vr 73, vi 1] [] (sp (sp (up D 58 2 (D 58 2 + 1)) 75 z6) 76 r7, SS L 1 c2 c3 c4 c5 c6) (aft wp 65 91 [vr 58, vi (D 58 2), vu] [] Q) from s58a73 ⟨((((H.2.2.1 q4).2 z6 r7 q8).2.2 ((ib_z).mp h51)).2.1 (Classical.not_not.mp (mt (ib_z).mpr h41))).1, (fun z33 r34 q35 => (show wp 65 94 [vr 58, vi (D 58 2), vu] [] (sp (sp (sp (sp (up D 58 2 (D 58 2 + 1)) 75 z6) 76 r7) 73 z33) 74 r34, SS L 1 c2 c3 c4 c5 c6) Q from vc_wp [98] 200 _ _ _ _ _ _ (show wp 65 98 [vr 58, vi (D 58 2), vu] [vr 77] (sp (sp (sp (sp (up D 58 2 (D 58 2 + 1)) 75 z6) 76 r7) 73 z33) 74 r34, SS L 1 c2 c3 c4 c5 c6) Q from vc_wp [] 200 _ _ _ _ _ _ (show wp 58 0 [vr 77, vi (-1)] [] (sp (sp (sp (sp (up D 58 2 (D 58 2 + 1)) 75 z6) 76 r7) 73 z33) 74 r34, SS L 1 c2 c3 c4 c5 c6) (aft wp 65 99 [vr 58, vi (D 58 2), vu] [] Q) from s58a77 ⟨(((((H.2.2.1 q4).2 z6 r7 q8).2.2 ((ib_z).mp h51)).2.1 (Classical.not_not.mp (mt (ib_z).mpr h41))).2 z33 r34 q35).1, (fun z37 r38 q39 => (show wp 65 102 [vr 58, vi (D 58 2), vu] [] (sp (sp (sp (sp (sp (sp (up D 58 2 (D 58 2 + 1)) 75 z6) 76 r7) 73 z33) 74 r34) 77 z37) 78 r38, SS L 1 c2 c3 c4 c5 c6) Q from vc_wp [104] 200 _ _ _ _ _ _ (show wp 65 104 [vr 58, vi (D 58 2), vi 0] [] (sp (sp (sp (sp (sp (sp (up D 58 2 (D 58 2 + 1)) 75 z6) 76 r7) 73 z33) 74 r34) 77 z37) 78 r38, SS L 1 c2 c3 c4 c5 c6) Q from wp_d (Lle.k rfl (Lle.v rfl (Lle.k rfl (Lle.nil)))) (((((((H.2.2.1 q4).2 z6 r7 q8).2.2 ((ib_z).mp h51)).2.1 (Classical.not_not.mp (mt (ib_z).mpr h41))).2 z33 r34 q35).2 z37 r38 q39)))))⟩))))⟩)⟩))⟩), fun h52 => w32_i (fun z50 : Int => wp 65 51 [vr 58, vi (D 58 2), vu] [vi z50, vr 58] (sp (sp (up D 58 2 (D 58 2 + 1)) 75 z6) 76 r7, SS L 1 c2 c3 c4 c5 c6) Q) ((((H.2.2.1 q4).2 z6 r7 q8).2.1 (Classical.not_not.mp (mt (ib_z).mpr h52)))).1 (vc_wp [54] 200 _ _ _ _ _ _ (show wp 65 54 [vr 58, vi (D 58 2), vu] [] (up (sp (sp (up D 58 2 (D 58 2 + 1)) 75 z6) 76 r7) 58 2 ((D 58 2 + 1) + 1), SS L 1 c2 c3 c4 c5 c6) Q from vc_wp [58] 200 _ _ _ _ _ _ (show wp 65 58 [vr 58, vi (D 58 2), vu] [vr 73] (up (sp (sp (up D 58 2 (D 58 2 + 1)) 75 z6) 76 r7) 58 2 ((D 58 2 + 1) + 1), SS L 1 c2 c3 c4 c5 c6) Q from vc_wp [] 200 _ _ _ _ _ _ (show wp 58 0 [vr 73, vi 0] [] (up (sp (sp (up D 58 2 (D 58 2 + 1)) 75 z6) 76 r7) 58 2 ((D 58 2 + 1) + 1), SS L 1 c2 c3 c4 c5 c6) (aft wp 65 59 [vr 58, vi (D 58 2), vu] [] Q) from s58a73 ⟨((((H.2.2.1 q4).2 z6 r7 q8).2.1 (Classical.not_not.mp (mt (ib_z).mpr h52)))).2.1, (fun z43 r44 q45 => (show wp 65 62 [vr 58, vi (D 58 2), vu] [] (sp (sp (up (sp (sp (up D 58 2 (D 58 2 + 1)) 75 z6) 76 r7) 58 2 ((D 58 2 + 1) + 1)) 73 z43) 74 r44, SS L 1 c2 c3 c4 c5 c6) Q from vc_wp [66] 200 _ _ _ _ _ _ (show wp 65 66 [vr 58, vi (D 58 2), vu] [vr 77] (sp (sp (up (sp (sp (up D 58 2 (D 58 2 + 1)) 75 z6) 76 r7) 58 2 ((D 58 2 + 1) + 1)) 73 z43) 74 r44, SS L 1 c2 c3 c4 c5 c6) Q from vc_wp [] 200 _ _ _ _ _ _ (show wp 58 0 [vr 77, vi (-1)] [] (sp (sp (up (sp (sp (up D 58 2 (D 58 2 + 1)) 75 z6) 76 r7) 58 2 ((D 58 2 + 1) + 1)) 73 z43) 74 r44, SS L 1 c2 c3 c4 c5 c6) (aft wp 65 67 [vr 58, vi (D 58 2), vu] [] Q) from s58a77 ⟨(((((H.2.2.1 q4).2 z6 r7 q8).2.1 (Classical.not_not.mp (mt (ib_z).mpr h52)))).2.2 z43 r44 q45).1, (fun z47 r48 q49 => (show wp 65 70 [vr 58, vi (D 58 2), vu] [] (sp (sp (sp (sp (up (sp (sp (up D 58 2 (D 58 2 + 1)) 75 z6) 76 r7) 58 2 ((D 58 2 + 1) + 1)) 73 z43) 74 r44) 77 z47) 78 r48, SS L 1 c2 c3 c4 c5 c6) Q from vc_wp [] 200 _ _ _ _ _ _ (show Q (.inl []) (sp (sp (sp (sp (up (sp (sp (up D 58 2 (D 58 2 + 1)) 75 z6) 76 r7) 58 2 ((D 58 2 + 1) + 1)) 73 z43) 74 r44) 77 z47) 78 r48, SS L 1 c2 c3 c4 c5 c6) from ((((((H.2.2.1 q4).2 z6 r7 q8).2.1 (Classical.not_not.mp (mt (ib_z).mpr h52)))).2.2 z43 r44 q45).2 z47 r48 q49))))⟩))))⟩))))⟩))⟩))))⟩)))), (fun q53 => (show Q (.inr 52) (up (up D 51 1 2) 51 2 (D 58 2), SS L 1 c2 c3 c4 c5 c6) from (H.2.2.2 q53)))⟩))⟩))
theorem r65_104 {L c2 c3 c4 c5 c6 : Nat} {K : TK} {D : Dt} {Q : Out → Wd → Prop} {k : Int} (H : ((k < 3 → ((SKp K (D 54) (D 55) (D 56) (D 57) (D 224) ∧ 0 ≤ (D 58 2)) ∧ (((SKp K (D 54) (D 55) (D 56) (D 57) (D 224) ∧ 0 ≤ D 58 2 ∧ D 58 2 ≤ 20000) ∧ ((((K.sn (D 58 2)) ∧ D 58 2 < K.n) → (((-2147483648) ≤ k + 1 ∧ k + 1 ≤ 2147483647) ∧ (wp 65 104 [vr 58, vu, vi (k + 1)] [] (up D 58 2 (D 58 2 + 1), SS L 1 c2 c3 c4 c5 c6) Q))) ∧ ((¬ ((K.sn (D 58 2)) ∧ D 58 2 < K.n)) → (Q (.inr 52) (up (up D 51 1 2) 51 2 (D 58 2), SS L 1 c2 c3 c4 c5 c6)))))))) ∧ (¬ (k < 3) → ((SKp K (D 54) (D 55) (D 56) (D 57) (D 224) ∧ 0 ≤ (D 58 2)) ∧ (((SKp K (D 54) (D 55) (D 56) (D 57) (D 224) ∧ 0 ≤ D 58 2 ∧ D 58 2 ≤ 20000) ∧ ((((K.cn (D 58 2)) ∧ D 58 2 < K.n) → (Q (.inl []) (up D 58 2 (D 58 2 + 1), SS L 1 c2 c3 c4 c5 c6))) ∧ ((¬ ((K.cn (D 58 2)) ∧ D 58 2 < K.n)) → (Q (.inr 52) (up (up D 51 1 2) 51 2 (D 58 2), SS L 1 c2 c3 c4 c5 c6)))))))))) : wp 65 104 [vr 58, vu, vi k] [] (D, SS L 1 c2 c3 c4 c5 c6) Q := vc_wp [114, 135] 200 _ _ _ _ _ _ (show ((k < 3 → (wp 65 114 [vr 58, vu, vi k] [vr 53, vr 58] (D, SS L 1 c2 c3 c4 c5 c6) Q)) ∧ (¬ (k < 3) → (wp 65 135 [vr 58, vu, vi k] [vr 53, vr 58] (D, SS L 1 c2 c3 c4 c5 c6) Q))) from ⟨fun h12 => vc_wp [] 200 _ _ _ _ _ _ (show wp 41 0 [vr 53, vi (D 58 2)] [] (D, SS L 1 c2 c3 c4 c5 c6) (aft wp 65 118 [vr 58, vu, vi k] [vr 58] Q) from k41 ⟨(H.1 h12).1, (show wp 65 121 [vr 58, vu, vi k] [vi (ib (K.sn (D 58 2))), vr 58] (D, SS L 1 c2 c3 c4 c5 c6) Q from vc_wp [] 200 _ _ _ _ _ _ (show wp 62 0 [vr 58, vi (ib (K.sn (D 58 2)))] [] (D, SS L 1 c2 c3 c4 c5 c6) (aft wp 65 121 [vr 58, vu, vi k] [] Q) from b62 ⟨(H.1 h12).2.1, (fun q4 => (show wp 65 124 [vr 58, vu, vi k] [] (up D 58 2 (D 58 2 + 1), SS L 1 c2 c3 c4 c5 c6) Q from vc_wp [127] 200 _ _ _ _ _ _ (show wp 65 127 [vr 58, vu, vi (w32 (k + 1))] [] (up D 58 2 (D 58 2 + 1), SS L 1 c2 c3 c4 c5 c6) Q from w32_i (fun z5 : Int => wp 65 127 [vr 58, vu, vi z5] [] (up D 58 2 (D 58 2 + 1), SS L 1 c2 c3 c4 c5 c6) Q) (((H.1 h12).2.2.1 q4)).1 (vc_wp [104] 200 _ _ _ _ _ _ (show wp 65 104 [vr 58, vu, vi (k + 1)] [] (up D 58 2 (D 58 2 + 1), SS L 1 c2 c3 c4 c5 c6) Q from (((H.1 h12).2.2.1 q4)).2))))), (fun q6 => (show Q (.inr 52) (up (up D 51 1 2) 51 2 (D 58 2), SS L 1 c2 c3 c4 c5 c6) from ((H.1 h12).2.2.2 q6)))⟩))⟩), fun h13 => vc_wp [] 200 _ _ _ _ _ _ (show wp 39 0 [vr 53, vi (D 58 2)] [] (D, SS L 1 c2 c3 c4 c5 c6) (aft wp 65 139 [vr 58, vu, vi k] [vr 58] Q) from k39 ⟨(H.2 h13).1, (show wp 65 142 [vr 58, vu, vi k] [vi (ib (K.cn (D 58 2))), vr 58] (D, SS L 1 c2 c3 c4 c5 c6) Q from vc_wp [] 200 _ _ _ _ _ _ (show wp 62 0 [vr 58, vi (ib (K.cn (D 58 2)))] [] (D, SS L 1 c2 c3 c4 c5 c6) (aft wp 65 142 [vr 58, vu, vi k] [] Q) from b62 ⟨(H.2 h13).2.1, (fun q10 => (show wp 65 145 [vr 58, vu, vi k] [] (up D 58 2 (D 58 2 + 1), SS L 1 c2 c3 c4 c5 c6) Q from vc_wp [] 200 _ _ _ _ _ _ (show Q (.inl []) (up D 58 2 (D 58 2 + 1), SS L 1 c2 c3 c4 c5 c6) from ((H.2 h13).2.2.1 q10)))), (fun q11 => (show Q (.inr 52) (up (up D 51 1 2) 51 2 (D 58 2), SS L 1 c2 c3 c4 c5 c6) from ((H.2 h13).2.2.2 q11)))⟩))⟩)⟩)
noncomputable def pca (K : TK) : Nat → Int → PR
  | 0, a => pm (K.cn a) a
  | n + 1, a => pb (pm (K.sn a) a) (pca K n)
theorem l65 {L c2 c3 c4 c5 c6 : Nat} {Q : Out → Wd → Prop} {K : TK} : ∀ (n : Nat) (k : Int) (D : Dt), k + n = 3 → SKp K (D 54) (D 55) (D 56) (D 57) (D 224) → 0 ≤ D 58 2 → D 58 2 ≤ 10000 + k → 0 ≤ k → FS D (SS L 1 c2 c3 c4 c5 c6) Q (pca K n (D 58 2)) → wp 65 104 [vr 58, vu, vi k] [] (D, SS L 1 c2 c3 c4 c5 c6) Q
  | 0, k, D, hk, hS, h0, h1, hk0, H => by
    refine r65_104 (K := K) ⟨fun h => by omega, fun _ => ⟨⟨hS, h0⟩, ⟨hS, h0, by omega⟩, fun x => H.y (pm_t x.1), fun x => ?_⟩⟩
    have := H.z (pm_f fun y => x ⟨y, y.1⟩)
    rw [uself] at this
    exact this
  | n + 1, k, D, hk, hS, h0, h1, hk0, H => by
    refine r65_104 (K := K) ⟨fun _ => ⟨⟨hS, h0⟩, ⟨hS, h0, by omega⟩, fun x => ⟨by omega, ?_⟩, fun x => ?_⟩, fun h => by omega⟩
    · refine l65 n (k + 1) (up D 58 2 (D 58 2 + 1)) (by omega) hS ?_ ?_ (by omega) ?_
      · rw [ub_s]; omega
      · rw [ub_s]; omega
      · have e : pca K (n + 1) (D 58 2) = pca K n (D 58 2 + 1) := by
          show pb (pm _ _) _ = _
          rw [pm_t x.1]; rfl
        rw [e] at H
        rw [ub_s]
        unfold FS at H ⊢
        rw [uu]
        exact H
    · have e : pca K (n + 1) (D 58 2) = (false, D 58 2) := by
        show pb (pm _ _) _ = _
        rw [pm_f (fun y => x ⟨y, y.1⟩)]; rfl
      have := H.z e
      rw [uself] at this
      exact this
/-- the rows with one more line -/
noncomputable def lnX (K : TK) (a : Int) (X : Nat → List Int) : Nat → List Int := fun p => bif Nat.beq p 73 then X 73 ++ [lkd K a] else bif Nat.beq p 75 then X 75 ++ [a] else bif Nat.beq p 77 then X 77 ++ [lop K a] else X p
theorem s65 {L c2 c3 c4 c5 c6 : Nat} {D : Dt} {Q : Out → Wd → Prop} {K : TK} (H : ∃ X, (SKp K (D 54) (D 55) (D 56) (D 57) (D 224) ∧ 0 ≤ D 58 2 ∧ D 58 2 ≤ K.n ∧ K.n ≤ 4000 ∧ SR D X ∧ XL X (D 58 2)) ∧ (∀ G, ((pline K (D 58 2)).1 = true ∧ G 58 2 = (pline K (D 58 2)).2 ∧ SR G (lnX K (D 58 2) X)) → Q (.inl []) (ov D 58 78 G, SS L 1 c2 c3 c4 c5 c6)) ∧ (∀ G, (¬ (pline K (D 58 2)).1 = true ∧ R1 G) → Q (.inr 52) (up (up (ov D 58 78 G) 51 1 2) 51 2 (pline K (D 58 2)).2, SS L 1 c2 c3 c4 c5 c6))) : wp 65 0 [vr 58, vu, vu] [] (D, SS L 1 c2 c3 c4 c5 c6) Q := by
  obtain ⟨X, ⟨hS, h0, h1, hn, hX, hL⟩, H1, H2⟩ := H
  have hy : ∀ D' : Dt, (∀ b, ¬ (58 ≤ b ∧ b ≤ 78) → D' b = D b) → pline K (D 58 2) = (true, D' 58 2) → SR D' (lnX K (D 58 2) X) → Q (.inl []) (D', SS L 1 c2 c3 c4 c5 c6) := by
    intro D' hf e hs
    rw [ov_ext 58 78 hf]
    exact H1 D' ⟨by rw [e], by rw [e], hs⟩
  have hz : ∀ (D' : Dt) (b : Int), (∀ b, ¬ (58 ≤ b ∧ b ≤ 78) → D' b = D b) → pline K (D 58 2) = (false, b) → R1 D' → Q (.inr 52) (up (up D' 51 1 2) 51 2 b, SS L 1 c2 c3 c4 c5 c6) := by
    intro D' b hf e hr
    have h := H2 D' ⟨by rw [e]; exact Bool.noConfusion, hr⟩
    rw [← ov_ext 58 78 hf, e] at h
    exact h
  have hXr := hX
  obtain ⟨x59, x61, x63, x65, x67, x69, x71, x73, x75, x77⟩ := hX
  have l73 := hL 73
  have l75 := hL 75
  have l77 := hL 77
  rw [← x73.1] at l73
  rw [← x75.1] at l75
  rw [← x77.1] at l77
  refine r65_0 (K := K) ⟨⟨hS, h0⟩, ⟨hS, h0, by omega⟩, fun hs => ⟨⟨x75.2.1, by omega⟩, fun z3 r4 a75 => ⟨⟨hS, by omega⟩, fun hl => ⟨by omega, ⟨x73.2.1, by omega⟩, fun z30 r31 a73 => ⟨⟨x77.2.1, by omega⟩, fun z33 r34 a77 => ?_⟩⟩, fun hl => ⟨⟨hS, h0⟩, fun hc => ⟨⟨x73.2.1, by omega⟩, fun z22 r23 a73 => ⟨⟨x77.2.1, by omega⟩, fun z25 r26 a77 => ?_⟩⟩, fun hc => ⟨⟨hS, h0, hs.2⟩, fun ho => ?_, fun ho => ⟨⟨x73.2.1, by omega⟩, fun z10 r11 a73 => ⟨⟨x77.2.1, by omega⟩, fun z13 r14 a77 => ⟨⟨hS, by omega, by omega⟩, fun b hb => ?_, fun b hb => ?_⟩⟩⟩⟩⟩⟩⟩, fun hs => hz D _ (fun _ _ => rfl) (cit_f fun x => hs ⟨x, x.1⟩) hXr.r1⟩
  · have e1 : lkd K (D 58 2) = 0 := cit_t hl
    have e2 : lop K (D 58 2) = -1 := cit_t hl
    refine hy _ (fun b hb => by repeat (first | rw [ub_a (by omega)] | rw [sp_a (by omega)])) ?_ ⟨x59, x61, x63, x65, x67, x69, x71, ?_, x75.add a75, ?_⟩
    · show _ = (true, D 58 2 + 1 + 1)
      rw [show D 58 2 + 1 + 1 = D 58 2 + 2 by omega]
      exact (cit_t hs.1).trans (cit_t hl)
    · show LR z30 r31 (X 73 ++ [lkd K (D 58 2)])
      rw [e1]; exact x73.add a73
    · show LR z33 r34 (X 77 ++ [lop K (D 58 2)])
      rw [e2]; exact x77.add a77
  · have e1 : lkd K (D 58 2) = 1 := (cit_f hl).trans (cit_t hc)
    have e2 : lop K (D 58 2) = -1 := (cit_f hl).trans (cit_t hc)
    have hp : pline K (D 58 2) = pca K 3 (D 58 2 + 1) := (cit_t hs.1).trans ((cit_f hl).trans (cit_t hc))
    refine l65 3 0 _ (by decide) hS (show 0 ≤ D 58 2 + 1 by omega) (show D 58 2 + 1 ≤ 10000 + 0 by omega) (by decide) ⟨fun e => ?_, fun e => ?_⟩
    · refine hy _ (fun b hb => by repeat (first | rw [ub_a (by omega)] | rw [sp_a (by omega)])) ?_ ⟨x59, x61, x63, x65, x67, x69, x71, ?_, x75.add a75, ?_⟩
      · rw [hp]; exact PR_t e
      · show LR z22 r23 (X 73 ++ [lkd K (D 58 2)])
        rw [e1]; exact x73.add a73
      · show LR z25 r26 (X 77 ++ [lop K (D 58 2)])
        rw [e2]; exact x77.add a77
    · refine hz _ _ (fun b hb => by repeat (first | rw [ub_a (by omega)] | rw [sp_a (by omega)])) ?_ ?_
      · rw [hp]; exact PR_f (fun e' => Bool.noConfusion (e'.symm.trans e))
      · exact SR.r1 (X := fun p => bif Nat.beq p 73 then X 73 ++ [1] else bif Nat.beq p 75 then X 75 ++ [D 58 2] else bif Nat.beq p 77 then X 77 ++ [-1] else X p) ⟨x59, x61, x63, x65, x67, x69, x71, x73.add a73, x75.add a75, x77.add a77⟩
  · refine hz _ _ (fun b hb => by repeat (first | rw [ub_a (by omega)] | rw [sp_a (by omega)])) ((cit_t hs.1).trans ((cit_f hl).trans ((cit_f hc).trans (cit_t ho)))) ?_
    exact SR.r1 (X := fun p => bif Nat.beq p 75 then X 75 ++ [D 58 2] else X p) ⟨x59, x61, x63, x65, x67, x69, x71, x73, x75.add a75, x77⟩
  · have e1 : lkd K (D 58 2) = 2 := (cit_f hl).trans (cit_f hc)
    have e2 : lop K (D 58 2) = K.op (D 58 2) := (cit_f hl).trans (cit_f hc)
    have hp : pline K (D 58 2) = pops K (K.op (D 58 2)) (D 58 2 + 1) := (cit_t hs.1).trans ((cit_f hl).trans ((cit_f hc).trans (cit_f ho)))
    refine hy _ (fun b hb => by repeat (first | rw [ub_a (by omega)] | rw [sp_a (by omega)])) (hp.trans hb) ⟨x59, x61, x63, x65, x67, x69, x71, ?_, x75.add a75, ?_⟩
    · show LR z10 r11 (X 73 ++ [lkd K (D 58 2)])
      rw [e1]; exact x73.add a73
    · show LR z13 r14 (X 77 ++ [lop K (D 58 2)])
      rw [e2]; exact x77.add a77
  · have hp : pline K (D 58 2) = pops K (K.op (D 58 2)) (D 58 2 + 1) := (cit_t hs.1).trans ((cit_f hl).trans ((cit_f hc).trans (cit_f ho)))
    refine hz _ _ (fun b hb => by repeat (first | rw [ub_a (by omega)] | rw [sp_a (by omega)])) (hp.trans hb) ?_
    exact SR.r1 (X := fun p => bif Nat.beq p 73 then X 73 ++ [2] else bif Nat.beq p 75 then X 75 ++ [D 58 2] else bif Nat.beq p 77 then X 77 ++ [K.op (D 58 2)] else X p) ⟨x59, x61, x63, x65, x67, x69, x71, x73.add a73, x75.add a75, x77.add a77⟩
