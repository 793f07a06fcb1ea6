/-! names: classes and types by their names -/
set_option maxRecDepth 100000
noncomputable def nidx (K : TK) : List Int → Int → Int → Int → Int
  | [], _, _, _ => -1
  | t :: ts, a, b, n => cit (sameP K.tx a b (K.tf t) (K.tt t)) n (nidx K ts a b (n + 1))
/-- the class of a part of the text: known ones first, then those of some tokens; -1 if there is none -/
noncomputable def clsAt (K : TK) (ns : List Int) (a b : Int) : Int := cit (widx K.tx a b knW 0 < 0) (nidx K ns a b 8) (widx K.tx a b knW 0)
def NSp (K : TK) (f : Int → Int) (d : Int) (ns : List Int) : Prop := ∀ i : Nat, i < ns.length → f (i + d) = ns.getD i 0 ∧ 0 ≤ ns.getD i 0 ∧ ns.getD i 0 < K.n
/-- SafeCode's classes so far; the model's -/
def CS (K : TK) (ns : List Int) (n : Int) (f : Int → Int) : Prop := n = 8 + ns.length ∧ ns.length ≤ 24 ∧ (ns.length : Int) ≤ f (-1) ∧ NSp K f 0 ns
def CM (K : TK) (ns : List Int) (n : Int) (f : Int → Int) : Prop := n = ns.length ∧ ns.length ≤ 24 ∧ NSp K f 8 ns
theorem drop_c {ns : List Int} {i : Nat} (h : i < ns.length) : ns.drop i = ns.getD i 0 :: ns.drop (i + 1) := by
  rw [List.drop_eq_getElem_cons h]
  simp [List.getD_eq_getElem?_getD, List.getElem?_eq_getElem h]
theorem drop_z {ns : List Int} {i : Nat} (h : ¬ i < ns.length) : ns.drop i = [] := List.drop_eq_nil_of_le (by omega)
theorem sk_tok {K : TK} {z f zt t tx : Int → Int} (h : SKp K z f zt t tx) {j : Int} (h0 : 0 ≤ j) (h1 : j < K.n) : f j = K.tf j ∧ t j = K.tt j ∧ 0 ≤ K.tf j ∧ K.tf j < K.tt j ∧ K.tt j ≤ 16000 ∧ j < f (-1) ∧ j < t (-1) := by
  have h2 := h.2.2.2 j h0 h1
  have h3 := h.1.2.2.2.2.2 j h0 (by rw [h.2.2.1]; exact h1)
  have h4 := h.1.2.1
  have h5 := h.1.2.2.1
  have h6 := h.1.2.2.2.1
  have h7 := h.2.2.1
  rw [h2.1, h2.2] at h3
  exact ⟨h2.1, h2.2, h3.1, h3.2.1, h3.2.2, by omega, by omega⟩
theorem mk_tok {K : TK} {z : Int} {f t tx : Int → Int} (h : MKp K z f t tx) {j : Int} (h0 : 0 ≤ j) (h1 : j < K.n) : f j = K.tf j ∧ t j = K.tt j ∧ 0 ≤ K.tf j ∧ K.tf j < K.tt j ∧ K.tt j ≤ 16000 ∧ K.n ≤ 16000 := by
  have h2 := h.2.2.2 j h0 h1
  have h3 := h.1.2.2 j h0 (by dsimp only; rw [h.2.2.1]; exact h1)
  have h4 := h.1.2.1
  have h5 := h.2.2.1
  dsimp only at h4
  rw [h2.1, h2.2] at h3
  exact ⟨h2.1, h2.2, h3.1, h3.2.1, h3.2.2, by omega⟩
theorem r71_0 {L c3 c4 c5 c6 : Nat} {D : Dt} {Q : Out → Wd → Prop} {a b : Int} (H : (0 ≤ a ∧ a ≤ 16000 ∧ 0 ≤ b ∧ b ≤ 16000) ∧ ((((wOfN (D 224) a b (sbt 19) 77 0 0 0 < 0 → (wp 71 20 [vr 79, vi a, vi b, vu, vi 8, vu] [] (D, SS L 1 2 c3 c4 c5 c6) Q)) ∧ (¬ (wOfN (D 224) a b (sbt 19) 77 0 0 0 < 0) → (Q (.inl [vi (wOfN (D 224) a b (sbt 19) 77 0 0 0)]) (D, SS L 1 2 c3 c4 c5 c6))))))) : wp 71 0 [vr 79, vi a, vi b, vu, vu, vu] [] (D, SS L 1 2 c3 c4 c5 c6) Q := vc_wp [4] 200 _ _ _ _ _ _ (show wp 71 4 [vr 79, vi a, vi b, vu, vu, vu] [vr 53] (D, SS L 1 2 c3 c4 c5 c6) Q from vc_wp [] 200 _ _ _ _ _ _ (show wp 51 0 [vr 53, vi a, vi b] [] (D, SS L 1 2 c3 c4 c5 c6) (aft wp 71 6 [vr 79, vi a, vi b, vu, vu, vu] [] Q) from r51_0 ⟨H.1, (show wp 71 9 [vr 79, vi a, vi b, vu, vu, vu] [vi (wOfN (D 224) a b (sbt 19) 77 0 0 0)] (D, SS L 1 2 c3 c4 c5 c6) Q from vc_wp [20] 200 _ _ _ _ _ _ (show ((wOfN (D 224) a b (sbt 19) 77 0 0 0 < 0 → (wp 71 20 [vr 79, vi a, vi b, vi (wOfN (D 224) a b (sbt 19) 77 0 0 0), vi 8, vu] [] (D, SS L 1 2 c3 c4 c5 c6) Q)) ∧ (¬ (wOfN (D 224) a b (sbt 19) 77 0 0 0 < 0) → (Q (.inl [vi (wOfN (D 224) a b (sbt 19) 77 0 0 0)]) (D, SS L 1 2 c3 c4 c5 c6)))) from ⟨fun h3 => wp_d (Lle.k rfl (Lle.k rfl (Lle.k rfl (Lle.v rfl (Lle.k rfl (Lle.k rfl (Lle.nil))))))) ((H.2.1 h3)), fun h4 => (H.2.2 h4)⟩))⟩))
theorem r71_20 {L c3 c4 c5 c6 : Nat} {D : Dt} {Q : Out → Wd → Prop} {a b c : Int} (H : ((c < D 197 0 → (((-2147483648) ≤ c - 8 ∧ c - 8 ≤ 2147483647) ∧ ((0 ≤ c - 8 ∧ c - 8 < D 60 (-1)) ∧ ((0 ≤ D 60 (c - 8) ∧ D 60 (c - 8) < D 55 (-1)) ∧ ((0 ≤ D 60 (c - 8) ∧ D 60 (c - 8) < D 57 (-1)) ∧ ((0 ≤ a ∧ a ≤ 16000 ∧ 0 ≤ b ∧ b ≤ 16000 ∧ 0 ≤ (D 55 (D 60 (c - 8))) ∧ (D 55 (D 60 (c - 8))) ≤ 16000 ∧ 0 ≤ (D 57 (D 60 (c - 8))) ∧ (D 57 (D 60 (c - 8))) ≤ 16000) ∧ ((((sameP (D 224) a b (D 55 (D 60 (c - 8))) (D 57 (D 60 (c - 8))) → (Q (.inl [vi c]) (D, SS L 1 2 c3 c4 c5 c6))) ∧ (¬ (sameP (D 224) a b (D 55 (D 60 (c - 8))) (D 57 (D 60 (c - 8)))) → (((-2147483648) ≤ c + 1 ∧ c + 1 ≤ 2147483647) ∧ (wp 71 20 [vr 79, vi a, vi b, vu, vi (c + 1), vu] [] (D, SS L 1 2 c3 c4 c5 c6) Q)))))))))))) ∧ (¬ (c < D 197 0) → (Q (.inl [vi (-1)]) (D, SS L 1 2 c3 c4 c5 c6))))) : wp 71 20 [vr 79, vi a, vi b, vu, vi c, vu] [] (D, SS L 1 2 c3 c4 c5 c6) Q := vc_wp [26] 200 _ _ _ _ _ _ (show wp 71 26 [vr 79, vi a, vi b, vu, vi c, vu] [vr 197, vi c] (D, SS L 1 2 c3 c4 c5 c6) Q from vc_wp [36] 200 _ _ _ _ _ _ (show ((c < D 197 0 → (wp 71 36 [vr 79, vi a, vi b, vu, vi c, vu] [vr 58] (D, SS L 1 2 c3 c4 c5 c6) Q)) ∧ (¬ (c < D 197 0) → (Q (.inl [vi (-1)]) (D, SS L 1 2 c3 c4 c5 c6)))) from ⟨fun h7 => vc_wp [39] 200 _ _ _ _ _ _ (show wp 71 39 [vr 79, vi a, vi b, vu, vi c, vu] [vr 59] (D, SS L 1 2 c3 c4 c5 c6) Q from vc_wp [42] 200 _ _ _ _ _ _ (show wp 71 42 [vr 79, vi a, vi b, vu, vi c, vu] [vr 60] (D, SS L 1 2 c3 c4 c5 c6) Q from vc_wp [47] 200 _ _ _ _ _ _ (show wp 71 47 [vr 79, vi a, vi b, vu, vi c, vu] [vi (w32 (c - 8)), vr 60] (D, SS L 1 2 c3 c4 c5 c6) Q from w32_i (fun z6 : Int => wp 71 47 [vr 79, vi a, vi b, vu, vi c, vu] [vi z6, vr 60] (D, SS L 1 2 c3 c4 c5 c6) Q) ((H.1 h7)).1 (vc_wp [54] 200 _ _ _ _ _ _ (show (0 ≤ c - 8 ∧ c - 8 < D 60 (-1)) ∧ (wp 71 54 [vr 79, vi a, vi b, vu, vi c, vi (D 60 (c - 8))] [vr 53] (D, SS L 1 2 c3 c4 c5 c6) Q) from ⟨((H.1 h7)).2.1, vc_wp [60] 200 _ _ _ _ _ _ (show wp 71 60 [vr 79, vi a, vi b, vu, vi c, vi (D 60 (c - 8))] [vr 53, vi b, vi a, vr 53] (D, SS L 1 2 c3 c4 c5 c6) Q from vc_wp [63] 200 _ _ _ _ _ _ (show wp 71 63 [vr 79, vi a, vi b, vu, vi c, vi (D 60 (c - 8))] [vr 54, vi b, vi a, vr 53] (D, SS L 1 2 c3 c4 c5 c6) Q from vc_wp [66] 200 _ _ _ _ _ _ (show wp 71 66 [vr 79, vi a, vi b, vu, vi c, vi (D 60 (c - 8))] [vr 55, vi b, vi a, vr 53] (D, SS L 1 2 c3 c4 c5 c6) Q from vc_wp [73] 200 _ _ _ _ _ _ (show (0 ≤ D 60 (c - 8) ∧ D 60 (c - 8) < D 55 (-1)) ∧ (wp 71 73 [vr 79, vi a, vi b, vu, vi c, vi (D 60 (c - 8))] [vr 53, vi (D 55 (D 60 (c - 8))), vi b, vi a, vr 53] (D, SS L 1 2 c3 c4 c5 c6) Q) from ⟨((H.1 h7)).2.2.1, vc_wp [76] 200 _ _ _ _ _ _ (show wp 71 76 [vr 79, vi a, vi b, vu, vi c, vi (D 60 (c - 8))] [vr 56, vi (D 55 (D 60 (c - 8))), vi b, vi a, vr 53] (D, SS L 1 2 c3 c4 c5 c6) Q from vc_wp [79] 200 _ _ _ _ _ _ (show wp 71 79 [vr 79, vi a, vi b, vu, vi c, vi (D 60 (c - 8))] [vr 57, vi (D 55 (D 60 (c - 8))), vi b, vi a, vr 53] (D, SS L 1 2 c3 c4 c5 c6) Q from vc_wp [] 200 _ _ _ _ _ _ (show (0 ≤ D 60 (c - 8) ∧ D 60 (c - 8) < D 57 (-1)) ∧ (wp 52 0 [vr 53, vi a, vi b, vi (D 55 (D 60 (c - 8))), vi (D 57 (D 60 (c - 8))), vu] [] (D, SS L 1 2 c3 c4 c5 c6) (aft wp 71 82 [vr 79, vi a, vi b, vu, vi c, vi (D 60 (c - 8))] [] Q)) from ⟨((H.1 h7)).2.2.2.1, s52 ⟨((H.1 h7)).2.2.2.2.1, (show wp 71 85 [vr 79, vi a, vi b, vu, vi c, vi (D 60 (c - 8))] [vi (ib (sameP (D 224) a b (D 55 (D 60 (c - 8))) (D 57 (D 60 (c - 8)))))] (D, SS L 1 2 c3 c4 c5 c6) Q from vc_wp [94] 200 _ _ _ _ _ _ (show ((ib (sameP (D 224) a b (D 55 (D 60 (c - 8))) (D 57 (D 60 (c - 8)))) = 0 → (wp 71 94 [vr 79, vi a, vi b, vu, vi (w32 (c + 1)), vi (D 60 (c - 8))] [] (D, SS L 1 2 c3 c4 c5 c6) Q)) ∧ (¬ (ib (sameP (D 224) a b (D 55 (D 60 (c - 8))) (D 57 (D 60 (c - 8)))) = 0) → (Q (.inl [vi c]) (D, SS L 1 2 c3 c4 c5 c6)))) from ⟨fun h4 => w32_i (fun z3 : Int => wp 71 94 [vr 79, vi a, vi b, vu, vi z3, vi (D 60 (c - 8))] [] (D, SS L 1 2 c3 c4 c5 c6) Q) ((((H.1 h7)).2.2.2.2.2.2 ((ib_z).mp h4))).1 (vc_wp [20] 200 _ _ _ _ _ _ (show wp 71 20 [vr 79, vi a, vi b, vu, vi (c + 1), vi (D 60 (c - 8))] [] (D, SS L 1 2 c3 c4 c5 c6) Q from wp_d (Lle.k rfl (Lle.k rfl (Lle.k rfl (Lle.k rfl (Lle.k rfl (Lle.v rfl (Lle.nil))))))) (((((H.1 h7)).2.2.2.2.2.2 ((ib_z).mp h4))).2))), fun h5 => (((H.1 h7)).2.2.2.2.2.1 (Classical.not_not.mp (mt (ib_z).mpr h5)))⟩))⟩⟩)))⟩))))⟩))))), fun h8 => (H.2 h8)⟩))
theorem s71 {L c3 c4 c5 c6 : Nat} {D : Dt} {Q : Out → Wd → Prop} {K : TK} {a b : Int} (H : ∃ ns, (SKp K (D 54) (D 55) (D 56) (D 57) (D 224) ∧ CS K ns (D 197 0) (D 60) ∧ 0 ≤ a ∧ a ≤ 16000 ∧ 0 ≤ b ∧ b ≤ 16000) ∧ Q (.inl [vi (clsAt K ns a b)]) (D, SS L 1 2 c3 c4 c5 c6)) : wp 71 0 [vr 79, vi a, vi b, vu, vu, vu] [] (D, SS L 1 2 c3 c4 c5 c6) Q := by
  obtain ⟨ns, ⟨hS, ⟨d1, d2, d3, d4⟩, hab⟩, H⟩ := H
  have hl : ∀ (M i : Nat), ns.length - i = M → i ≤ ns.length → Q (.inl [vi (nidx K (ns.drop i) a b (8 + i))]) (D, SS L 1 2 c3 c4 c5 c6) → wp 71 20 [vr 79, vi a, vi b, vu, vi (8 + i), vu] [] (D, SS L 1 2 c3 c4 c5 c6) Q := by
    intro M
    induction M with
    | zero =>
      intro i e hi HH
      rw [drop_z (by omega)] at HH
      exact r71_20 ⟨fun h => by omega, fun _ => HH⟩
    | succ M ih =>
      intro i e hi HH
      rw [drop_c (by omega)] at HH
      have h5 := d4 i (by omega)
      have e5 : (8 + (i : Int)) - 8 = i + 0 := by omega
      have h6 := sk_tok hS h5.2.1 h5.2.2
      refine r71_20 ?_
      rw [e5, h5.1, h6.1, h6.2.1, hS.2.1]
      refine ⟨fun h => ⟨by omega, by omega, by omega, by omega, by omega, fun g => q_i HH (cit_t g), fun g => ⟨by omega, ?_⟩⟩, fun h => by omega⟩
      have h7 := ih (i + 1) (by omega) (by omega) (by rw [show (8 : Int) + ((i + 1 : Nat) : Int) = 8 + i + 1 by omega]; exact q_i HH (cit_f g))
      rw [show (8 : Int) + ((i + 1 : Nat) : Int) = 8 + i + 1 by omega] at h7
      exact h7
  refine r71_0 ?_
  rw [hS.2.1, wOf19]
  refine ⟨hab, fun h => ?_, fun h => q_i H (cit_f h)⟩
  have := hl ns.length 0 (by omega) (by omega) (q_i H (by rw [List.drop_zero]; exact cit_t h))
  exact this
noncomputable def clsT (K : TK) (ns : List Int) (t : Int) : Int := clsAt K ns (K.tf t) (K.tt t)
theorem r70_0 {L c3 c4 c5 c6 : Nat} {K : TK} {D : Dt} {Q : Out → Wd → Prop} {t : Int} (H : (0 ≤ t ∧ t < D 55 (-1)) ∧ ((0 ≤ t ∧ t < D 57 (-1)) ∧ (∃ (ns1 : List Int), (SKp K (D 54) (D 55) (D 56) (D 57) (D 224) ∧ CS K ns1 (D 197 0) (D 60) ∧ 0 ≤ (D 55 t) ∧ (D 55 t) ≤ 16000 ∧ 0 ≤ (D 57 t) ∧ (D 57 t) ≤ 16000) ∧ ((Q (.inl [vi (clsAt K ns1 (D 55 t) (D 57 t))]) (D, SS L 1 2 c3 c4 c5 c6)))))) : wp 70 0 [vr 79, vi t] [] (D, SS L 1 2 c3 c4 c5 c6) Q := vc_wp [5] 200 _ _ _ _ _ _ (show wp 70 5 [vr 79, vi t] [vr 53, vr 79] (D, SS L 1 2 c3 c4 c5 c6) Q from vc_wp [8] 200 _ _ _ _ _ _ (show wp 70 8 [vr 79, vi t] [vr 54, vr 79] (D, SS L 1 2 c3 c4 c5 c6) Q from vc_wp [11] 200 _ _ _ _ _ _ (show wp 70 11 [vr 79, vi t] [vr 55, vr 79] (D, SS L 1 2 c3 c4 c5 c6) Q from vc_wp [17] 200 _ _ _ _ _ _ (show (0 ≤ t ∧ t < D 55 (-1)) ∧ (wp 70 17 [vr 79, vi t] [vr 53, vi (D 55 t), vr 79] (D, SS L 1 2 c3 c4 c5 c6) Q) from ⟨H.1, vc_wp [20] 200 _ _ _ _ _ _ (show wp 70 20 [vr 79, vi t] [vr 56, vi (D 55 t), vr 79] (D, SS L 1 2 c3 c4 c5 c6) Q from vc_wp [23] 200 _ _ _ _ _ _ (show wp 70 23 [vr 79, vi t] [vr 57, vi (D 55 t), vr 79] (D, SS L 1 2 c3 c4 c5 c6) Q from vc_wp [] 200 _ _ _ _ _ _ (show (0 ≤ t ∧ t < D 57 (-1)) ∧ (wp 71 0 [vr 79, vi (D 55 t), vi (D 57 t), vu, vu, vu] [] (D, SS L 1 2 c3 c4 c5 c6) (aft wp 70 25 [vr 79, vi t] [] Q)) from ⟨H.2.1, Exists.elim (H.2.2) fun ns1 x2 => s71 ⟨ns1, x2.1, (show wp 70 28 [vr 79, vi t] [vi (clsAt K ns1 (D 55 t) (D 57 t))] (D, SS L 1 2 c3 c4 c5 c6) Q from vc_wp [] 200 _ _ _ _ _ _ (show Q (.inl [vi (clsAt K ns1 (D 55 t) (D 57 t))]) (D, SS L 1 2 c3 c4 c5 c6) from x2.2))⟩⟩)))⟩))))
theorem s70 {L c3 c4 c5 c6 : Nat} {D : Dt} {Q : Out → Wd → Prop} {K : TK} {t : Int} (H : ∃ ns, (SKp K (D 54) (D 55) (D 56) (D 57) (D 224) ∧ CS K ns (D 197 0) (D 60) ∧ 0 ≤ t ∧ t < K.n) ∧ Q (.inl [vi (clsT K ns t)]) (D, SS L 1 2 c3 c4 c5 c6)) : wp 70 0 [vr 79, vi t] [] (D, SS L 1 2 c3 c4 c5 c6) Q := by
  obtain ⟨ns, ⟨hS, hc, h0, h1⟩, H⟩ := H
  have h6 := sk_tok hS h0 h1
  refine r70_0 (K := K) ?_
  rw [h6.1, h6.2.1]
  exact ⟨by omega, by omega, ns, ⟨hS, hc, by omega⟩, H⟩
theorem r254_0 {L c2 c3 c4 c5 c6 : Nat} {D : Dt} {Q : Out → Wd → Prop} (H : ((-2147483648) ≤ 8 + (D 273 0) ∧ 8 + (D 273 0) ≤ 2147483647) ∧ (Q (.inl [vi (8 + (D 273 0))]) (D, SS L 1 c2 c3 c4 c5 c6))) : wp 254 0 [vr 226, vr 273] [] (D, SS L 1 c2 c3 c4 c5 c6) Q := vc_wp [7] 200 _ _ _ _ _ _ (show wp 254 7 [vr 226, vr 273] [vi (w32 (8 + (D 273 0)))] (D, SS L 1 c2 c3 c4 c5 c6) Q from w32_i (fun z1 : Int => wp 254 7 [vr 226, vr 273] [vi z1] (D, SS L 1 c2 c3 c4 c5 c6) Q) (H).1 (vc_wp [] 200 _ _ _ _ _ _ (show Q (.inl [vi (8 + (D 273 0))]) (D, SS L 1 c2 c3 c4 c5 c6) from (H).2)))
theorem s254 {L c2 c3 c4 c5 c6 : Nat} {D : Dt} {Q : Out → Wd → Prop} (H : (0 ≤ D 273 0 ∧ D 273 0 ≤ 24) ∧ Q (.inl [vi (8 + D 273 0)]) (D, SS L 1 c2 c3 c4 c5 c6)) : wp 254 0 [vr 226, vr 273] [] (D, SS L 1 c2 c3 c4 c5 c6) Q := r254_0 ⟨by omega, H.2⟩
theorem r253_0 {L c2 c3 c4 c5 c6 : Nat} {D : Dt} {Q : Out → Wd → Prop} {a b : Int} (H : (0 ≤ a ∧ a ≤ 16000 ∧ 0 ≤ b ∧ b ≤ 16000) ∧ ((((widx (D 320) a b knW 0 < 0 → (wp 253 23 [vr 226, vr 273, vi a, vi b, vu, vi 8] [] (D, SS L 1 c2 c3 c4 c5 c6) Q)) ∧ (¬ (widx (D 320) a b knW 0 < 0) → (Q (.inl [vi (widx (D 320) a b knW 0)]) (D, SS L 1 c2 c3 c4 c5 c6))))))) : wp 253 0 [vr 226, vr 273, vi a, vi b, vu, vu] [] (D, SS L 1 c2 c3 c4 c5 c6) Q := vc_wp [] 200 _ _ _ _ _ _ (show wp 248 0 [vr 226, vi a, vi b, vr 36, vu, vu, vu, vu, vu] [] (D, SS L 1 c2 c3 c4 c5 c6) (aft wp 253 6 [vr 226, vr 273, vi a, vi b, vu, vu] [] Q) from s248s36 ⟨H.1, (show wp 253 9 [vr 226, vr 273, vi a, vi b, vu, vu] [vi (widx (D 320) a b knW 0)] (D, SS L 1 c2 c3 c4 c5 c6) Q from vc_wp [23] 200 _ _ _ _ _ _ (show ((widx (D 320) a b knW 0 < 0 → (wp 253 23 [vr 226, vr 273, vi a, vi b, vi (widx (D 320) a b knW 0), vi 8] [] (D, SS L 1 c2 c3 c4 c5 c6) Q)) ∧ (¬ (widx (D 320) a b knW 0 < 0) → (Q (.inl [vi (widx (D 320) a b knW 0)]) (D, SS L 1 c2 c3 c4 c5 c6)))) from ⟨fun h3 => wp_d (Lle.k rfl (Lle.k rfl (Lle.k rfl (Lle.k rfl (Lle.v rfl (Lle.k rfl (Lle.nil))))))) ((H.2.1 h3)), fun h4 => (H.2.2 h4)⟩))⟩)
theorem r253_23 {L c2 c3 c4 c5 c6 : Nat} {D : Dt} {Q : Out → Wd → Prop} {a b c : Int} (H : (0 ≤ D 273 0 ∧ D 273 0 ≤ 24) ∧ ((((c < 8 + D 273 0 → ((0 ≤ c ∧ c < 32) ∧ ((0 ≤ D 323 c ∧ D 323 c < 16002) ∧ ((0 ≤ c ∧ c < 32) ∧ ((0 ≤ D 323 c ∧ D 323 c < 16002) ∧ ((0 ≤ a ∧ a ≤ 16000 ∧ 0 ≤ b ∧ b ≤ 16000 ∧ 0 ≤ (D 321 (D 323 c)) ∧ (D 321 (D 323 c)) ≤ 16000 ∧ 0 ≤ (D 322 (D 323 c)) ∧ (D 322 (D 323 c)) ≤ 16000) ∧ ((((sameP (D 320) a b (D 321 (D 323 c)) (D 322 (D 323 c)) → (Q (.inl [vi c]) (D, SS L 1 c2 c3 c4 c5 c6))) ∧ (¬ (sameP (D 320) a b (D 321 (D 323 c)) (D 322 (D 323 c))) → (((-2147483648) ≤ c + 1 ∧ c + 1 ≤ 2147483647) ∧ (wp 253 23 [vr 226, vr 273, vi a, vi b, vu, vi (c + 1)] [] (D, SS L 1 c2 c3 c4 c5 c6) Q)))))))))))) ∧ (¬ (c < 8 + D 273 0) → (Q (.inl [vi (-1)]) (D, SS L 1 c2 c3 c4 c5 c6))))))) : wp 253 23 [vr 226, vr 273, vi a, vi b, vu, vi c] [] (D, SS L 1 c2 c3 c4 c5 c6) Q := vc_wp [] 200 _ _ _ _ _ _ (show wp 254 0 [vr 226, vr 273] [] (D, SS L 1 c2 c3 c4 c5 c6) (aft wp 253 27 [vr 226, vr 273, vi a, vi b, vu, vi c] [vi c] Q) from s254 ⟨H.1, (show wp 253 30 [vr 226, vr 273, vi a, vi b, vu, vi c] [vi (8 + D 273 0), vi c] (D, SS L 1 c2 c3 c4 c5 c6) Q from vc_wp [40] 200 _ _ _ _ _ _ (show ((c < 8 + D 273 0 → (wp 253 40 [vr 226, vr 273, vi a, vi b, vu, vi c] [vr 321, vi b, vi a, vr 226] (D, SS L 1 c2 c3 c4 c5 c6) Q)) ∧ (¬ (c < 8 + D 273 0) → (Q (.inl [vi (-1)]) (D, SS L 1 c2 c3 c4 c5 c6)))) from ⟨fun h8 => vc_wp [44] 200 _ _ _ _ _ _ (show wp 253 44 [vr 226, vr 273, vi a, vi b, vu, vi c] [vr 323, vr 321, vi b, vi a, vr 226] (D, SS L 1 c2 c3 c4 c5 c6) Q from vc_wp [52] 200 _ _ _ _ _ _ (show (0 ≤ c ∧ c < 32) ∧ ((0 ≤ D 323 c ∧ D 323 c < 16002) ∧ (wp 253 52 [vr 226, vr 273, vi a, vi b, vu, vi c] [vr 322, vi (D 321 (D 323 c)), vi b, vi a, vr 226] (D, SS L 1 c2 c3 c4 c5 c6) Q)) from ⟨(H.2.1 h8).1, ⟨(H.2.1 h8).2.1, vc_wp [56] 200 _ _ _ _ _ _ (show wp 253 56 [vr 226, vr 273, vi a, vi b, vu, vi c] [vr 323, vr 322, vi (D 321 (D 323 c)), vi b, vi a, vr 226] (D, SS L 1 c2 c3 c4 c5 c6) Q from vc_wp [] 200 _ _ _ _ _ _ (show (0 ≤ c ∧ c < 32) ∧ ((0 ≤ D 323 c ∧ D 323 c < 16002) ∧ (wp 255 0 [vr 226, vi a, vi b, vi (D 321 (D 323 c)), vi (D 322 (D 323 c)), vu] [] (D, SS L 1 c2 c3 c4 c5 c6) (aft wp 253 60 [vr 226, vr 273, vi a, vi b, vu, vi c] [] Q))) from ⟨(H.2.1 h8).2.2.1, ⟨(H.2.1 h8).2.2.2.1, s255 ⟨(H.2.1 h8).2.2.2.2.1, (show wp 253 63 [vr 226, vr 273, vi a, vi b, vu, vi c] [vi (ib (sameP (D 320) a b (D 321 (D 323 c)) (D 322 (D 323 c))))] (D, SS L 1 c2 c3 c4 c5 c6) Q from vc_wp [72] 200 _ _ _ _ _ _ (show ((ib (sameP (D 320) a b (D 321 (D 323 c)) (D 322 (D 323 c))) = 0 → (wp 253 72 [vr 226, vr 273, vi a, vi b, vu, vi (w32 (c + 1))] [] (D, SS L 1 c2 c3 c4 c5 c6) Q)) ∧ (¬ (ib (sameP (D 320) a b (D 321 (D 323 c)) (D 322 (D 323 c))) = 0) → (Q (.inl [vi c]) (D, SS L 1 c2 c3 c4 c5 c6)))) from ⟨fun h6 => w32_i (fun z5 : Int => wp 253 72 [vr 226, vr 273, vi a, vi b, vu, vi z5] [] (D, SS L 1 c2 c3 c4 c5 c6) Q) (((H.2.1 h8).2.2.2.2.2.2 ((ib_z).mp h6))).1 (vc_wp [23] 200 _ _ _ _ _ _ (show wp 253 23 [vr 226, vr 273, vi a, vi b, vu, vi (c + 1)] [] (D, SS L 1 c2 c3 c4 c5 c6) Q from (((H.2.1 h8).2.2.2.2.2.2 ((ib_z).mp h6))).2)), fun h7 => ((H.2.1 h8).2.2.2.2.2.1 (Classical.not_not.mp (mt (ib_z).mpr h7)))⟩))⟩⟩⟩))⟩⟩)), fun h9 => (H.2.2 h9)⟩))⟩)
theorem s253 {L c2 c3 c4 c5 c6 : Nat} {D : Dt} {Q : Out → Wd → Prop} {K : TK} {a b : Int} (H : ∃ ns, (MKp K (D 226 10) (D 321) (D 322) (D 320) ∧ CM K ns (D 273 0) (D 323) ∧ 0 ≤ a ∧ a ≤ 16000 ∧ 0 ≤ b ∧ b ≤ 16000) ∧ Q (.inl [vi (clsAt K ns a b)]) (D, SS L 1 c2 c3 c4 c5 c6)) : wp 253 0 [vr 226, vr 273, vi a, vi b, vu, vu] [] (D, SS L 1 c2 c3 c4 c5 c6) Q := by
  obtain ⟨ns, ⟨hM, ⟨d1, d2, d4⟩, hab⟩, H⟩ := H
  have hl : ∀ (M i : Nat), ns.length - i = M → i ≤ ns.length → Q (.inl [vi (nidx K (ns.drop i) a b (8 + i))]) (D, SS L 1 c2 c3 c4 c5 c6) → wp 253 23 [vr 226, vr 273, vi a, vi b, vu, vi (8 + i)] [] (D, SS L 1 c2 c3 c4 c5 c6) Q := by
    intro M
    induction M with
    | zero =>
      intro i e hi HH
      rw [drop_z (by omega)] at HH
      exact r253_23 ⟨by omega, fun h => by omega, fun _ => HH⟩
    | succ M ih =>
      intro i e hi HH
      rw [drop_c (by omega)] at HH
      have h5 := d4 i (by omega)
      have e5 : (8 + (i : Int)) = i + 8 := by omega
      have h6 := mk_tok hM h5.2.1 h5.2.2
      refine r253_23 ?_
      rw [e5, h5.1, h6.1, h6.2.1, hM.2.1]
      refine ⟨by omega, fun h => ⟨by omega, by omega, by omega, by omega, by omega, fun g => ?_, fun g => ⟨by omega, ?_⟩⟩, fun h => by omega⟩
      · rw [← e5]; exact q_i HH (cit_t g)
      · have h7 := ih (i + 1) (by omega) (by omega) (by rw [show (8 : Int) + ((i + 1 : Nat) : Int) = 8 + i + 1 by omega]; exact q_i HH (cit_f g))
        rw [show (8 : Int) + ((i + 1 : Nat) : Int) = i + 8 + 1 by omega] at h7
        exact h7
  refine r253_0 ?_
  rw [hM.2.1]
  refine ⟨hab, fun h => ?_, fun h => q_i H (cit_f h)⟩
  have := hl ns.length 0 (by omega) (by omega) (q_i H (by rw [List.drop_zero]; exact cit_t h))
  exact this
theorem r252_0 {L c2 c3 c4 c5 c6 : Nat} {K : TK} {D : Dt} {Q : Out → Wd → Prop} {t : Int} (H : (0 ≤ t ∧ t < 16002) ∧ ((0 ≤ t ∧ t < 16002) ∧ (∃ (ns1 : List Int), (MKp K (D 226 10) (D 321) (D 322) (D 320) ∧ CM K ns1 (D 273 0) (D 323) ∧ 0 ≤ (D 321 t) ∧ (D 321 t) ≤ 16000 ∧ 0 ≤ (D 322 t) ∧ (D 322 t) ≤ 16000) ∧ ((Q (.inl [vi (clsAt K ns1 (D 321 t) (D 322 t))]) (D, SS L 1 c2 c3 c4 c5 c6)))))) : wp 252 0 [vr 226, vr 273, vi t] [] (D, SS L 1 c2 c3 c4 c5 c6) Q := vc_wp [6] 200 _ _ _ _ _ _ (show wp 252 6 [vr 226, vr 273, vi t] [vr 321, vr 273, vr 226] (D, SS L 1 c2 c3 c4 c5 c6) Q from vc_wp [12] 200 _ _ _ _ _ _ (show (0 ≤ t ∧ t < 16002) ∧ (wp 252 12 [vr 226, vr 273, vi t] [vr 322, vi (D 321 t), vr 273, vr 226] (D, SS L 1 c2 c3 c4 c5 c6) Q) from ⟨H.1, vc_wp [] 200 _ _ _ _ _ _ (show (0 ≤ t ∧ t < 16002) ∧ (wp 253 0 [vr 226, vr 273, vi (D 321 t), vi (D 322 t), vu, vu] [] (D, SS L 1 c2 c3 c4 c5 c6) (aft wp 252 14 [vr 226, vr 273, vi t] [] Q)) from ⟨H.2.1, Exists.elim (H.2.2) fun ns1 x2 => s253 ⟨ns1, x2.1, (show wp 252 17 [vr 226, vr 273, vi t] [vi (clsAt K ns1 (D 321 t) (D 322 t))] (D, SS L 1 c2 c3 c4 c5 c6) Q from vc_wp [] 200 _ _ _ _ _ _ (show Q (.inl [vi (clsAt K ns1 (D 321 t) (D 322 t))]) (D, SS L 1 c2 c3 c4 c5 c6) from x2.2))⟩⟩)⟩))
theorem s252 {L c2 c3 c4 c5 c6 : Nat} {D : Dt} {Q : Out → Wd → Prop} {K : TK} {t : Int} (H : ∃ ns, (MKp K (D 226 10) (D 321) (D 322) (D 320) ∧ CM K ns (D 273 0) (D 323) ∧ 0 ≤ t ∧ t < K.n) ∧ Q (.inl [vi (clsT K ns t)]) (D, SS L 1 c2 c3 c4 c5 c6)) : wp 252 0 [vr 226, vr 273, vi t] [] (D, SS L 1 c2 c3 c4 c5 c6) Q := by
  obtain ⟨ns, ⟨hM, hc, h0, h1⟩, H⟩ := H
  have h6 := mk_tok hM h0 h1
  refine r252_0 (K := K) ?_
  rw [h6.1, h6.2.1]
  exact ⟨by omega, by omega, ns, ⟨hM, hc, by omega⟩, H⟩
