/-! names: SafeCode's load, the whole -/
set_option maxRecDepth 100000
/-- classes of fields go up; classes of fields and bodies are below c -/
def SB (X : XB) (c : Int) : Prop := (∀ i : Int, 0 ≤ i → i < (X 0).length → lf (X 0) i < c) ∧ (∀ i j : Int, 0 ≤ i → i < j → j < (X 0).length → lf (X 0) i ≤ lf (X 0) j) ∧ ∀ b : Int, 0 ≤ b → b < (X 4).length → lf (X 4) b < c
theorem SB.c {X : XB} {c d : Int} (h : SB X c) (hc : c ≤ d) : SB X d := ⟨fun i x y => by have := h.1 i x y; omega, h.2.1, fun b x y => by have := h.2.2 b x y; omega⟩
theorem sb_st {K : TK} {ns ab : List Int} {X : XB} {c t m : Int} (h : SB X (c + 1)) (he : (mst K ns ab X c t m).1 = true) : SB (mst K ns ab X c t m).2.2 (c + 1) := by
  unfold mst at he ⊢
  rcases Classical.em (K.w t 9) with g | g
  · rw [cit_t g] at he ⊢
    rcases Classical.em ((ffa K ns ab (X 0) (X 1) c t).1 = true) with g1 | g1
    · rw [cit_t g1] at he ⊢
      show SB (fdA K ns ab X c t) (c + 1)
      refine ⟨fun i i0 i1 => ?_, fun i j i0 ij j1 => ?_, h.2.2⟩
      · have i1 : i < (X 0 ++ [c]).length := i1
        show lf (X 0 ++ [c]) i < _
        rw [len_app] at i1
        by_cases e : i < (X 0).length
        · rw [lf_a i0 e]; exact h.1 i i0 e
        · rw [show i = (X 0).length by omega, lf_e]; omega
      · have j1 : j < (X 0 ++ [c]).length := j1
        show lf (X 0 ++ [c]) i ≤ lf (X 0 ++ [c]) j
        rw [len_app] at j1
        by_cases e : j < (X 0).length
        · rw [lf_a i0 (by omega), lf_a (by omega) e]; exact h.2.1 i j i0 ij e
        · have e2 : j = (X 0).length := by omega
          rw [lf_a i0 (by omega), e2, lf_e]
          have := h.1 i i0 (by omega)
          omega
    · rw [cit_f g1] at he; cases he
  · rw [cit_f g] at he ⊢
    rcases Classical.em ((hfa K ns ab X c t).1 = true) with g1 | g1
    · rw [cit_t g1] at he ⊢
      show SB (bdA K ns X c t m) (c + 1)
      have e0 : bdA K ns X c t m 0 = X 0 := bdA_x 0 (by decide)
      refine ⟨by rw [e0]; exact h.1, by rw [e0]; exact h.2.1, fun b b0 b1 => ?_⟩
      have b1 : b < (X 4 ++ [c]).length := b1
      show lf (X 4 ++ [c]) b < _
      rw [len_app] at b1
      by_cases e : b < (X 4).length
      · rw [lf_a b0 e]; exact h.2.2 b b0 e
      · rw [show b = (X 4).length by omega, lf_e]; omega
    · rw [cit_f g1] at he; cases he
theorem sb_1 {K : TK} {ns ab : List Int} {c : Int} : ∀ (l : List Int) (m : Int) (X : XB), SB X (c + 1) → (mF1 K ns ab c l m X).1 = true → SB (mF1 K ns ab c l m X).2.2 (c + 1)
  | [], _, _, h, _ => h
  | t :: l, m, X, h, e => by
    unfold mF1 at e ⊢
    rcases Classical.em ((mst K ns ab X c t m).1 = true) with g | g
    · rw [cit_t g] at e ⊢
      exact sb_1 l _ _ (sb_st h g) e
    · rw [cit_f g] at e; exact absurd e g
theorem sb_2 {K : TK} {ns ab : List Int} : ∀ (l : List Int) (c m : Int) (X : XB), SB X c → (mF2 K ns ab l c m X).1 = true → SB (mF2 K ns ab l c m X).2.2 (c + l.length)
  | [], c, _, X, h, _ => by
    show SB X (c + ((0 : Nat) : Int))
    rw [show c + ((0 : Nat) : Int) = c by omega]; exact h
  | a :: l, c, m, X, h, e => by
    unfold mF2 at e ⊢
    rcases Classical.em ((mF1 K ns ab c (lmems K (a + 5)) m X).1 = true) with g | g
    · rw [cit_t g] at e ⊢
      have := sb_2 l (c + 1) _ _ (sb_1 _ _ _ (h.c (by omega)) g) e
      rw [show c + ((a :: l).length : Int) = c + 1 + l.length by rw [List.length_cons]; omega]
      exact this
    · rw [cit_f g] at e; exact absurd e g
theorem sb_0 {c : Int} : SB X0 c := ⟨fun i i0 i1 => by have i1 : i < ((0 : Nat) : Int) := i1; omega, fun i j i0 ij j1 => by have j1 : j < ((0 : Nat) : Int) := j1; omega, fun b b0 b1 => by have b1 : b < ((0 : Nat) : Int) := b1; omega⟩
/-- what main is -/
def mnP (K : TK) (ns : List Int) (X : XB) (b : Int) : Prop := K.w (lf ns (lf (X 4) b - 8)) 3 ∧ K.w (lf (X 5) b) 4 ∧ lf (X 6) b = 0 ∧ lf (X 7) b = 0 ∧ lf (X 8) b < 0
noncomputable def mnL (K : TK) (ns : List Int) (X : XB) : Nat → Int
  | 0 => -1
  | n + 1 => cit (mnP K ns X n) (n : Int) (mnL K ns X n)
theorem mnL_b {K : TK} {ns : List Int} {X : XB} : ∀ n : Nat, -1 ≤ mnL K ns X n ∧ mnL K ns X n < n
  | 0 => ⟨Int.le_refl _, show (-1 : Int) < ((0 : Nat) : Int) by decide⟩
  | n + 1 => by
    have := mnL_b (K := K) (ns := ns) (X := X) n
    show -1 ≤ cit _ _ _ ∧ cit _ _ _ < _
    rcases Classical.em (mnP K ns X n) with h | h
    · rw [cit_t h]; omega
    · rw [cit_f h]; omega
theorem r92_0 {L c3 c4 c5 c6 : Nat} {K : TK} {D : Dt} {Q : Out → Wd → Prop} (H : wp 92 2 [vr 79, vi 0, vu] [] (D, SS L 1 2 c3 c4 c5 c6) Q) : wp 92 0 [vr 79, vu, vu] [] (D, SS L 1 2 c3 c4 c5 c6) Q := vc_wp [2] 200 _ _ _ _ _ _ (show wp 92 2 [vr 79, vi 0, vu] [] (D, SS L 1 2 c3 c4 c5 c6) Q from H)
theorem r92_2 {L c3 c4 c5 c6 : Nat} {K : TK} {D : Dt} {Q : Out → Wd → Prop} {b : Int} (H : ((b < D 197 7 → ((0 ≤ b ∧ b < 48) ∧ (((-2147483648) ≤ (D 203 b) - 8 ∧ (D 203 b) - 8 ≤ 2147483647) ∧ ((0 ≤ (D 203 b) - 8 ∧ (D 203 b) - 8 < D 60 (-1)) ∧ ((SKp K (D 54) (D 55) (D 56) (D 57) (D 224) ∧ 0 ≤ (D 60 ((D 203 b) - 8))) ∧ ((((K.w (D 60 ((D 203 b) - 8)) 3 → ((0 ≤ b ∧ b < 48) ∧ ((SKp K (D 54) (D 55) (D 56) (D 57) (D 224) ∧ 0 ≤ (D 81 b)) ∧ ((((K.w (D 81 b) 4 → ((0 ≤ b ∧ b < 48) ∧ ((D 205 b = 0 → ((0 ≤ b ∧ b < 48) ∧ ((D 206 b = 0 → ((0 ≤ b ∧ b < 48) ∧ ((D 208 b < 0 → (wp 92 114 [vr 79, vi b, vu] [] (up D 197 31 b, SS L 1 2 c3 c4 c5 c6) Q)) ∧ (¬ (D 208 b < 0) → (wp 92 114 [vr 79, vi b, vu] [] (D, SS L 1 2 c3 c4 c5 c6) Q))))) ∧ (¬ (D 206 b = 0) → (wp 92 114 [vr 79, vi b, vu] [] (D, SS L 1 2 c3 c4 c5 c6) Q))))) ∧ (¬ (D 205 b = 0) → (wp 92 114 [vr 79, vi b, vu] [] (D, SS L 1 2 c3 c4 c5 c6) Q))))) ∧ (¬ (K.w (D 81 b) 4) → (wp 92 114 [vr 79, vi b, vu] [] (D, SS L 1 2 c3 c4 c5 c6) Q)))))))) ∧ (¬ (K.w (D 60 ((D 203 b) - 8)) 3) → (wp 92 114 [vr 79, vi b, vu] [] (D, SS L 1 2 c3 c4 c5 c6) Q)))))))))) ∧ (¬ (b < D 197 7) → ((D 197 31 < 0 → ((SKp K (D 54) (D 55) (D 56) (D 57) (D 224)) ∧ ((Q (.inr 52) (up (up D 51 1 3) 51 2 K.n, SS L 1 2 c3 c4 c5 c6))))) ∧ (¬ (D 197 31 < 0) → ((SKp K (D 54) (D 55) (D 56) (D 57) (D 224)) ∧ ((wp 92 148 [vr 79, vi 0, vu] [] (D, SS L 1 2 c3 c4 c5 c6) Q)))))))) : wp 92 2 [vr 79, vi b, vu] [] (D, SS L 1 2 c3 c4 c5 c6) Q := vc_wp [7] 200 _ _ _ _ _ _ (show wp 92 7 [vr 79, vi b, vu] [vr 197, vi b] (D, SS L 1 2 c3 c4 c5 c6) Q from vc_wp [17, 125] 200 _ _ _ _ _ _ (show ((b < D 197 7 → (wp 92 17 [vr 79, vi b, vu] [vr 58] (D, SS L 1 2 c3 c4 c5 c6) Q)) ∧ (¬ (b < D 197 7) → (wp 92 125 [vr 79, vi b, vu] [vr 197, vr 79] (D, SS L 1 2 c3 c4 c5 c6) Q))) from ⟨fun h26 => vc_wp [20] 200 _ _ _ _ _ _ (show wp 92 20 [vr 79, vi b, vu] [vr 59] (D, SS L 1 2 c3 c4 c5 c6) Q from vc_wp [23] 200 _ _ _ _ _ _ (show wp 92 23 [vr 79, vi b, vu] [vr 60] (D, SS L 1 2 c3 c4 c5 c6) Q from vc_wp [27] 200 _ _ _ _ _ _ (show wp 92 27 [vr 79, vi b, vu] [vr 197, vr 60] (D, SS L 1 2 c3 c4 c5 c6) Q from vc_wp [30] 200 _ _ _ _ _ _ (show wp 92 30 [vr 79, vi b, vu] [vr 203, vr 60] (D, SS L 1 2 c3 c4 c5 c6) Q from vc_wp [35] 200 _ _ _ _ _ _ (show (0 ≤ b ∧ b < 48) ∧ (wp 92 35 [vr 79, vi b, vu] [vi (w32 ((D 203 b) - 8)), vr 60] (D, SS L 1 2 c3 c4 c5 c6) Q) from ⟨(H.1 h26).1, w32_i (fun z15 : Int => wp 92 35 [vr 79, vi b, vu] [vi z15, vr 60] (D, SS L 1 2 c3 c4 c5 c6) Q) ((H.1 h26).2).1 (vc_wp [41] 200 _ _ _ _ _ _ (show (0 ≤ (D 203 b) - 8 ∧ (D 203 b) - 8 < D 60 (-1)) ∧ (wp 92 41 [vr 79, vi b, vi (D 60 ((D 203 b) - 8))] [vr 53] (D, SS L 1 2 c3 c4 c5 c6) Q) from ⟨((H.1 h26).2).2.1, vc_wp [] 200 _ _ _ _ _ _ (show wp 37 0 [vr 53, vi (D 60 ((D 203 b) - 8)), vr 3] [] (D, SS L 1 2 c3 c4 c5 c6) (aft wp 92 45 [vr 79, vi b, vi (D 60 ((D 203 b) - 8))] [] Q) from k37s3 ⟨((H.1 h26).2).2.2.1, (show wp 92 48 [vr 79, vi b, vi (D 60 ((D 203 b) - 8))] [vi (ib (K.w (D 60 ((D 203 b) - 8)) 3))] (D, SS L 1 2 c3 c4 c5 c6) Q from vc_wp [55, 114] 200 _ _ _ _ _ _ (show ((ib (K.w (D 60 ((D 203 b) - 8)) 3) = 0 → (wp 92 114 [vr 79, vi b, vi (D 60 ((D 203 b) - 8))] [] (D, SS L 1 2 c3 c4 c5 c6) Q)) ∧ (¬ (ib (K.w (D 60 ((D 203 b) - 8)) 3) = 0) → (wp 92 55 [vr 79, vi b, vi (D 60 ((D 203 b) - 8))] [vr 53] (D, SS L 1 2 c3 c4 c5 c6) Q))) from ⟨fun h13 => wp_d (Lle.k rfl (Lle.k rfl (Lle.v rfl (Lle.nil)))) ((((H.1 h26).2).2.2.2.2 ((ib_z).mp h13))), fun h14 => vc_wp [59] 200 _ _ _ _ _ _ (show wp 92 59 [vr 79, vi b, vi (D 60 ((D 203 b) - 8))] [vr 81, vr 53] (D, SS L 1 2 c3 c4 c5 c6) Q from vc_wp [] 200 _ _ _ _ _ _ (show (0 ≤ b ∧ b < 48) ∧ (wp 37 0 [vr 53, vi (D 81 b), vr 4] [] (D, SS L 1 2 c3 c4 c5 c6) (aft wp 92 64 [vr 79, vi b, vi (D 60 ((D 203 b) - 8))] [] Q)) from ⟨(((H.1 h26).2).2.2.2.1 (Classical.not_not.mp (mt (ib_z).mpr h14))).1, k37s4 ⟨(((H.1 h26).2).2.2.2.1 (Classical.not_not.mp (mt (ib_z).mpr h14))).2.1, (show wp 92 67 [vr 79, vi b, vi (D 60 ((D 203 b) - 8))] [vi (ib (K.w (D 81 b) 4))] (D, SS L 1 2 c3 c4 c5 c6) Q from vc_wp [74, 114] 200 _ _ _ _ _ _ (show ((ib (K.w (D 81 b) 4) = 0 → (wp 92 114 [vr 79, vi b, vi (D 60 ((D 203 b) - 8))] [] (D, SS L 1 2 c3 c4 c5 c6) Q)) ∧ (¬ (ib (K.w (D 81 b) 4) = 0) → (wp 92 74 [vr 79, vi b, vi (D 60 ((D 203 b) - 8))] [vr 197] (D, SS L 1 2 c3 c4 c5 c6) Q))) from ⟨fun h11 => wp_d (Lle.k rfl (Lle.k rfl (Lle.v rfl (Lle.nil)))) (((((H.1 h26).2).2.2.2.1 (Classical.not_not.mp (mt (ib_z).mpr h14))).2.2.2 ((ib_z).mp h11))), fun h12 => vc_wp [77] 200 _ _ _ _ _ _ (show wp 92 77 [vr 79, vi b, vi (D 60 ((D 203 b) - 8))] [vr 205] (D, SS L 1 2 c3 c4 c5 c6) Q from vc_wp [86, 114] 200 _ _ _ _ _ _ (show (0 ≤ b ∧ b < 48) ∧ ((D 205 b = 0 → (wp 92 86 [vr 79, vi b, vi (D 60 ((D 203 b) - 8))] [vr 197] (D, SS L 1 2 c3 c4 c5 c6) Q)) ∧ (¬ (D 205 b = 0) → (wp 92 114 [vr 79, vi b, vi (D 60 ((D 203 b) - 8))] [] (D, SS L 1 2 c3 c4 c5 c6) Q))) from ⟨((((H.1 h26).2).2.2.2.1 (Classical.not_not.mp (mt (ib_z).mpr h14))).2.2.1 (Classical.not_not.mp (mt (ib_z).mpr h12))).1, ⟨fun h9 => vc_wp [89] 200 _ _ _ _ _ _ (show wp 92 89 [vr 79, vi b, vi (D 60 ((D 203 b) - 8))] [vr 206] (D, SS L 1 2 c3 c4 c5 c6) Q from vc_wp [98, 114] 200 _ _ _ _ _ _ (show (0 ≤ b ∧ b < 48) ∧ ((D 206 b = 0 → (wp 92 98 [vr 79, vi b, vi (D 60 ((D 203 b) - 8))] [vr 197] (D, SS L 1 2 c3 c4 c5 c6) Q)) ∧ (¬ (D 206 b = 0) → (wp 92 114 [vr 79, vi b, vi (D 60 ((D 203 b) - 8))] [] (D, SS L 1 2 c3 c4 c5 c6) Q))) from ⟨(((((H.1 h26).2).2.2.2.1 (Classical.not_not.mp (mt (ib_z).mpr h14))).2.2.1 (Classical.not_not.mp (mt (ib_z).mpr h12))).2.1 h9).1, ⟨fun h7 => vc_wp [101] 200 _ _ _ _ _ _ (show wp 92 101 [vr 79, vi b, vi (D 60 ((D 203 b) - 8))] [vr 208] (D, SS L 1 2 c3 c4 c5 c6) Q from vc_wp [110, 114] 200 _ _ _ _ _ _ (show (0 ≤ b ∧ b < 48) ∧ ((D 208 b < 0 → (wp 92 110 [vr 79, vi b, vi (D 60 ((D 203 b) - 8))] [vr 197] (D, SS L 1 2 c3 c4 c5 c6) Q)) ∧ (¬ (D 208 b < 0) → (wp 92 114 [vr 79, vi b, vi (D 60 ((D 203 b) - 8))] [] (D, SS L 1 2 c3 c4 c5 c6) Q))) from ⟨((((((H.1 h26).2).2.2.2.1 (Classical.not_not.mp (mt (ib_z).mpr h14))).2.2.1 (Classical.not_not.mp (mt (ib_z).mpr h12))).2.1 h9).2.1 h7).1, ⟨fun h5 => vc_wp [114] 200 _ _ _ _ _ _ (show wp 92 114 [vr 79, vi b, vi (D 60 ((D 203 b) - 8))] [] (up D 197 31 b, SS L 1 2 c3 c4 c5 c6) Q from wp_d (Lle.k rfl (Lle.k rfl (Lle.v rfl (Lle.nil)))) ((((((((H.1 h26).2).2.2.2.1 (Classical.not_not.mp (mt (ib_z).mpr h14))).2.2.1 (Classical.not_not.mp (mt (ib_z).mpr h12))).2.1 h9).2.1 h7).2.1 h5))), fun h6 => wp_d (Lle.k rfl (Lle.k rfl (Lle.v rfl (Lle.nil)))) ((((((((H.1 h26).2).2.2.2.1 (Classical.not_not.mp (mt (ib_z).mpr h14))).2.2.1 (Classical.not_not.mp (mt (ib_z).mpr h12))).2.1 h9).2.1 h7).2.2 h6))⟩⟩)), fun h8 => wp_d (Lle.k rfl (Lle.k rfl (Lle.v rfl (Lle.nil)))) (((((((H.1 h26).2).2.2.2.1 (Classical.not_not.mp (mt (ib_z).mpr h14))).2.2.1 (Classical.not_not.mp (mt (ib_z).mpr h12))).2.1 h9).2.2 h8))⟩⟩)), fun h10 => wp_d (Lle.k rfl (Lle.k rfl (Lle.v rfl (Lle.nil)))) ((((((H.1 h26).2).2.2.2.1 (Classical.not_not.mp (mt (ib_z).mpr h14))).2.2.1 (Classical.not_not.mp (mt (ib_z).mpr h12))).2.2 h10))⟩⟩))⟩))⟩⟩))⟩))⟩)⟩))⟩))))), fun h27 => vc_wp [140] 200 _ _ _ _ _ _ (show ((D 197 31 < 0 → (wp 92 140 [vr 79, vi b, vu] [vr 53, vi 0, vr 79] (D, SS L 1 2 c3 c4 c5 c6) Q)) ∧ (¬ (D 197 31 < 0) → (wp 92 140 [vr 79, vi b, vu] [vr 53, vi 1, vr 79] (D, SS L 1 2 c3 c4 c5 c6) Q))) from ⟨fun h24 => vc_wp [] 200 _ _ _ _ _ _ (show wp 32 0 [vr 53] [] (D, SS L 1 2 c3 c4 c5 c6) (aft wp 92 140 [vr 79, vi b, vu] [vi 0, vr 79] Q) from k32 ⟨((H.2 h27).1 h24).1, (show wp 92 143 [vr 79, vi b, vu] [vi K.n, vi 0, vr 79] (D, SS L 1 2 c3 c4 c5 c6) Q from vc_wp [] 200 _ _ _ _ _ _ (show wp 72 0 [vr 79, vi 0, vi K.n] [] (D, SS L 1 2 c3 c4 c5 c6) (aft wp 92 143 [vr 79, vi b, vu] [] Q) from n72 (show Q (.inr 52) (up (up D 51 1 3) 51 2 K.n, SS L 1 2 c3 c4 c5 c6) from ((H.2 h27).1 h24).2)))⟩), fun h25 => vc_wp [] 200 _ _ _ _ _ _ (show wp 32 0 [vr 53] [] (D, SS L 1 2 c3 c4 c5 c6) (aft wp 92 140 [vr 79, vi b, vu] [vi 1, vr 79] Q) from k32 ⟨((H.2 h27).2 h25).1, (show wp 92 143 [vr 79, vi b, vu] [vi K.n, vi 1, vr 79] (D, SS L 1 2 c3 c4 c5 c6) Q from vc_wp [] 200 _ _ _ _ _ _ (show wp 72 0 [vr 79, vi 1, vi K.n] [] (D, SS L 1 2 c3 c4 c5 c6) (aft wp 92 143 [vr 79, vi b, vu] [] Q) from y72 (show wp 92 146 [vr 79, vi b, vu] [] (D, SS L 1 2 c3 c4 c5 c6) Q from vc_wp [148] 200 _ _ _ _ _ _ (show wp 92 148 [vr 79, vi 0, vu] [] (D, SS L 1 2 c3 c4 c5 c6) Q from ((H.2 h27).2 h25).2))))⟩)⟩)⟩))
theorem r92_114 {L c3 c4 c5 c6 : Nat} {K : TK} {D : Dt} {Q : Out → Wd → Prop} {b : Int} (H : ((-2147483648) ≤ b + 1 ∧ b + 1 ≤ 2147483647) ∧ (wp 92 2 [vr 79, vi (b + 1), vu] [] (D, SS L 1 2 c3 c4 c5 c6) Q)) : wp 92 114 [vr 79, vi b, vu] [] (D, SS L 1 2 c3 c4 c5 c6) Q := vc_wp [117] 200 _ _ _ _ _ _ (show wp 92 117 [vr 79, vi (w32 (b + 1)), vu] [] (D, SS L 1 2 c3 c4 c5 c6) Q from w32_i (fun z1 : Int => wp 92 117 [vr 79, vi z1, vu] [] (D, SS L 1 2 c3 c4 c5 c6) Q) (H).1 (vc_wp [2] 200 _ _ _ _ _ _ (show wp 92 2 [vr 79, vi (b + 1), vu] [] (D, SS L 1 2 c3 c4 c5 c6) Q from (H).2)))
theorem r92_148 {L c3 c4 c5 c6 : Nat} {K : TK} {D : Dt} {Q : Out → Wd → Prop} {b : Int} (H : ((b < D 197 0 → (∃ (xl1 : List Int × List Int), (L1p (D 197 2) (D 199) xl1.2 ∧ xl1.2.length ≤ 48 ∧ (ABp (D 198) xl1.1 ∧ ABw xl1.1 ∧ xl1.1.length ≤ 24) ∧ b < 8 + xl1.1.length) ∧ (((0 ≤ b ∧ b < 32) ∧ (((-2147483648) ≤ b + 1 ∧ b + 1 ≤ 2147483647) ∧ (wp 92 148 [vr 79, vi (b + 1), vu] [] (up D 202 b (fab xl1.1 xl1.2 b), SS L 1 2 c3 c4 c5 c6) Q)))))) ∧ (¬ (b < D 197 0) → (Q (.inl []) (D, SS L 1 2 c3 c4 c5 c6))))) : wp 92 148 [vr 79, vi b, vu] [] (D, SS L 1 2 c3 c4 c5 c6) Q := vc_wp [153] 200 _ _ _ _ _ _ (show wp 92 153 [vr 79, vi b, vu] [vr 197, vi b] (D, SS L 1 2 c3 c4 c5 c6) Q from vc_wp [163] 200 _ _ _ _ _ _ (show ((b < D 197 0 → (wp 92 163 [vr 79, vi b, vu] [vr 197] (D, SS L 1 2 c3 c4 c5 c6) Q)) ∧ (¬ (b < D 197 0) → (Q (.inl []) (D, SS L 1 2 c3 c4 c5 c6)))) from ⟨fun h5 => vc_wp [166] 200 _ _ _ _ _ _ (show wp 92 166 [vr 79, vi b, vu] [vr 202] (D, SS L 1 2 c3 c4 c5 c6) Q from vc_wp [] 200 _ _ _ _ _ _ (show wp 78 0 [vr 79, vi b, vu, vu] [] (D, SS L 1 2 c3 c4 c5 c6) (aft wp 92 169 [vr 79, vi b, vu] [vi b, vr 202] Q) from Exists.elim ((H.1 h5)) fun xl1 x2 => s78 ⟨xl1, x2.1, (show wp 92 172 [vr 79, vi b, vu] [vi (fab xl1.1 xl1.2 b), vi b, vr 202] (D, SS L 1 2 c3 c4 c5 c6) Q from vc_wp [176] 200 _ _ _ _ _ _ (show (0 ≤ b ∧ b < 32) ∧ (wp 92 176 [vr 79, vi (w32 (b + 1)), vu] [] (up D 202 b (fab xl1.1 xl1.2 b), SS L 1 2 c3 c4 c5 c6) Q) from ⟨x2.2.1, w32_i (fun z4 : Int => wp 92 176 [vr 79, vi z4, vu] [] (up D 202 b (fab xl1.1 xl1.2 b), SS L 1 2 c3 c4 c5 c6) Q) (x2.2.2).1 (vc_wp [148] 200 _ _ _ _ _ _ (show wp 92 148 [vr 79, vi (b + 1), vu] [] (up D 202 b (fab xl1.1 xl1.2 b), SS L 1 2 c3 c4 c5 c6) Q from (x2.2.2).2))⟩))⟩)), fun h6 => (H.2 h6)⟩))
def FrY (D E : Dt) : Prop := (∀ b, ¬ b = 197 → ¬ b = 202 → E b = D b) ∧ ∀ i, ¬ i = 31 → E 197 i = D 197 i
theorem FrY.k {D E : Dt} (h : FrY D E) : FrK D E := fun b _ y => h.1 b (by omega) (by omega)
theorem s92 {L c3 c4 c5 c6 : Nat} {D : Dt} {Q : Out → Wd → Prop} {K : TK} (H : ∃ x : List Int × List Int × XB, (LW K x.1 x.2.1 x.2.2 D ∧ SB x.2.2 (8 + x.1.length) ∧ (∀ b : Int, 0 ≤ b → b < (x.2.2 4).length → 8 ≤ lf (x.2.2 4) b) ∧ D 197 31 = -1) ∧ (∀ E, (0 ≤ mnL K x.1 x.2.2 (x.2.2 4).length ∧ FrY D E ∧ E 197 31 = mnL K x.1 x.2.2 (x.2.2 4).length ∧ (∀ c : Int, 0 ≤ c → c < 8 + x.1.length → E 202 c = fab x.2.1 (x.2.2 0) c)) → Q (.inl []) (E, SS L 1 2 c3 c4 c5 c6)) ∧ (∀ E, (mnL K x.1 x.2.2 (x.2.2 4).length < 0 ∧ FrK D E) → Q (.inr 52) (up (up E 51 1 3) 51 2 K.n, SS L 1 2 c3 c4 c5 c6))) : wp 92 0 [vr 79, vu, vu] [] (D, SS L 1 2 c3 c4 c5 c6) Q := by
  obtain ⟨⟨ns, ab, X⟩, ⟨hW, hSB, hc8, h31⟩, Hk, Hz⟩ := H
  dsimp only at *
  obtain ⟨hS, hC, ⟨hA, hw, hal, hln⟩, hF, hB, hl⟩ := hW
  have h48 := hB.1.2.2.1
  have h7 := hB.1.1
  have hc0 := hC.1
  have hc1 := hC.2.1
  have h148 : 0 ≤ mnL K ns X (X 4).length → ∀ (M : Nat) (c : Int) (E : Dt), (8 + ns.length - c).toNat = M → 0 ≤ c → c ≤ 8 + ns.length → FrY D E → E 197 31 = mnL K ns X (X 4).length → (∀ d : Int, 0 ≤ d → d < c → E 202 d = fab ab (X 0) d) → wp 92 148 [vr 79, vi c, vu] [] (E, SS L 1 2 c3 c4 c5 c6) Q := by
    intro hm M
    induction M with
    | zero =>
      intro c E e c0 c1 hf e31 h
      refine r92_148 (K := K) ⟨fun g => ?_, fun _ => Hk E ⟨hm, hf, e31, fun d d0 d1 => h d d0 (by omega)⟩⟩
      rw [hf.2 0 (by decide)] at g
      omega
    | succ M ih =>
      intro c E e c0 c1 hf e31 h
      refine r92_148 (K := K) ⟨fun g => ⟨(ab, X 0), ⟨?_, hF.1.2.2.1, ?_, ?_⟩, by omega, by omega, ih (c + 1) _ (by omega) (by omega) (by omega) ⟨fun b x y => ?_, fun i hi => ?_⟩ ?_ (fun d d0 d1 => ?_)⟩, fun g => ?_⟩
      · rw [hf.2 2 (by decide), hf.1 199 (by decide) (by decide)]
        exact ⟨hF.1.1, fun i i0 i1 => (hF.1.2.2.2 i i0 i1).1⟩
      · rw [hf.1 198 (by decide) (by decide)]; exact ⟨hA, hw, hal⟩
      · dsimp only; omega
      · rw [ub_a y]; exact hf.1 b x y
      · rw [ub_a (by decide)]; exact hf.2 i hi
      · rw [ub_a (by decide)]; exact e31
      · by_cases ed : d = c
        · rw [ed, ub_s]
        · rw [ub_n ed]; exact h d d0 (by omega)
      · rw [hf.2 0 (by decide)] at g
        omega
  have h2 : ∀ (M n : Nat) (E : Dt), (X 4).length - n = M → n ≤ (X 4).length → FrY D E → E 202 = D 202 → E 197 31 = mnL K ns X n → wp 92 2 [vr 79, vi n, vu] [] (E, SS L 1 2 c3 c4 c5 c6) Q := by
    intro M
    induction M with
    | zero =>
      intro n E e hn hf e202 e31
      have en : n = (X 4).length := by omega
      rw [en] at e31
      have hS1 := sk_k hS hf.k
      have hb := mnL_b (K := K) (ns := ns) (X := X) (X 4).length
      refine r92_2 (K := K) ⟨fun g => ?_, fun _ => ⟨fun g => ⟨hS1, Hz E ⟨by omega, hf.k⟩⟩, fun g => ⟨hS1, h148 (by omega) _ 0 E rfl (by omega) (by omega) hf e31 (fun d d0 d1 => by omega)⟩⟩⟩
      rw [hf.2 7 (by decide), h7] at g
      omega
    | succ M ih =>
      intro n E e hn hf e202 e31
      have hS1 := sk_k hS hf.k
      have hb0 : (0 : Int) ≤ n ∧ (n : Int) < (X 4).length := by omega
      have q4 := hB.1.2.2.2 n hb0.1 hb0.2
      have q8 := hc8 n hb0.1 hb0.2
      have q9 := hSB.2.2 n hb0.1 hb0.2
      have e203 : E 203 (n : Int) = lf (X 4) n := by rw [hf.1 203 (by decide) (by decide)]; exact q4.1
      have e81 : E 81 (n : Int) = lf (X 5) n := by rw [hf.1 81 (by decide) (by decide)]; exact q4.2.1
      have e205 : E 205 (n : Int) = lf (X 6) n := by rw [hf.1 205 (by decide) (by decide)]; exact hB.2.1 n hb0.1 (by have := hl.2.1; omega)
      have e206 : E 206 (n : Int) = lf (X 7) n := by rw [hf.1 206 (by decide) (by decide)]; exact hB.2.2.1 n hb0.1 (by have := hl.2.2.1; omega)
      have e208 : E 208 (n : Int) = lf (X 8) n := by rw [hf.1 208 (by decide) (by decide)]; exact hB.2.2.2.1 n hb0.1 (by have := hl.2.2.2.1; omega)
      have e60 : E 60 = D 60 := hf.1 60 (by decide) (by decide)
      have hns := hC.2.2.2 (lf (X 4) n - 8).toNat (by omega)
      have ens : D 60 (lf (X 4) n - 8) = lf ns (lf (X 4) n - 8) := by
        have := hns.1
        rw [show (((lf (X 4) n - 8).toNat : Nat) : Int) + 0 = lf (X 4) n - 8 by omega] at this
        exact this
      have ens0 : 0 ≤ lf ns (lf (X 4) n - 8) := hns.2.1
      have h60 := hC.2.2.1
      have hnx : ∀ E', FrY D E' → E' 202 = D 202 → E' 197 31 = mnL K ns X (n + 1) → wp 92 114 [vr 79, vi n, vu] [] (E', SS L 1 2 c3 c4 c5 c6) Q := by
        intro E' f' x1 x2
        have := ih (n + 1) E' (by omega) (by omega) f' x1 x2
        rw [show ((n + 1 : Nat) : Int) = (n : Int) + 1 by omega] at this
        exact r92_114 (K := K) ⟨by omega, this⟩
      have hno : ¬ mnP K ns X n → wp 92 114 [vr 79, vi n, vu] [] (E, SS L 1 2 c3 c4 c5 c6) Q := fun h => hnx E hf e202 (e31.trans (cit_f h).symm)
      refine r92_2 (K := K) ⟨fun g => ?_, fun g => ?_⟩
      · rw [e203, e60, ens, e81, e205, e206, e208]
        refine ⟨by omega, by omega, by omega, ⟨hS1, ens0⟩, fun g1 => ⟨by omega, ⟨hS1, q4.2.2.1⟩, fun g2 => ⟨by omega, fun g3 => ⟨by omega, fun g4 => ⟨by omega, fun g5 => ?_, fun g5 => hno fun x => g5 x.2.2.2.2⟩, fun g4 => hno fun x => g4 x.2.2.2.1⟩, fun g3 => hno fun x => g3 x.2.2.1⟩, fun g2 => hno fun x => g2 x.2.1⟩, fun g1 => hno fun x => g1 x.1⟩
        refine hnx _ ⟨fun b x y => ?_, fun i hi => ?_⟩ ?_ ?_
        · rw [ub_a x]; exact hf.1 b x y
        · rw [ub_n hi]; exact hf.2 i hi
        · rw [ub_a (by decide)]; exact e202
        · rw [ub_s]
          exact (cit_t (show mnP K ns X n from ⟨g1, g2, g3, g4, g5⟩)).symm
      · rw [hf.2 7 (by decide), h7] at g
        omega
  exact r92_0 (K := K) (h2 _ 0 D rfl (by omega) ⟨fun _ _ _ => rfl, fun _ _ => rfl⟩ rfl h31)
theorem r68_96 {L c3 c4 c5 c6 : Nat} {K : TK} {D : Dt} {Q : Out → Wd → Prop} {b : Int} (H : ((b < D 197 7 → (∃ (xb1 : List Int × List Int × XB × XB), (LW K xb1.1 xb1.2.1 xb1.2.2.1 D ∧ SR D (progX K) ∧ (pprog K).1 = true ∧ (0 ≤ K.n ∧ K.n ≤ 4000) ∧ BOK K xb1.2.2.1 ∧ CdS xb1.2.2.2 D ∧ YLn xb1.2.2.2 ∧ FeS xb1.2.2.2 D ∧ ((xb1.2.2.2 11).length = b ∧ (xb1.2.2.2 12).length = b) ∧ RowOK (D 83) (D 84) ∧ RowOK (D 85) (D 86) ∧ 0 ≤ b ∧ b < (xb1.2.2.1 4).length) ∧ ((∀ (E3 : Dt), ((bdR K xb1.1 xb1.2.1 xb1.2.2.1 b (lf (xb1.2.2.1 12) b) xb1.2.2.2).1.1 = true ∧ FrW D E3 ∧ CdS (bdR K xb1.1 xb1.2.1 xb1.2.2.1 b (lf (xb1.2.2.1 12) b) xb1.2.2.2).2 E3 ∧ FeS (bdR K xb1.1 xb1.2.1 xb1.2.2.1 b (lf (xb1.2.2.1 12) b) xb1.2.2.2).2 E3 ∧ RowOK (E3 83) (E3 84) ∧ RowOK (E3 85) (E3 86)) → (((-2147483648) ≤ b + 1 ∧ b + 1 ≤ 2147483647) ∧ (wp 68 96 [vr 79, vr 197, vu, vi (b + 1)] [] (E3, SS L 1 2 c3 c4 c5 c6) Q))) ∧ (∀ (E6 : Dt), (¬ (bdR K xb1.1 xb1.2.1 xb1.2.2.1 b (lf (xb1.2.2.1 12) b) xb1.2.2.2).1.1 = true ∧ FrKo D E6 ∧ RowOK (E6 83) (E6 84) ∧ RowOK (E6 85) (E6 86)) → (Q (.inr 52) (up (up E6 51 1 3) 51 2 ((bdR K xb1.1 xb1.2.1 xb1.2.2.1 b (lf (xb1.2.2.1 12) b) xb1.2.2.2).1.2), SS L 1 2 c3 c4 c5 c6)))))) ∧ (¬ (b < D 197 7) → (∃ (xm8 : List Int × List Int × XB), (LW K xm8.1 xm8.2.1 xm8.2.2 D ∧ SB xm8.2.2 (8 + xm8.1.length) ∧ (∀ b : Int, 0 ≤ b → b < (xm8.2.2 4).length → 8 ≤ lf (xm8.2.2 4) b) ∧ D 197 31 = -1) ∧ ((∀ (E10 : Dt), (0 ≤ (mnL K xm8.1 xm8.2.2 (xm8.2.2 4).length) ∧ FrY D E10 ∧ E10 197 31 = (mnL K xm8.1 xm8.2.2 (xm8.2.2 4).length) ∧ (∀ c : Int, 0 ≤ c → c < 8 + xm8.1.length → E10 202 c = fab xm8.2.1 (xm8.2.2 0) c)) → (Q (.inl []) (E10, SS L 1 2 c3 c4 c5 c6))) ∧ (∀ (E12 : Dt), ((mnL K xm8.1 xm8.2.2 (xm8.2.2 4).length) < 0 ∧ FrK D E12) → (Q (.inr 52) (up (up E12 51 1 3) 51 2 K.n, SS L 1 2 c3 c4 c5 c6)))))))) : wp 68 96 [vr 79, vr 197, vu, vi b] [] (D, SS L 1 2 c3 c4 c5 c6) Q := vc_wp [101] 200 _ _ _ _ _ _ (show wp 68 101 [vr 79, vr 197, vu, vi b] [vr 197, vi b] (D, SS L 1 2 c3 c4 c5 c6) Q from vc_wp [] 200 _ _ _ _ _ _ (show ((b < D 197 7 → (wp 84 0 [vr 79, vi b, vu, vu, vu, vu, vu, vu, vu, vu] [] (D, SS L 1 2 c3 c4 c5 c6) (aft wp 68 109 [vr 79, vr 197, vu, vi b] [] Q))) ∧ (¬ (b < D 197 7) → (wp 92 0 [vr 79, vu, vu] [] (D, SS L 1 2 c3 c4 c5 c6) (aft wp 68 119 [vr 79, vr 197, vu, vi b] [] Q)))) from ⟨fun h14 => Exists.elim ((H.1 h14)) fun xb1 x2 => s84 ⟨xb1, x2.1, (fun E3 q4 => (show wp 68 112 [vr 79, vr 197, vu, vi b] [] (E3, SS L 1 2 c3 c4 c5 c6) Q from vc_wp [115] 200 _ _ _ _ _ _ (show wp 68 115 [vr 79, vr 197, vu, vi (w32 (b + 1))] [] (E3, SS L 1 2 c3 c4 c5 c6) Q from w32_i (fun z5 : Int => wp 68 115 [vr 79, vr 197, vu, vi z5] [] (E3, SS L 1 2 c3 c4 c5 c6) Q) ((x2.2.1 E3 q4)).1 (vc_wp [96] 200 _ _ _ _ _ _ (show wp 68 96 [vr 79, vr 197, vu, vi (b + 1)] [] (E3, SS L 1 2 c3 c4 c5 c6) Q from ((x2.2.1 E3 q4)).2))))), (fun E6 q7 => (show Q (.inr 52) (up (up E6 51 1 3) 51 2 ((bdR K xb1.1 xb1.2.1 xb1.2.2.1 b (lf (xb1.2.2.1 12) b) xb1.2.2.2).1.2), SS L 1 2 c3 c4 c5 c6) from (x2.2.2 E6 q7)))⟩, fun h15 => Exists.elim ((H.2 h15)) fun xm8 x9 => s92 ⟨xm8, x9.1, (fun E10 q11 => (show wp 68 122 [vr 79, vr 197, vu, vi b] [] (E10, SS L 1 2 c3 c4 c5 c6) Q from vc_wp [] 200 _ _ _ _ _ _ (show Q (.inl []) (E10, SS L 1 2 c3 c4 c5 c6) from (x9.2.1 E10 q11)))), (fun E12 q13 => (show Q (.inr 52) (up (up E12 51 1 3) 51 2 K.n, SS L 1 2 c3 c4 c5 c6) from (x9.2.2 E12 q13)))⟩⟩))
def Y0 : XB := fun _ => []
/-- all that loading gives: (fault or true, its token), classes, what is above, fields and bodies, code -/
noncomputable def ldR (K : TK) : PR × (List Int × List Int × XB × XB) :=
  cit ((pcn K (lcls K) [] []).1 = true) (cit ((mF2 K (pcn K (lcls K) [] []).2.2.1 (pcn K (lcls K) [] []).2.2.2 (lcls K) 8 0 X0).1 = true) (cit ((bsR K (pcn K (lcls K) [] []).2.2.1 (pcn K (lcls K) [] []).2.2.2 (mF2 K (pcn K (lcls K) [] []).2.2.1 (pcn K (lcls K) [] []).2.2.2 (lcls K) 8 0 X0).2.2 ((mF2 K (pcn K (lcls K) [] []).2.2.1 (pcn K (lcls K) [] []).2.2.2 (lcls K) 8 0 X0).2.2 4).length 0 Y0).1.1 = true) (cit (0 ≤ mnL K (pcn K (lcls K) [] []).2.2.1 (mF2 K (pcn K (lcls K) [] []).2.2.1 (pcn K (lcls K) [] []).2.2.2 (lcls K) 8 0 X0).2.2 ((mF2 K (pcn K (lcls K) [] []).2.2.1 (pcn K (lcls K) [] []).2.2.2 (lcls K) 8 0 X0).2.2 4).length) ((true, 0), (pcn K (lcls K) [] []).2.2.1, (pcn K (lcls K) [] []).2.2.2, (mF2 K (pcn K (lcls K) [] []).2.2.1 (pcn K (lcls K) [] []).2.2.2 (lcls K) 8 0 X0).2.2, (bsR K (pcn K (lcls K) [] []).2.2.1 (pcn K (lcls K) [] []).2.2.2 (mF2 K (pcn K (lcls K) [] []).2.2.1 (pcn K (lcls K) [] []).2.2.2 (lcls K) 8 0 X0).2.2 ((mF2 K (pcn K (lcls K) [] []).2.2.1 (pcn K (lcls K) [] []).2.2.2 (lcls K) 8 0 X0).2.2 4).length 0 Y0).2) ((false, K.n), [], [], X0, Y0)) ((false, (bsR K (pcn K (lcls K) [] []).2.2.1 (pcn K (lcls K) [] []).2.2.2 (mF2 K (pcn K (lcls K) [] []).2.2.1 (pcn K (lcls K) [] []).2.2.2 (lcls K) 8 0 X0).2.2 ((mF2 K (pcn K (lcls K) [] []).2.2.1 (pcn K (lcls K) [] []).2.2.2 (lcls K) 8 0 X0).2.2 4).length 0 Y0).1.2), [], [], X0, Y0)) ((false, (mF2 K (pcn K (lcls K) [] []).2.2.1 (pcn K (lcls K) [] []).2.2.2 (lcls K) 8 0 X0).2.1), [], [], X0, Y0)) ((false, (pcn K (lcls K) [] []).2.1), [], [], X0, Y0)
theorem ld_1 {K : TK} (h : (pcn K (lcls K) [] []).1 = false) : (ldR K).1 = (false, (pcn K (lcls K) [] []).2.1) := by
  unfold ldR
  rw [cit_f (by rw [h]; decide)]
section Ld
variable {K : TK} {ns ab : List Int} {X : XB}
theorem ld_2 (h : (pcn K (lcls K) [] []).1 = true) (h1 : (pcn K (lcls K) [] []).2.2.1 = ns) (h2 : (pcn K (lcls K) [] []).2.2.2 = ab) (h3 : (mF2 K ns ab (lcls K) 8 0 X0).1 = false) : (ldR K).1 = (false, (mF2 K ns ab (lcls K) 8 0 X0).2.1) := by
  unfold ldR
  rw [cit_t h, h1, h2, cit_f (by rw [h3]; decide)]
theorem ld_3 (h : (pcn K (lcls K) [] []).1 = true) (h1 : (pcn K (lcls K) [] []).2.2.1 = ns) (h2 : (pcn K (lcls K) [] []).2.2.2 = ab) (h3 : mF2 K ns ab (lcls K) 8 0 X0 = (true, 0, X)) (h4 : ¬ (bsR K ns ab X (X 4).length 0 Y0).1.1 = true) : (ldR K).1 = (false, (bsR K ns ab X (X 4).length 0 Y0).1.2) := by
  unfold ldR
  rw [cit_t h, h1, h2, h3, cit_t rfl]
  dsimp only
  rw [cit_f h4]
theorem ld_4 (h : (pcn K (lcls K) [] []).1 = true) (h1 : (pcn K (lcls K) [] []).2.2.1 = ns) (h2 : (pcn K (lcls K) [] []).2.2.2 = ab) (h3 : mF2 K ns ab (lcls K) 8 0 X0 = (true, 0, X)) (h4 : (bsR K ns ab X (X 4).length 0 Y0).1.1 = true) (h5 : mnL K ns X (X 4).length < 0) : (ldR K).1 = (false, K.n) := by
  unfold ldR
  rw [cit_t h, h1, h2, h3, cit_t rfl]
  dsimp only
  rw [cit_t h4, cit_f (by omega)]
theorem ld_5 (h : (pcn K (lcls K) [] []).1 = true) (h1 : (pcn K (lcls K) [] []).2.2.1 = ns) (h2 : (pcn K (lcls K) [] []).2.2.2 = ab) (h3 : mF2 K ns ab (lcls K) 8 0 X0 = (true, 0, X)) (h4 : (bsR K ns ab X (X 4).length 0 Y0).1.1 = true) (h5 : 0 ≤ mnL K ns X (X 4).length) : ldR K = ((true, 0), ns, ab, X, (bsR K ns ab X (X 4).length 0 Y0).2) := by
  unfold ldR
  rw [cit_t h, h1, h2, h3, cit_t rfl]
  dsimp only
  rw [cit_t h4, cit_t h5]
theorem bdR_n {b t : Int} {Y : XB} (hY : YLn Y) (e : (bdR K ns ab X b t Y).1.1 = true) : YLn (bdR K ns ab X b t Y).2 ∧ ((bdR K ns ab X b t Y).2 11).length = (Y 11).length + 1 ∧ ((bdR K ns ab X b t Y).2 12).length = (Y 12).length + 1 := by
  unfold bdR at e ⊢
  rcases Classical.em ((blR K ns ab X b t Y).1.1 = true) with g | g
  · rw [cit_t g] at e ⊢
    obtain ⟨n1, n2, n3, n4⟩ := lnR_n (K := K) (ns := ns) (ab := ab) (X := X) (Y := ap1 Y 11 (Y 0).length) hY g
    have n3 : (blR K ns ab X b t Y).2 11 = Y 11 ++ [((Y 0).length : Int)] := n3
    have n4 : (blR K ns ab X b t Y).2 12 = Y 12 := n4
    rcases Classical.em (((Y 0).length : Int) < ((blR K ns ab X b t Y).2 0).length ∧ ¬ goOn (lf ((blR K ns ab X b t Y).2 0) ((((blR K ns ab X b t Y).2 0).length : Int) - 1))) with g1 | g1
    · rw [cit_t g1]
      refine ⟨n1, ?_, ?_⟩
      · show ((blR K ns ab X b t Y).2 11).length = _
        rw [n3, len_app]
      · show ((blR K ns ab X b t Y).2 12 ++ [_]).length = _
        rw [len_app, n4]
    · rw [cit_f g1] at e; cases e
  · rw [cit_f g] at e; exact absurd e g
end Ld
/-- what a loaded program is, in SafeCode's places -/
def PS (K : TK) (ns ab : List Int) (X Y : XB) (D : Dt) : Prop := CS K ns (D 197 0) (D 60) ∧ (ABp (D 198) ab ∧ ABw ab ∧ ab.length ≤ 24 ∧ ns.length = ab.length) ∧ FdS K X D ∧ BS K X D ∧ CdS Y D ∧ FeS Y D ∧ D 197 31 = mnL K ns X (X 4).length ∧ (∀ c : Int, 0 ≤ c → c < 8 + ns.length → D 202 c = fab ab (X 0) c)
/-- what is known of a loaded program -/
def PX (K : TK) (ns ab : List Int) (X Y : XB) : Prop := GI K ns ab X (8 + ab.length) ∧ SB X (8 + ns.length) ∧ (ABw ab ∧ ab.length ≤ 24 ∧ ns.length = ab.length) ∧ YLn Y ∧ ((Y 11).length = (X 4).length ∧ (Y 12).length = (X 4).length) ∧ ((bsR K ns ab X (X 4).length 0 Y0).1.1 = true ∧ (bsR K ns ab X (X 4).length 0 Y0).2 = Y) ∧ 0 ≤ mnL K ns X (X 4).length
theorem l68b {L c3 c4 c5 c6 : Nat} {D : Dt} {Q : Out → Wd → Prop} {K : TK} {ns ab : List Int} {X : XB} {r : PR × XB} (hR : SR D (progX K)) (hp : (pprog K).1 = true) (hn : 0 ≤ K.n ∧ K.n ≤ 4000) (hO : BOK K X) (Hz : ∀ E, FrKo D E ∧ (RowOK (E 83) (E 84) ∧ RowOK (E 85) (E 86)) → ¬ r.1.1 = true → Q (.inr 52) (up (up E 51 1 3) 51 2 r.1.2, SS L 1 2 c3 c4 c5 c6)) (Hk : ∀ E, FrW D E → r.1.1 = true → YLn r.2 → ((r.2 11).length = (X 4).length ∧ (r.2 12).length = (X 4).length) → CdS r.2 E → FeS r.2 E → RowOK (E 83) (E 84) ∧ RowOK (E 85) (E 86) → wp 68 96 [vr 79, vr 197, vu, vi (X 4).length] [] (E, SS L 1 2 c3 c4 c5 c6) Q) : ∀ (M n : Nat) (E : Dt) (Y : XB), (X 4).length - n = M → n ≤ (X 4).length → FrW D E → LW K ns ab X E → RowOK (E 83) (E 84) ∧ RowOK (E 85) (E 86) → CdS Y E → YLn Y → FeS Y E → ((Y 11).length = n ∧ (Y 12).length = n) → r = bsR K ns ab X M n Y → wp 68 96 [vr 79, vr 197, vu, vi n] [] (E, SS L 1 2 c3 c4 c5 c6) Q := by
  intro M
  induction M with
  | zero =>
    intro n E Y e hn1 hf hW ro hC hY hFe hl er
    have er : r = ((true, 0), Y) := er
    rw [show n = (X 4).length by omega]
    refine Hk E hf (by rw [er]) (by rw [er]; exact hY) ?_ (by rw [er]; exact hC) (by rw [er]; exact hFe) ro
    rw [er]
    dsimp only
    omega
  | succ M ih =>
    intro n E Y e hn1 hf hW ro hC hY hFe hl er
    have h7 := hW.2.2.2.2.1.1.1
    have h48 := hW.2.2.2.2.1.1.2.2.1
    refine r68_96 (K := K) ⟨fun _ => ⟨(ns, ab, X, Y), ⟨hW, hR.k hf.k, hp, hn, hO, hC, hY, hFe, ⟨by dsimp only; omega, by dsimp only; omega⟩, ro.1, ro.2, by omega, by dsimp only; omega⟩, fun E' x => ⟨by omega, ?_⟩, fun E' x => ?_⟩, fun g => by rw [h7] at g; omega⟩
    · dsimp only at x
      have er' : r = bsR K ns ab X M ((n : Int) + 1) (bdR K ns ab X n (lf (X 12) n) Y).2 := er.trans (cit_t x.1)
      have hb := bdR_n hY x.1
      have := ih (n + 1) E' _ (by omega) (by omega) (hf.t x.2.1) (hW.w x.2.1) ⟨x.2.2.2.2.1, x.2.2.2.2.2⟩ x.2.2.1 hb.1 x.2.2.2.1 ⟨by omega, by omega⟩ (by rw [er']; rfl)
      rw [show ((n + 1 : Nat) : Int) = (n : Int) + 1 by omega] at this
      exact this
    · dsimp only at x ⊢
      have er' : r = bdR K ns ab X n (lf (X 12) n) Y := er.trans (cit_f x.1)
      rw [← er'] at x ⊢
      exact Hz E' ⟨hf.k.t x.2.1, x.2.2⟩ x.1
theorem s68 {L c2 c3 c4 c5 c6 : Nat} {D : Dt} {Q : Out → Wd → Prop} {K : TK} (H : (SKp K (D 54) (D 55) (D 56) (D 57) (D 224) ∧ SR D (progX K) ∧ (pprog K).1 = true ∧ (0 ≤ K.n ∧ K.n ≤ 4000) ∧ RowOK (D 83) (D 84) ∧ RowOK (D 85) (D 86)) ∧ (∀ E ns ab X Y, (ldR K = ((true, 0), ns, ab, X, Y) ∧ FrKo D E ∧ PS K ns ab X Y E ∧ PX K ns ab X Y ∧ RowOK (E 83) (E 84) ∧ RowOK (E 85) (E 86)) → Q (.inl []) (E, SS L 1 2 c3 c4 c5 c6)) ∧ (∀ E, (¬ (ldR K).1.1 = true ∧ FrKo D E ∧ RowOK (E 83) (E 84) ∧ RowOK (E 85) (E 86)) → Q (.inr 52) (up (up E 51 1 3) 51 2 (ldR K).1.2, SS L 1 2 c3 c4 c5 c6))) : wp 68 0 [vr 79, vr 197, vu, vu] [] (D, SS L 1 c2 c3 c4 c5 c6) Q := by
  obtain ⟨⟨hS, hR, hp, hn, ro1, ro2⟩, Hk, Hz⟩ := H
  refine l68 (K := K) hS hR hp hn ⟨ro1, ro2⟩ (fun E h => ?_) (fun E h => ?_) (fun E ns ab X hf h1 h2 h3 h4 hC hA hG hF hB hz => ?_)
  · have e := ld_1 h.2
    rw [e] at Hz
    exact Hz E ⟨Bool.noConfusion, h.1.o, h.1.ro ⟨ro1, ro2⟩⟩
  · have e := ld_2 h.2.1 rfl rfl h.2.2
    rw [e] at Hz
    exact Hz E ⟨Bool.noConfusion, h.1.o, h.1.ro ⟨ro1, ro2⟩⟩
  · have ha := pcn_all h1
    rw [h2, h3] at ha
    obtain ⟨ha1, ha2, ha3, ha4⟩ := ha
    have hsb : SB X (8 + ns.length) := by
      have := sb_2 (K := K) (ns := ns) (ab := ab) (lcls K) 8 0 X0 sb_0 (by rw [h4])
      rw [h4] at this
      rw [ha1, List.length_map]
      exact this
    have hG' := hG
    obtain ⟨⟨g1, g2, g3, g4, g5, g6⟩, gf, gb, _⟩ := hG
    have hW : LW K ns ab X E := ⟨sk_k hS hf, hC, ⟨hA, ha3, by omega, ha2⟩, hF, hB, g2⟩
    obtain ⟨hro, z17, z24, z26, z31, z218⟩ := hz
    have hC0 : CdS Y0 E := by
      refine ⟨⟨by rw [z17]; rfl, by rw [z24]; rfl, by rw [z26]; rfl⟩, ?_, ?_, ?_, ?_, ?_, ?_, ?_, ?_, ?_, ?_, z218⟩ <;> exact fun i i0 i1 => by have i1 : i < ((0 : Nat) : Int) := i1; omega
    have hF0 : FeS Y0 E := by
      refine ⟨?_, ?_⟩ <;> exact fun i i0 i1 => by have i1 : i < ((0 : Nat) : Int) := i1; omega
    have hY0 : YLn Y0 := ⟨⟨rfl, rfl, rfl, rfl⟩, ⟨rfl, rfl, rfl, rfl⟩, by decide, by decide, by decide⟩
    refine l68b (K := K) (ns := ns) (ab := ab) (X := X) (r := bsR K ns ab X (X 4).length 0 Y0) (D := E) (hR.k hf.o) hp hn g3 (fun E' f' hr => ?_) (fun E' f' hr hY hl hC' hFe' hro' => ?_) _ 0 E Y0 rfl (by omega) (FrW.r E) hW hro hC0 hY0 hF0 ⟨rfl, rfl⟩ rfl
    · have e := ld_3 h1 h2 h3 h4 hr
      rw [e] at Hz
      exact Hz E' ⟨Bool.noConfusion, hf.o.t f'.1, f'.2⟩
    · have hW' := hW.w f'
      have h7 := hW'.2.2.2.2.1.1.1
      refine r68_96 (K := K) ⟨fun g => by rw [h7] at g; omega, fun _ => ⟨(ns, ab, X), ⟨hW', hsb, fun b b0 b1 => (gb b b0 b1).1.1, ?_⟩, fun E2 x => ?_, fun E2 x => ?_⟩⟩
      · rw [f'.2 31 (by decide) (by decide) (by decide)]; exact z31
      · dsimp only at x
        have e5 := ld_5 h1 h2 h3 h4 hr x.1
        have fy : ∀ b, ¬ b = 197 ∧ ¬ b = 202 → E2 b = E' b := fun b hb => x.2.1.1 b hb.1 hb.2
        refine Hk E2 ns ab X (bsR K ns ab X (X 4).length 0 Y0).2 ⟨e5, (hf.o.t f'.k).t x.2.1.k.o, ⟨?_, ?_, ?_, ?_, ?_, ?_, x.2.2.1, x.2.2.2⟩, ⟨hG', hsb, ⟨ha3, by omega, ha2⟩, hY, hl, ⟨hr, rfl⟩, x.1⟩, ?_⟩
        · rw [x.2.1.2 0 (by decide), fy 60 (by decide)]; exact hW'.2.1
        · rw [fy 198 (by decide)]; exact hW'.2.2.1
        · unfold FdS
          rw [x.2.1.2 2 (by decide), fy 199 (by decide), fy 80 (by decide), fy 200 (by decide), fy 201 (by decide)]; exact hW'.2.2.2.1
        · unfold BS
          rw [x.2.1.2 7 (by decide), fy 203 (by decide), fy 81 (by decide), fy 205 (by decide), fy 206 (by decide), fy 208 (by decide), fy 209 (by decide), fy 82 (by decide), fy 204 (by decide), fy 207 (by decide)]; exact hW'.2.2.2.2.1
        · unfold CdS
          rw [x.2.1.2 17 (by decide), x.2.1.2 24 (by decide), x.2.1.2 26 (by decide), fy 212 (by decide), fy 213 (by decide), fy 214 (by decide), fy 215 (by decide), fy 216 (by decide), fy 218 (by decide), fy 219 (by decide), fy 220 (by decide), fy 221 (by decide), fy 222 (by decide)]; exact hC'
        · unfold FeS
          rw [fy 210 (by decide), fy 211 (by decide)]; exact hFe'
        · rw [fy 83 (by decide), fy 84 (by decide), fy 85 (by decide), fy 86 (by decide)]; exact hro'
      · dsimp only at x
        have e := ld_4 h1 h2 h3 h4 hr x.1
        rw [e] at Hz
        exact Hz E2 ⟨Bool.noConfusion, (hf.o.t f'.k).t x.2.o, x.2.ro hro'⟩
