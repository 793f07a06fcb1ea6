/-! names: SafeCode's bodies -/
set_option maxRecDepth 100000
def FrW (D E : Dt) : Prop := (∀ b, ¬ (83 ≤ b ∧ b ≤ 86) → ¬ b = 197 → ¬ (210 ≤ b ∧ b ≤ 216) → ¬ (218 ≤ b ∧ b ≤ 222) → E b = D b) ∧ ∀ i, ¬ i = 17 → ¬ i = 24 → ¬ i = 26 → E 197 i = D 197 i
theorem FrW.r (D : Dt) : FrW D D := ⟨fun _ _ _ _ _ => rfl, fun _ _ _ _ => rfl⟩
theorem FrW.t {D E F : Dt} (h : FrW D E) (h2 : FrW E F) : FrW D F := ⟨fun b x y z w => (h2.1 b x y z w).trans (h.1 b x y z w), fun i x y z => (h2.2 i x y z).trans (h.2 i x y z)⟩
theorem FrI.w {D E : Dt} (h : FrI D E) : FrW D E := ⟨fun b _ y z w => h.1 b y (by omega) w, h.2⟩
theorem FrV.w {D E : Dt} (h : FrV D E) : FrW D E := ⟨fun b x _ _ _ => h b x, fun i _ _ _ => congrFun (h 197 (by decide)) i⟩
/-- what loading may change, with the rows of labels -/
def FrKo (D E : Dt) : Prop := ∀ b, ¬ (79 ≤ b ∧ b ≤ 86) → ¬ (197 ≤ b ∧ b ≤ 222) → E b = D b
theorem FrKo.t {D D1 D2 : Dt} (h : FrKo D D1) (h2 : FrKo D1 D2) : FrKo D D2 := fun b x y => (h2 b x y).trans (h b x y)
theorem FrK.o {D E : Dt} (h : FrK D E) : FrKo D E := fun b x y => h b (by omega) y
theorem FrK.ro {D E : Dt} (h : FrK D E) (r : RowOK (D 83) (D 84) ∧ RowOK (D 85) (D 86)) : RowOK (E 83) (E 84) ∧ RowOK (E 85) (E 86) := by
  rw [h 83 (by decide) (by decide), h 84 (by decide) (by decide), h 85 (by decide) (by decide), h 86 (by decide) (by decide)]; exact r
theorem sk_o {K : TK} {D D' : Dt} (h : SKp K (D 54) (D 55) (D 56) (D 57) (D 224)) (hf : FrKo D D') : SKp K (D' 54) (D' 55) (D' 56) (D' 57) (D' 224) := by
  rw [hf 54 (by omega) (by omega), hf 55 (by omega) (by omega), hf 56 (by omega) (by omega), hf 57 (by omega) (by omega), hf 224 (by omega) (by omega)]
  exact h
theorem FrW.k {D E : Dt} (h : FrW D E) : FrKo D E := fun b x y => h.1 b (by omega) (by omega) (by omega) (by omega)
theorem FrW.u {D E : Dt} (h : FrW D E) {a : Nat} {i v : Int} (ha : 210 ≤ a ∧ a ≤ 211) : FrW D (up E a i v) := by
  refine ⟨fun b x y z w => ?_, fun j x y z => ?_⟩
  · rw [ub_a (by omega)]; exact h.1 b x y z w
  · rw [ub_a (by omega)]; exact h.2 j x y z
theorem LW.w {K : TK} {ns ab : List Int} {X : XB} {D E : Dt} (h : LW K ns ab X D) (f : FrW D E) : LW K ns ab X E := by
  obtain ⟨h1, h2, h3, h4, h5, h6⟩ := h
  have g : ∀ b, ¬ (83 ≤ b ∧ b ≤ 86) ∧ ¬ b = 197 ∧ ¬ (210 ≤ b ∧ b ≤ 216) ∧ ¬ (218 ≤ b ∧ b ≤ 222) → E b = D b := fun b x => f.1 b x.1 x.2.1 x.2.2.1 x.2.2.2
  refine ⟨sk_o h1 f.k, ?_, ?_, ?_, ?_, h6⟩
  · rw [f.2 0 (by decide) (by decide) (by decide), g 60 (by decide)]; exact h2
  · rw [g 198 (by decide)]; exact h3
  · unfold FdS
    rw [f.2 2 (by decide) (by decide) (by decide), g 199 (by decide), g 80 (by decide), g 200 (by decide), g 201 (by decide)]; exact h4
  · unfold BS
    rw [f.2 7 (by decide) (by decide) (by decide), g 203 (by decide), g 81 (by decide), g 205 (by decide), g 206 (by decide), g 208 (by decide), g 209 (by decide), g 82 (by decide), g 204 (by decide), g 207 (by decide)]; exact h5
theorem SR.k {K : TK} {D E : Dt} (h : SR D (progX K)) (f : FrKo D E) : SR E (progX K) := by
  unfold SR
  rw [f 59 (by decide) (by decide), f 60 (by decide) (by decide), f 61 (by decide) (by decide), f 62 (by decide) (by decide), f 63 (by decide) (by decide), f 64 (by decide) (by decide), f 65 (by decide) (by decide), f 66 (by decide) (by decide), f 67 (by decide) (by decide), f 68 (by decide) (by decide), f 69 (by decide) (by decide), f 70 (by decide) (by decide), f 71 (by decide) (by decide), f 72 (by decide) (by decide), f 73 (by decide) (by decide), f 74 (by decide) (by decide), f 75 (by decide) (by decide), f 76 (by decide) (by decide), f 77 (by decide) (by decide), f 78 (by decide) (by decide)]
  exact h
theorem LNp.k {K : TK} {ln : List Int} {fr : Int} {D E : Dt} (h : LNp K ln fr D) (f : FrKo D E) : LNp K ln fr E := by
  unfold LNp
  rw [f 74 (by decide) (by decide), f 76 (by decide) (by decide), f 78 (by decide) (by decide)]
  exact h
theorem labK_i {K : TK} {lt : List Int} {l s : Int} (s0 : 0 ≤ s) (s1 : s < lt.length) (e : lf lt s = l) (h : ∀ j, 0 ≤ j → j < s → ¬ K.same l (lf lt j)) : labK K lt l = s := by
  rcases labK_b (K := K) (lt := lt) (t := l) with x | ⟨x1, x2, x3, x4⟩
  · exact absurd (show K.same l (lf lt s) by rw [e]; exact same_r K l) (fs_no (P := fun k => K.same l (lf lt k)) (k := 0) (n := lt.length) (by decide) (by show labK K lt l < 0; omega) s s0 s1)
  · by_cases c : labK K lt l < s
    · exact absurd x3 (h _ x1 c)
    · by_cases c2 : s < labK K lt l
      · exact absurd (by rw [e]; exact same_r K l) (x4 s s0 c2)
      · omega
theorem cds_c {K : TK} {ns lt lp : List Int} {b t : Int} {Y : XB} {D : Dt} (h : CdS Y D) (hY : YLn Y) : CdS (cY K ns lt lp b Y t) (up (up (up (up (up D 219 (D 197 26) (labA K lt lp (t + 1))) 220 (D 197 26) (labA K lt lp (t + 2))) 221 (D 197 26) (labA K lt lp (t + 3))) 222 (D 197 26) (clsT K ns (t + 4))) 197 26 (D 197 26 + 1)) := by
  obtain ⟨⟨c17, c24, c26⟩, l0, l1, l2, l3, l4, l5, l6, l7, l8, l9, l10⟩ := h
  obtain ⟨a1, ⟨a5, a6, a7, a8⟩, a9⟩ := hY
  refine ⟨⟨c17, c24, ?_⟩, l0, l1, l2, l3, l4, l5, ?_, ?_, ?_, ?_, l10⟩
  · show D 197 26 + 1 = ((Y 6 ++ [_]).length : Int)
    rw [len_app]; omega
  · exact (l1_up l6 c26 : L1 (up D 219 (D 197 26) (labA K lt lp (t + 1)) 219) (Y 6 ++ [labA K lt lp (t + 1)]))
  · exact (l1_up l7 (by omega) : L1 (up D 220 (D 197 26) (labA K lt lp (t + 2)) 220) (Y 7 ++ [labA K lt lp (t + 2)]))
  · exact (l1_up l8 (by omega) : L1 (up D 221 (D 197 26) (labA K lt lp (t + 3)) 221) (Y 8 ++ [labA K lt lp (t + 3)]))
  · exact (l1_up l9 (by omega) : L1 (up D 222 (D 197 26) (clsT K ns (t + 4)) 222) (Y 9 ++ [clsT K ns (t + 4)]))
theorem lop_i {K : TK} {l : Int} (h : ¬ K.w (l + 1) 15) (h1 : ¬ K.w l 16) : lop K l = K.op l := (cit_f h).trans (cit_f h1)
theorem r84_0 {L c3 c4 c5 c6 : Nat} {K : TK} {D : Dt} {Q : Out → Wd → Prop} {b : Int} (H : (0 ≤ b ∧ b < 48) ∧ ((0 ≤ (D 82 b) ∧ (D 82 b) ≤ D 70 (-1) ∧ (D 82 b) ≤ 4000) ∧ (((0 ≤ D 82 b ∧ D 82 b < D 70 (-1)) ∧ (wp 84 39 [vr 79, vi b, vi (D 82 b), vi (cit ((D 82 b) = 0) 0 (D 70 ((D 82 b) - 1))), vi (D 70 (D 82 b)), vi (D 197 17), vi (cit ((D 82 b) = 0) 0 (D 70 ((D 82 b) - 1))), vu, vu, vu] [] (D, SS L 1 2 c3 c4 c5 c6) Q))))) : wp 84 0 [vr 79, vi b, vu, vu, vu, vu, vu, vu, vu, vu] [] (D, SS L 1 2 c3 c4 c5 c6) Q := vc_wp [4] 200 _ _ _ _ _ _ (show wp 84 4 [vr 79, vi b, vu, vu, vu, vu, vu, vu, vu, vu] [vr 82] (D, SS L 1 2 c3 c4 c5 c6) Q from vc_wp [] 200 _ _ _ _ _ _ (show (0 ≤ b ∧ b < 48) ∧ (wp 85 0 [vr 79, vi (D 82 b)] [] (D, SS L 1 2 c3 c4 c5 c6) (aft wp 84 9 [vr 79, vi b, vi (D 82 b), vu, vu, vu, vu, vu, vu, vu] [] Q)) from ⟨H.1, s85 ⟨H.2.1, (show wp 84 12 [vr 79, vi b, vi (D 82 b), vu, vu, vu, vu, vu, vu, vu] [vi (cit ((D 82 b) = 0) 0 (D 70 ((D 82 b) - 1)))] (D, SS L 1 2 c3 c4 c5 c6) Q from vc_wp [17] 200 _ _ _ _ _ _ (show wp 84 17 [vr 79, vi b, vi (D 82 b), vi (cit ((D 82 b) = 0) 0 (D 70 ((D 82 b) - 1))), vu, vu, vu, vu, vu, vu] [vr 58] (D, SS L 1 2 c3 c4 c5 c6) Q from vc_wp [20] 200 _ _ _ _ _ _ (show wp 84 20 [vr 79, vi b, vi (D 82 b), vi (cit ((D 82 b) = 0) 0 (D 70 ((D 82 b) - 1))), vu, vu, vu, vu, vu, vu] [vr 69] (D, SS L 1 2 c3 c4 c5 c6) Q from vc_wp [23] 200 _ _ _ _ _ _ (show wp 84 23 [vr 79, vi b, vi (D 82 b), vi (cit ((D 82 b) = 0) 0 (D 70 ((D 82 b) - 1))), vu, vu, vu, vu, vu, vu] [vr 70] (D, SS L 1 2 c3 c4 c5 c6) Q from vc_wp [31] 200 _ _ _ _ _ _ (show (0 ≤ D 82 b ∧ D 82 b < D 70 (-1)) ∧ (wp 84 31 [vr 79, vi b, vi (D 82 b), vi (cit ((D 82 b) = 0) 0 (D 70 ((D 82 b) - 1))), vi (D 70 (D 82 b)), vu, vu, vu, vu, vu] [vr 197] (D, SS L 1 2 c3 c4 c5 c6) Q) from ⟨H.2.2.1, vc_wp [39] 200 _ _ _ _ _ _ (show wp 84 39 [vr 79, vi b, vi (D 82 b), vi (cit ((D 82 b) = 0) 0 (D 70 ((D 82 b) - 1))), vi (D 70 (D 82 b)), vi (D 197 17), vi (cit ((D 82 b) = 0) 0 (D 70 ((D 82 b) - 1))), vu, vu, vu] [] (D, SS L 1 2 c3 c4 c5 c6) Q from H.2.2.2)⟩)))))⟩⟩))
theorem r84_39 {L c3 c4 c5 c6 : Nat} {K : TK} {D : Dt} {Q : Out → Wd → Prop} {b m fr to en se : Int} (H : ((se < to → ((0 ≤ se ∧ se < D 74 (-1)) ∧ ((D 74 se = 2 → (((-2147483648) ≤ en + 1 ∧ en + 1 ≤ 2147483647) ∧ (wp 84 66 [vr 79, vi b, vi m, vi fr, vi to, vi (en + 1), vi se, vu, vu, vu] [] (D, SS L 1 2 c3 c4 c5 c6) Q))) ∧ (¬ (D 74 se = 2) → (wp 84 66 [vr 79, vi b, vi m, vi fr, vi to, vi en, vi se, vu, vu, vu] [] (D, SS L 1 2 c3 c4 c5 c6) Q))))) ∧ (¬ (se < to) → (∃ (ln4 : List Int), (LNp K ln4 fr D ∧ to = fr + ln4.length ∧ 0 ≤ fr ∧ fr ≤ 4000 ∧ ln4.length ≤ 4000 ∧ (∀ x ∈ ln4, 0 ≤ x ∧ x < K.n) ∧ RowOK (D 83) (D 84) ∧ RowOK (D 85) (D 86) ∧ 0 ≤ D 197 17 ∧ D 197 17 ≤ 1024) ∧ ((∀ (E6 : Dt), (FrV D E6 ∧ LbS K (lbT K ln4) (lbP K ln4 (D 197 17)) E6) → ((0 ≤ b ∧ b < 48) ∧ (wp 84 101 [vr 79, vi b, vi m, vu, vi to, vi en, vi 0, vi fr, vu, vu] [] (up E6 210 b (E6 197 17), SS L 1 2 c3 c4 c5 c6) Q)))))))) : wp 84 39 [vr 79, vi b, vi m, vi fr, vi to, vi en, vi se, vu, vu, vu] [] (D, SS L 1 2 c3 c4 c5 c6) Q := vc_wp [50] 200 _ _ _ _ _ _ (show ((se < to → (wp 84 50 [vr 79, vi b, vi m, vi fr, vi to, vi en, vi se, vu, vu, vu] [vr 58] (D, SS L 1 2 c3 c4 c5 c6) Q)) ∧ (¬ (se < to) → (wp 86 0 [vr 79, vi fr, vi to, vu, vu] [] (D, SS L 1 2 c3 c4 c5 c6) (aft wp 84 76 [vr 79, vi b, vi m, vi fr, vi to, vi en, vi se, vu, vu, vu] [] Q)))) from ⟨fun h8 => vc_wp [53] 200 _ _ _ _ _ _ (show wp 84 53 [vr 79, vi b, vi m, vi fr, vi to, vi en, vi se, vu, vu, vu] [vr 73] (D, SS L 1 2 c3 c4 c5 c6) Q from vc_wp [56] 200 _ _ _ _ _ _ (show wp 84 56 [vr 79, vi b, vi m, vi fr, vi to, vi en, vi se, vu, vu, vu] [vr 74] (D, SS L 1 2 c3 c4 c5 c6) Q from vc_wp [66] 200 _ _ _ _ _ _ (show (0 ≤ se ∧ se < D 74 (-1)) ∧ ((D 74 se = 2 → (wp 84 66 [vr 79, vi b, vi m, vi fr, vi to, vi (w32 (en + 1)), vi se, vu, vu, vu] [] (D, SS L 1 2 c3 c4 c5 c6) Q)) ∧ (¬ (D 74 se = 2) → (wp 84 66 [vr 79, vi b, vi m, vi fr, vi to, vi en, vi se, vu, vu, vu] [] (D, SS L 1 2 c3 c4 c5 c6) Q))) from ⟨(H.1 h8).1, ⟨fun h2 => w32_i (fun z1 : Int => wp 84 66 [vr 79, vi b, vi m, vi fr, vi to, vi z1, vi se, vu, vu, vu] [] (D, SS L 1 2 c3 c4 c5 c6) Q) (((H.1 h8).2.1 h2)).1 ((((H.1 h8).2.1 h2)).2), fun h3 => ((H.1 h8).2.2 h3)⟩⟩))), fun h9 => Exists.elim ((H.2 h9)) fun ln4 x5 => s86 ⟨ln4, x5.1, (fun E6 q7 => (show wp 84 79 [vr 79, vi b, vi m, vi fr, vi to, vi en, vi se, vu, vu, vu] [] (E6, SS L 1 2 c3 c4 c5 c6) Q from vc_wp [83] 200 _ _ _ _ _ _ (show wp 84 83 [vr 79, vi b, vi m, vi fr, vi to, vi en, vi se, vu, vu, vu] [vr 197] (E6, SS L 1 2 c3 c4 c5 c6) Q from vc_wp [86] 200 _ _ _ _ _ _ (show wp 84 86 [vr 79, vi b, vi m, vi fr, vi to, vi en, vi se, vu, vu, vu] [vr 210] (E6, SS L 1 2 c3 c4 c5 c6) Q from vc_wp [91] 200 _ _ _ _ _ _ (show wp 84 91 [vr 79, vi b, vi m, vi fr, vi to, vi en, vi se, vu, vu, vu] [vr 197, vi b, vr 210] (E6, SS L 1 2 c3 c4 c5 c6) Q from vc_wp [101] 200 _ _ _ _ _ _ (show (0 ≤ b ∧ b < 48) ∧ (wp 84 101 [vr 79, vi b, vi m, vi fr, vi to, vi en, vi 0, vi fr, vu, vu] [] (up E6 210 b (E6 197 17), SS L 1 2 c3 c4 c5 c6) Q) from ⟨(x5.2 E6 q7).1, wp_d (Lle.k rfl (Lle.k rfl (Lle.k rfl (Lle.v rfl (Lle.k rfl (Lle.k rfl (Lle.k rfl (Lle.k rfl (Lle.k rfl (Lle.k rfl (Lle.nil))))))))))) ((x5.2 E6 q7).2)⟩))))))⟩⟩)
theorem r84_66 {L c3 c4 c5 c6 : Nat} {K : TK} {D : Dt} {Q : Out → Wd → Prop} {b m fr to en se : Int} (H : ((-2147483648) ≤ se + 1 ∧ se + 1 ≤ 2147483647) ∧ (wp 84 39 [vr 79, vi b, vi m, vi fr, vi to, vi en, vi (se + 1), vu, vu, vu] [] (D, SS L 1 2 c3 c4 c5 c6) Q)) : wp 84 66 [vr 79, vi b, vi m, vi fr, vi to, vi en, vi se, vu, vu, vu] [] (D, SS L 1 2 c3 c4 c5 c6) Q := vc_wp [69] 200 _ _ _ _ _ _ (show wp 84 69 [vr 79, vi b, vi m, vi fr, vi to, vi en, vi (w32 (se + 1)), vu, vu, vu] [] (D, SS L 1 2 c3 c4 c5 c6) Q from w32_i (fun z1 : Int => wp 84 69 [vr 79, vi b, vi m, vi fr, vi to, vi en, vi z1, vu, vu, vu] [] (D, SS L 1 2 c3 c4 c5 c6) Q) (H).1 (vc_wp [39] 200 _ _ _ _ _ _ (show wp 84 39 [vr 79, vi b, vi m, vi fr, vi to, vi en, vi (se + 1), vu, vu, vu] [] (D, SS L 1 2 c3 c4 c5 c6) Q from (H).2)))
theorem r84_101 {L c3 c4 c5 c6 : Nat} {K : TK} {D : Dt} {Q : Out → Wd → Prop} {b m to en se l : Int} (H : ((l < to → ((0 ≤ l ∧ l < D 76 (-1)) ∧ ((0 ≤ l ∧ l < D 74 (-1)) ∧ ((D 74 l = 0 → (wp 84 142 [vr 79, vi b, vi m, vu, vi to, vi en, vi se, vi l, vi (D 76 l), vi 0] [] (D, SS L 1 2 c3 c4 c5 c6) Q)) ∧ (¬ (D 74 l = 0) → ((0 ≤ l ∧ l < D 74 (-1)) ∧ ((D 74 l = 1 → (∃ (xc1 : List Int × List Int × List Int × List Int), (SKp K (D 54) (D 55) (D 56) (D 57) (D 224) ∧ CS K xc1.1 (D 197 0) (D 60) ∧ (ABp (D 198) xc1.2.1 ∧ ABw xc1.2.1 ∧ xc1.2.1.length ≤ 24 ∧ xc1.1.length = xc1.2.1.length) ∧ LbS K xc1.2.2.1 xc1.2.2.2 D ∧ 0 ≤ D 197 26 ∧ 0 ≤ (D 76 l) ∧ (D 76 l) + 4 < K.n ∧ K.n ≤ 4000) ∧ ((((cfa K xc1.1 xc1.2.1 xc1.2.2.1 xc1.2.2.2 (D 197 26) en (D 76 l)).1 = true) → (wp 84 244 [vr 79, vi b, vi m, vu, vi to, vi en, vi se, vi l, vu, vu] [] (up (up (up (up (up D 219 (D 197 26) (labA K xc1.2.2.1 xc1.2.2.2 ((D 76 l) + 1))) 220 (D 197 26) (labA K xc1.2.2.1 xc1.2.2.2 ((D 76 l) + 2))) 221 (D 197 26) (labA K xc1.2.2.1 xc1.2.2.2 ((D 76 l) + 3))) 222 (D 197 26) (clsT K xc1.1 ((D 76 l) + 4))) 197 26 (D 197 26 + 1), SS L 1 2 c3 c4 c5 c6) Q)) ∧ ((¬ (cfa K xc1.1 xc1.2.1 xc1.2.2.1 xc1.2.2.2 (D 197 26) en (D 76 l)).1 = true) → (Q (.inr 52) (up (up D 51 1 3) 51 2 ((cfa K xc1.1 xc1.2.1 xc1.2.2.1 xc1.2.2.2 (D 197 26) en (D 76 l)).2), SS L 1 2 c3 c4 c5 c6)))))) ∧ (¬ (D 74 l = 1) → ((0 ≤ l ∧ l < D 78 (-1)) ∧ (∃ (xi5 : List Int × List Int × XB × List Int × List Int × XB), (LW K xi5.1 xi5.2.1 xi5.2.2.1 D ∧ LbS K xi5.2.2.2.1 xi5.2.2.2.2.1 D ∧ CdS xi5.2.2.2.2.2 D ∧ YLn xi5.2.2.2.2.2 ∧ 0 ≤ (D 76 l) ∧ (D 76 l) ≤ 4000 ∧ oSy K (D 78 l) ((D 76 l) + 1) ∧ 0 ≤ b ∧ b < (xi5.2.2.1 4).length) ∧ ((∀ (E7 : Dt), ((ifa K xi5.1 xi5.2.1 xi5.2.2.1 xi5.2.2.2.1 xi5.2.2.2.2.1 b en xi5.2.2.2.2.2 (D 78 l) (D 76 l)).1 = true ∧ FrI D E7 ∧ CdS (iY K xi5.1 xi5.2.1 xi5.2.2.1 xi5.2.2.2.1 xi5.2.2.2.2.1 b xi5.2.2.2.2.2 (D 78 l) (D 76 l)) E7) → (wp 84 244 [vr 79, vi b, vi m, vu, vi to, vi en, vi se, vi l, vu, vu] [] (E7, SS L 1 2 c3 c4 c5 c6) Q)) ∧ (∀ (E9 : Dt), (¬ (ifa K xi5.1 xi5.2.1 xi5.2.2.1 xi5.2.2.2.1 xi5.2.2.2.2.1 b en xi5.2.2.2.2.2 (D 78 l) (D 76 l)).1 = true ∧ FrK D E9) → (Q (.inr 52) (up (up E9 51 1 3) 51 2 ((ifa K xi5.1 xi5.2.1 xi5.2.2.1 xi5.2.2.2.1 xi5.2.2.2.2.1 b en xi5.2.2.2.2.2 (D 78 l) (D 76 l)).2), SS L 1 2 c3 c4 c5 c6)))))))))))))) ∧ (¬ (l < to) → ((0 ≤ b ∧ b < 48) ∧ ((0 ≤ b ∧ b < 48) ∧ ((D 210 b < D 197 17 → (((-2147483648) ≤ (D 197 17) - 1 ∧ (D 197 17) - 1 ≤ 2147483647) ∧ ((0 ≤ ((D 197 17) - 1) ∧ ((D 197 17) - 1) < 1024) ∧ ((((goOn (D 212 ((D 197 17) - 1)) → ((0 ≤ m ∧ m < D 72 (-1)) ∧ (Q (.inr 52) (up (up (up D 211 b (D 197 17)) 51 1 3) 51 2 (D 72 m), SS L 1 2 c3 c4 c5 c6)))) ∧ (¬ (goOn (D 212 ((D 197 17) - 1))) → ((0 ≤ m ∧ m < D 72 (-1)) ∧ (Q (.inl []) (up D 211 b (D 197 17), SS L 1 2 c3 c4 c5 c6)))))))))) ∧ (¬ (D 210 b < D 197 17) → ((0 ≤ m ∧ m < D 72 (-1)) ∧ (Q (.inr 52) (up (up (up D 211 b (D 197 17)) 51 1 3) 51 2 (D 72 m), SS L 1 2 c3 c4 c5 c6)))))))))) : wp 84 101 [vr 79, vi b, vi m, vu, vi to, vi en, vi se, vi l, vu, vu] [] (D, SS L 1 2 c3 c4 c5 c6) Q := vc_wp [112, 254] 200 _ _ _ _ _ _ (show ((l < to → (wp 84 112 [vr 79, vi b, vi m, vu, vi to, vi en, vi se, vi l, vu, vu] [vr 58] (D, SS L 1 2 c3 c4 c5 c6) Q)) ∧ (¬ (l < to) → (wp 84 254 [vr 79, vi b, vi m, vu, vi to, vi en, vi se, vi l, vu, vu] [vr 197] (D, SS L 1 2 c3 c4 c5 c6) Q))) from ⟨fun h28 => vc_wp [115] 200 _ _ _ _ _ _ (show wp 84 115 [vr 79, vi b, vi m, vu, vi to, vi en, vi se, vi l, vu, vu] [vr 75] (D, SS L 1 2 c3 c4 c5 c6) Q from vc_wp [118] 200 _ _ _ _ _ _ (show wp 84 118 [vr 79, vi b, vi m, vu, vi to, vi en, vi se, vi l, vu, vu] [vr 76] (D, SS L 1 2 c3 c4 c5 c6) Q from vc_wp [127] 200 _ _ _ _ _ _ (show (0 ≤ l ∧ l < D 76 (-1)) ∧ (wp 84 127 [vr 79, vi b, vi m, vu, vi to, vi en, vi se, vi l, vi (D 76 l), vu] [vr 58] (D, SS L 1 2 c3 c4 c5 c6) Q) from ⟨(H.1 h28).1, vc_wp [130] 200 _ _ _ _ _ _ (show wp 84 130 [vr 79, vi b, vi m, vu, vi to, vi en, vi se, vi l, vi (D 76 l), vu] [vr 73] (D, SS L 1 2 c3 c4 c5 c6) Q from vc_wp [133] 200 _ _ _ _ _ _ (show wp 84 133 [vr 79, vi b, vi m, vu, vi to, vi en, vi se, vi l, vi (D 76 l), vu] [vr 74] (D, SS L 1 2 c3 c4 c5 c6) Q from vc_wp [142, 198] 200 _ _ _ _ _ _ (show (0 ≤ l ∧ l < D 74 (-1)) ∧ ((D 74 l = 0 → (wp 84 142 [vr 79, vi b, vi m, vu, vi to, vi en, vi se, vi l, vi (D 76 l), vi 0] [] (D, SS L 1 2 c3 c4 c5 c6) Q)) ∧ (¬ (D 74 l = 0) → (wp 84 198 [vr 79, vi b, vi m, vu, vi to, vi en, vi se, vi l, vi (D 76 l), vu] [vr 58] (D, SS L 1 2 c3 c4 c5 c6) Q))) from ⟨(H.1 h28).2.1, ⟨fun h13 => ((H.1 h28).2.2.1 h13), fun h14 => vc_wp [201] 200 _ _ _ _ _ _ (show wp 84 201 [vr 79, vi b, vi m, vu, vi to, vi en, vi se, vi l, vi (D 76 l), vu] [vr 73] (D, SS L 1 2 c3 c4 c5 c6) Q from vc_wp [204] 200 _ _ _ _ _ _ (show wp 84 204 [vr 79, vi b, vi m, vu, vi to, vi en, vi se, vi l, vi (D 76 l), vu] [vr 74] (D, SS L 1 2 c3 c4 c5 c6) Q from vc_wp [230] 200 _ _ _ _ _ _ (show (0 ≤ l ∧ l < D 74 (-1)) ∧ ((D 74 l = 1 → (wp 87 0 [vr 79, vi (D 76 l), vi en, vu, vu, vu, vu, vu] [] (D, SS L 1 2 c3 c4 c5 c6) (aft wp 84 216 [vr 79, vi b, vi m, vu, vi to, vi en, vi se, vi l, vi (D 76 l), vu] [] Q))) ∧ (¬ (D 74 l = 1) → (wp 84 230 [vr 79, vi b, vi m, vu, vi to, vi en, vi se, vi l, vi (D 76 l), vu] [vr 58, vi (D 76 l), vi b, vr 79] (D, SS L 1 2 c3 c4 c5 c6) Q))) from ⟨((H.1 h28).2.2.2 h14).1, ⟨fun h11 => Exists.elim ((((H.1 h28).2.2.2 h14).2.1 h11)) fun xc1 x2 => s87 ⟨xc1, x2.1, (fun q3 => (show wp 84 219 [vr 79, vi b, vi m, vu, vi to, vi en, vi se, vi l, vi (D 76 l), vu] [] (up (up (up (up (up D 219 (D 197 26) (labA K xc1.2.2.1 xc1.2.2.2 ((D 76 l) + 1))) 220 (D 197 26) (labA K xc1.2.2.1 xc1.2.2.2 ((D 76 l) + 2))) 221 (D 197 26) (labA K xc1.2.2.1 xc1.2.2.2 ((D 76 l) + 3))) 222 (D 197 26) (clsT K xc1.1 ((D 76 l) + 4))) 197 26 (D 197 26 + 1), SS L 1 2 c3 c4 c5 c6) Q from vc_wp [244] 200 _ _ _ _ _ _ (show wp 84 244 [vr 79, vi b, vi m, vu, vi to, vi en, vi se, vi l, vi (D 76 l), vu] [] (up (up (up (up (up D 219 (D 197 26) (labA K xc1.2.2.1 xc1.2.2.2 ((D 76 l) + 1))) 220 (D 197 26) (labA K xc1.2.2.1 xc1.2.2.2 ((D 76 l) + 2))) 221 (D 197 26) (labA K xc1.2.2.1 xc1.2.2.2 ((D 76 l) + 3))) 222 (D 197 26) (clsT K xc1.1 ((D 76 l) + 4))) 197 26 (D 197 26 + 1), SS L 1 2 c3 c4 c5 c6) Q from wp_d (Lle.k rfl (Lle.k rfl (Lle.k rfl (Lle.k rfl (Lle.k rfl (Lle.k rfl (Lle.k rfl (Lle.k rfl (Lle.v rfl (Lle.k rfl (Lle.nil))))))))))) ((x2.2.1 q3))))), (fun q4 => (show Q (.inr 52) (up (up D 51 1 3) 51 2 ((cfa K xc1.1 xc1.2.1 xc1.2.2.1 xc1.2.2.2 (D 197 26) en (D 76 l)).2), SS L 1 2 c3 c4 c5 c6) from (x2.2.2 q4)))⟩, fun h12 => vc_wp [233] 200 _ _ _ _ _ _ (show wp 84 233 [vr 79, vi b, vi m, vu, vi to, vi en, vi se, vi l, vi (D 76 l), vu] [vr 77, vi (D 76 l), vi b, vr 79] (D, SS L 1 2 c3 c4 c5 c6) Q from vc_wp [236] 200 _ _ _ _ _ _ (show wp 84 236 [vr 79, vi b, vi m, vu, vi to, vi en, vi se, vi l, vi (D 76 l), vu] [vr 78, vi (D 76 l), vi b, vr 79] (D, SS L 1 2 c3 c4 c5 c6) Q from vc_wp [] 200 _ _ _ _ _ _ (show (0 ≤ l ∧ l < D 78 (-1)) ∧ (wp 89 0 [vr 79, vi b, vi (D 76 l), vi (D 78 l), vi en, vu, vu] [] (D, SS L 1 2 c3 c4 c5 c6) (aft wp 84 241 [vr 79, vi b, vi m, vu, vi to, vi en, vi se, vi l, vi (D 76 l), vu] [] Q)) from ⟨(((H.1 h28).2.2.2 h14).2.2 h12).1, Exists.elim ((((H.1 h28).2.2.2 h14).2.2 h12).2) fun xi5 x6 => s89 ⟨xi5, x6.1, (fun E7 q8 => (show wp 84 244 [vr 79, vi b, vi m, vu, vi to, vi en, vi se, vi l, vi (D 76 l), vu] [] (E7, SS L 1 2 c3 c4 c5 c6) Q from wp_d (Lle.k rfl (Lle.k rfl (Lle.k rfl (Lle.k rfl (Lle.k rfl (Lle.k rfl (Lle.k rfl (Lle.k rfl (Lle.v rfl (Lle.k rfl (Lle.nil))))))))))) ((x6.2.1 E7 q8)))), (fun E9 q10 => (show Q (.inr 52) (up (up E9 51 1 3) 51 2 ((ifa K xi5.1 xi5.2.1 xi5.2.2.1 xi5.2.2.2.1 xi5.2.2.2.2.1 b en xi5.2.2.2.2.2 (D 78 l) (D 76 l)).2), SS L 1 2 c3 c4 c5 c6) from (x6.2.2 E9 q10)))⟩⟩)))⟩⟩)))⟩⟩)))⟩))), fun h29 => vc_wp [257] 200 _ _ _ _ _ _ (show wp 84 257 [vr 79, vi b, vi m, vu, vi to, vi en, vi se, vi l, vu, vu] [vr 211] (D, SS L 1 2 c3 c4 c5 c6) Q from vc_wp [262] 200 _ _ _ _ _ _ (show wp 84 262 [vr 79, vi b, vi m, vu, vi to, vi en, vi se, vi l, vu, vu] [vr 197, vi b, vr 211] (D, SS L 1 2 c3 c4 c5 c6) Q from vc_wp [271] 200 _ _ _ _ _ _ (show (0 ≤ b ∧ b < 48) ∧ (wp 84 271 [vr 79, vi b, vi m, vu, vi to, vi en, vi se, vi l, vu, vu] [vr 197, vr 79] (up D 211 b (D 197 17), SS L 1 2 c3 c4 c5 c6) Q) from ⟨(H.2 h29).1, vc_wp [278] 200 _ _ _ _ _ _ (show wp 84 278 [vr 79, vi b, vi m, vu, vi to, vi en, vi se, vi l, vu, vu] [vr 197, vi (D 197 17), vr 79] (up D 211 b (D 197 17), SS L 1 2 c3 c4 c5 c6) Q from vc_wp [281] 200 _ _ _ _ _ _ (show wp 84 281 [vr 79, vi b, vi m, vu, vi to, vi en, vi se, vi l, vu, vu] [vr 210, vi (D 197 17), vr 79] (up D 211 b (D 197 17), SS L 1 2 c3 c4 c5 c6) Q from vc_wp [290, 314] 200 _ _ _ _ _ _ (show (0 ≤ b ∧ b < 48) ∧ ((D 210 b < D 197 17 → (wp 84 290 [vr 79, vi b, vi m, vu, vi to, vi en, vi se, vi l, vu, vu] [vr 197, vr 79] (up D 211 b (D 197 17), SS L 1 2 c3 c4 c5 c6) Q)) ∧ (¬ (D 210 b < D 197 17) → (wp 84 314 [vr 79, vi b, vi m, vu, vi to, vi en, vi se, vi l, vu, vu] [vr 58, vi 0, vr 79] (up D 211 b (D 197 17), SS L 1 2 c3 c4 c5 c6) Q))) from ⟨(H.2 h29).2.1, ⟨fun h26 => vc_wp [294] 200 _ _ _ _ _ _ (show wp 84 294 [vr 79, vi b, vi m, vu, vi to, vi en, vi se, vi l, vu, vu] [vr 197, vr 197, vr 79] (up D 211 b (D 197 17), SS L 1 2 c3 c4 c5 c6) Q from vc_wp [299] 200 _ _ _ _ _ _ (show wp 84 299 [vr 79, vi b, vi m, vu, vi to, vi en, vi se, vi l, vu, vu] [vi (w32 ((D 197 17) - 1)), vr 197, vr 79] (up D 211 b (D 197 17), SS L 1 2 c3 c4 c5 c6) Q from w32_i (fun z23 : Int => wp 84 299 [vr 79, vi b, vi m, vu, vi to, vi en, vi se, vi l, vu, vu] [vi z23, vr 197, vr 79] (up D 211 b (D 197 17), SS L 1 2 c3 c4 c5 c6) Q) (((H.2 h29).2.2.1 h26)).1 (vc_wp [] 200 _ _ _ _ _ _ (show wp 217 0 [vr 197, vi ((D 197 17) - 1)] [] (up D 211 b (D 197 17), SS L 1 2 c3 c4 c5 c6) (aft wp 84 299 [vr 79, vi b, vi m, vu, vi to, vi en, vi se, vi l, vu, vu] [vr 79] Q) from s217 ⟨(((H.2 h29).2.2.1 h26)).2.1, (show wp 84 302 [vr 79, vi b, vi m, vu, vi to, vi en, vi se, vi l, vu, vu] [vi (ib (goOn (D 212 ((D 197 17) - 1)))), vr 79] (up D 211 b (D 197 17), SS L 1 2 c3 c4 c5 c6) Q from vc_wp [314] 200 _ _ _ _ _ _ (show ((ib (goOn (D 212 ((D 197 17) - 1))) = 0 → (wp 84 314 [vr 79, vi b, vi m, vu, vi to, vi en, vi se, vi l, vu, vu] [vr 58, vi 1, vr 79] (up D 211 b (D 197 17), SS L 1 2 c3 c4 c5 c6) Q)) ∧ (¬ (ib (goOn (D 212 ((D 197 17) - 1))) = 0) → (wp 84 314 [vr 79, vi b, vi m, vu, vi to, vi en, vi se, vi l, vu, vu] [vr 58, vi 0, vr 79] (up D 211 b (D 197 17), SS L 1 2 c3 c4 c5 c6) Q))) from ⟨fun h21 => vc_wp [317] 200 _ _ _ _ _ _ (show wp 84 317 [vr 79, vi b, vi m, vu, vi to, vi en, vi se, vi l, vu, vu] [vr 71, vi 1, vr 79] (up D 211 b (D 197 17), SS L 1 2 c3 c4 c5 c6) Q from vc_wp [320] 200 _ _ _ _ _ _ (show wp 84 320 [vr 79, vi b, vi m, vu, vi to, vi en, vi se, vi l, vu, vu] [vr 72, vi 1, vr 79] (up D 211 b (D 197 17), SS L 1 2 c3 c4 c5 c6) Q from vc_wp [] 200 _ _ _ _ _ _ (show (0 ≤ m ∧ m < D 72 (-1)) ∧ (wp 72 0 [vr 79, vi 1, vi (D 72 m)] [] (up D 211 b (D 197 17), SS L 1 2 c3 c4 c5 c6) (aft wp 84 322 [vr 79, vi b, vi m, vu, vi to, vi en, vi se, vi l, vu, vu] [] Q)) from ⟨((((H.2 h29).2.2.1 h26)).2.2.2 ((ib_z).mp h21)).1, y72 (show wp 84 325 [vr 79, vi b, vi m, vu, vi to, vi en, vi se, vi l, vu, vu] [] (up D 211 b (D 197 17), SS L 1 2 c3 c4 c5 c6) Q from vc_wp [] 200 _ _ _ _ _ _ (show Q (.inl []) (up D 211 b (D 197 17), SS L 1 2 c3 c4 c5 c6) from ((((H.2 h29).2.2.1 h26)).2.2.2 ((ib_z).mp h21)).2))⟩))), fun h22 => vc_wp [317] 200 _ _ _ _ _ _ (show wp 84 317 [vr 79, vi b, vi m, vu, vi to, vi en, vi se, vi l, vu, vu] [vr 71, vi 0, vr 79] (up D 211 b (D 197 17), SS L 1 2 c3 c4 c5 c6) Q from vc_wp [320] 200 _ _ _ _ _ _ (show wp 84 320 [vr 79, vi b, vi m, vu, vi to, vi en, vi se, vi l, vu, vu] [vr 72, vi 0, vr 79] (up D 211 b (D 197 17), SS L 1 2 c3 c4 c5 c6) Q from vc_wp [] 200 _ _ _ _ _ _ (show (0 ≤ m ∧ m < D 72 (-1)) ∧ (wp 72 0 [vr 79, vi 0, vi (D 72 m)] [] (up D 211 b (D 197 17), SS L 1 2 c3 c4 c5 c6) (aft wp 84 322 [vr 79, vi b, vi m, vu, vi to, vi en, vi se, vi l, vu, vu] [] Q)) from ⟨((((H.2 h29).2.2.1 h26)).2.2.1 (Classical.not_not.mp (mt (ib_z).mpr h22))).1, n72 (show Q (.inr 52) (up (up (up D 211 b (D 197 17)) 51 1 3) 51 2 (D 72 m), SS L 1 2 c3 c4 c5 c6) from ((((H.2 h29).2.2.1 h26)).2.2.1 (Classical.not_not.mp (mt (ib_z).mpr h22))).2)⟩)))⟩))⟩)))), fun h27 => vc_wp [317] 200 _ _ _ _ _ _ (show wp 84 317 [vr 79, vi b, vi m, vu, vi to, vi en, vi se, vi l, vu, vu] [vr 71, vi 0, vr 79] (up D 211 b (D 197 17), SS L 1 2 c3 c4 c5 c6) Q from vc_wp [320] 200 _ _ _ _ _ _ (show wp 84 320 [vr 79, vi b, vi m, vu, vi to, vi en, vi se, vi l, vu, vu] [vr 72, vi 0, vr 79] (up D 211 b (D 197 17), SS L 1 2 c3 c4 c5 c6) Q from vc_wp [] 200 _ _ _ _ _ _ (show (0 ≤ m ∧ m < D 72 (-1)) ∧ (wp 72 0 [vr 79, vi 0, vi (D 72 m)] [] (up D 211 b (D 197 17), SS L 1 2 c3 c4 c5 c6) (aft wp 84 322 [vr 79, vi b, vi m, vu, vi to, vi en, vi se, vi l, vu, vu] [] Q)) from ⟨((H.2 h29).2.2.2 h27).1, n72 (show Q (.inr 52) (up (up (up D 211 b (D 197 17)) 51 1 3) 51 2 (D 72 m), SS L 1 2 c3 c4 c5 c6) from ((H.2 h29).2.2.2 h27).2)⟩)))⟩⟩)))⟩)))⟩)
theorem r84_142 {L c3 c4 c5 c6 : Nat} {K : TK} {D : Dt} {Q : Out → Wd → Prop} {b m to en se l tk k : Int} (H : ((k < se → ((0 ≤ k ∧ k < D 84 (-1)) ∧ ((SKp K (D 54) (D 55) (D 56) (D 57) (D 224) ∧ 0 ≤ (D 84 k) ∧ (D 84 k) < K.n ∧ 0 ≤ tk ∧ tk < K.n) ∧ ((((K.same (D 84 k) tk → (Q (.inr 52) (up (up D 51 1 3) 51 2 tk, SS L 1 2 c3 c4 c5 c6))) ∧ (¬ (K.same (D 84 k) tk) → (((-2147483648) ≤ k + 1 ∧ k + 1 ≤ 2147483647) ∧ (wp 84 142 [vr 79, vi b, vi m, vu, vi to, vi en, vi se, vi l, vi tk, vi (k + 1)] [] (D, SS L 1 2 c3 c4 c5 c6) Q))))))))) ∧ (¬ (k < se) → (((-2147483648) ≤ se + 1 ∧ se + 1 ≤ 2147483647) ∧ (wp 84 244 [vr 79, vi b, vi m, vu, vi to, vi en, vi (se + 1), vi l, vu, vu] [] (D, SS L 1 2 c3 c4 c5 c6) Q))))) : wp 84 142 [vr 79, vi b, vi m, vu, vi to, vi en, vi se, vi l, vi tk, vi k] [] (D, SS L 1 2 c3 c4 c5 c6) Q := vc_wp [154, 191] 200 _ _ _ _ _ _ (show ((k < se → (wp 84 154 [vr 79, vi b, vi m, vu, vi to, vi en, vi se, vi l, vi tk, vi k] [vr 53, vr 79] (D, SS L 1 2 c3 c4 c5 c6) Q)) ∧ (¬ (k < se) → (wp 84 191 [vr 79, vi b, vi m, vu, vi to, vi en, vi (w32 (se + 1)), vi l, vi tk, vi k] [] (D, SS L 1 2 c3 c4 c5 c6) Q))) from ⟨fun h11 => vc_wp [158] 200 _ _ _ _ _ _ (show wp 84 158 [vr 79, vi b, vi m, vu, vi to, vi en, vi se, vi l, vi tk, vi k] [vr 83, vr 53, vr 79] (D, SS L 1 2 c3 c4 c5 c6) Q from vc_wp [161] 200 _ _ _ _ _ _ (show wp 84 161 [vr 79, vi b, vi m, vu, vi to, vi en, vi se, vi l, vi tk, vi k] [vr 84, vr 53, vr 79] (D, SS L 1 2 c3 c4 c5 c6) Q from vc_wp [] 200 _ _ _ _ _ _ (show (0 ≤ k ∧ k < D 84 (-1)) ∧ (wp 54 0 [vr 53, vi (D 84 k), vi tk] [] (D, SS L 1 2 c3 c4 c5 c6) (aft wp 84 166 [vr 79, vi b, vi m, vu, vi to, vi en, vi se, vi l, vi tk, vi k] [vr 79] Q)) from ⟨(H.1 h11).1, k54 ⟨(H.1 h11).2.1, (show wp 84 169 [vr 79, vi b, vi m, vu, vi to, vi en, vi se, vi l, vi tk, vi k] [vi (ib (K.same (D 84 k) tk)), vr 79] (D, SS L 1 2 c3 c4 c5 c6) Q from vc_wp [] 200 _ _ _ _ _ _ (show ((ib (K.same (D 84 k) tk) = 0 → (wp 72 0 [vr 79, vi 1, vi tk] [] (D, SS L 1 2 c3 c4 c5 c6) (aft wp 84 179 [vr 79, vi b, vi m, vu, vi to, vi en, vi se, vi l, vi tk, vi k] [] Q))) ∧ (¬ (ib (K.same (D 84 k) tk) = 0) → (wp 72 0 [vr 79, vi 0, vi tk] [] (D, SS L 1 2 c3 c4 c5 c6) (aft wp 84 179 [vr 79, vi b, vi m, vu, vi to, vi en, vi se, vi l, vi tk, vi k] [] Q)))) from ⟨fun h8 => y72 (show wp 84 182 [vr 79, vi b, vi m, vu, vi to, vi en, vi se, vi l, vi tk, vi k] [] (D, SS L 1 2 c3 c4 c5 c6) Q from vc_wp [185] 200 _ _ _ _ _ _ (show wp 84 185 [vr 79, vi b, vi m, vu, vi to, vi en, vi se, vi l, vi tk, vi (w32 (k + 1))] [] (D, SS L 1 2 c3 c4 c5 c6) Q from w32_i (fun z5 : Int => wp 84 185 [vr 79, vi b, vi m, vu, vi to, vi en, vi se, vi l, vi tk, vi z5] [] (D, SS L 1 2 c3 c4 c5 c6) Q) (((H.1 h11).2.2.2 ((ib_z).mp h8))).1 (vc_wp [142] 200 _ _ _ _ _ _ (show wp 84 142 [vr 79, vi b, vi m, vu, vi to, vi en, vi se, vi l, vi tk, vi (k + 1)] [] (D, SS L 1 2 c3 c4 c5 c6) Q from (((H.1 h11).2.2.2 ((ib_z).mp h8))).2)))), fun h9 => n72 (show Q (.inr 52) (up (up D 51 1 3) 51 2 tk, SS L 1 2 c3 c4 c5 c6) from ((H.1 h11).2.2.1 (Classical.not_not.mp (mt (ib_z).mpr h9))))⟩))⟩⟩))), fun h12 => w32_i (fun z10 : Int => wp 84 191 [vr 79, vi b, vi m, vu, vi to, vi en, vi z10, vi l, vi tk, vi k] [] (D, SS L 1 2 c3 c4 c5 c6) Q) ((H.2 h12)).1 (vc_wp [244] 200 _ _ _ _ _ _ (show wp 84 244 [vr 79, vi b, vi m, vu, vi to, vi en, vi (se + 1), vi l, vi tk, vi k] [] (D, SS L 1 2 c3 c4 c5 c6) Q from wp_d (Lle.k rfl (Lle.k rfl (Lle.k rfl (Lle.k rfl (Lle.k rfl (Lle.k rfl (Lle.k rfl (Lle.k rfl (Lle.v rfl (Lle.v rfl (Lle.nil))))))))))) (((H.2 h12)).2)))⟩)
theorem r84_244 {L c3 c4 c5 c6 : Nat} {K : TK} {D : Dt} {Q : Out → Wd → Prop} {b m to en se l : Int} (H : ((-2147483648) ≤ l + 1 ∧ l + 1 ≤ 2147483647) ∧ (wp 84 101 [vr 79, vi b, vi m, vu, vi to, vi en, vi se, vi (l + 1), vu, vu] [] (D, SS L 1 2 c3 c4 c5 c6) Q)) : wp 84 244 [vr 79, vi b, vi m, vu, vi to, vi en, vi se, vi l, vu, vu] [] (D, SS L 1 2 c3 c4 c5 c6) Q := vc_wp [247] 200 _ _ _ _ _ _ (show wp 84 247 [vr 79, vi b, vi m, vu, vi to, vi en, vi se, vi (w32 (l + 1)), vu, vu] [] (D, SS L 1 2 c3 c4 c5 c6) Q from w32_i (fun z1 : Int => wp 84 247 [vr 79, vi b, vi m, vu, vi to, vi en, vi se, vi z1, vu, vu] [] (D, SS L 1 2 c3 c4 c5 c6) Q) (H).1 (vc_wp [101] 200 _ _ _ _ _ _ (show wp 84 101 [vr 79, vi b, vi m, vu, vi to, vi en, vi se, vi (l + 1), vu, vu] [] (D, SS L 1 2 c3 c4 c5 c6) Q from (H).2)))
theorem l84 {L c3 c4 c5 c6 : Nat} {D : Dt} {Q : Out → Wd → Prop} {K : TK} {ns ab : List Int} {X : XB} {lt lp ln : List Int} {b m en fr to : Int} {r : PR × XB} (hn : K.n ≤ 4000) (hg : ∀ x ∈ ln, 0 ≤ x ∧ (pline K x).1 = true) (hLN : LNp K ln fr D) (hto : to = fr + ln.length) (hfr : 0 ≤ fr ∧ fr + ln.length ≤ 4000) (b0 : 0 ≤ b) (b1 : b < (X 4).length)
    (Hz : ∀ E, FrK D E → r.1.1 = false → Q (.inr 52) (up (up E 51 1 3) 51 2 r.1.2, SS L 1 2 c3 c4 c5 c6)) (Hk : ∀ E s, FrI D E → CdS r.2 E → r.1.1 = true → wp 84 101 [vr 79, vi b, vi m, vu, vi to, vi en, vi s, vi to, vu, vu] [] (E, SS L 1 2 c3 c4 c5 c6) Q) :
    ∀ (M i : Nat) (s : Int) (E : Dt) (Y : XB) (pre : List Int), ln.length - i = M → i ≤ ln.length → FrI D E → LW K ns ab X E → LbS K lt lp E → CdS Y E → YLn Y → lt = pre ++ lbT K (ln.drop i) → (pre.length : Int) = s → r = lnR K ns ab X lt lp b en (ln.drop i) s Y → wp 84 101 [vr 79, vi b, vi m, vu, vi to, vi en, vi s, vi (fr + i), vu, vu] [] (E, SS L 1 2 c3 c4 c5 c6) Q := by
  intro M
  induction M with
  | zero =>
    intro i s E Y pre e hi hf hW hL hC hY elt es er
    rw [drop_z (by omega)] at er
    have er : r = ((true, 0), Y) := er
    have := Hk E s hf (by rw [er]; exact hC) (by rw [er])
    rw [show to = fr + (i : Int) by omega] at this ⊢
    exact this
  | succ M ih =>
    intro i s E Y pre e hi hf hW hL hC hY elt es er
    have hi1 : i < ln.length := by omega
    have hm := hg _ (lf_mem (l := ln) (i := i) (by omega) (by omega))
    obtain ⟨hsn, hkind⟩ := pl_of hm.2
    have hLE := hLN.k hf.k.o
    obtain ⟨⟨q74, q76, q78⟩, e74, e76, e78⟩ := hLE i (by omega) (by omega)
    rw [lf_dc hi1] at er elt
    have hlK : lf ln i < K.n := hsn.1
    obtain ⟨v1, v2, v3, v4, v5⟩ := hL
    have hnext : ∀ (s' : Int) (E' : Dt) (Y' : XB) (pre' : List Int), FrI E E' → CdS Y' E' → YLn Y' → lt = pre' ++ lbT K (ln.drop (i + 1)) → (pre'.length : Int) = s' → r = lnR K ns ab X lt lp b en (ln.drop (i + 1)) s' Y' → wp 84 244 [vr 79, vi b, vi m, vu, vi to, vi en, vi s', vi (fr + i), vu, vu] [] (E', SS L 1 2 c3 c4 c5 c6) Q := by
      intro s' E' Y' pre' f hC' hY' e1 e2 e3
      have := ih (i + 1) s' E' Y' pre' (by omega) (by omega) (hf.t f) (hW.f f) (LbS.f ⟨v1, v2, v3, v4, v5⟩ f) hC' hY' e1 e2 e3
      rw [show fr + ((i + 1 : Nat) : Int) = fr + (i : Int) + 1 by omega] at this
      exact r84_244 (K := K) ⟨by omega, this⟩
    refine r84_101 (K := K) ⟨fun _ => ?_, fun g => by omega⟩
    rw [e74, e76, e78]
    refine ⟨by omega, by omega, fun g => ?_, fun g => ⟨by omega, fun g1 => ?_, fun g1 => ⟨by omega, ?_⟩⟩⟩
    · -- a label
      have g15 := lkd_0.mp g
      have eT : lbT K (lf ln i :: ln.drop (i + 1)) = lf ln i :: lbT K (ln.drop (i + 1)) := cit_t g15
      rw [eT] at elt
      have els : lf lt s = lf ln i := by
        have := lf_app (p := pre) (l := lf ln i :: lbT K (ln.drop (i + 1))) (i := 0) (Int.le_refl _)
        rw [← elt, es, show s + 0 = s by omega] at this
        rw [this]; rfl
      have hsl : s < lt.length := by
        rw [elt, List.length_append, List.length_cons]; omega
      rw [lnR_lab g15] at er
      have h142 : ∀ (N : Nat) (k : Int), (s - k).toNat = N → 0 ≤ k → k ≤ s → (∀ j, 0 ≤ j → j < k → ¬ K.same (lf ln i) (lf lt j)) → wp 84 142 [vr 79, vi b, vi m, vu, vi to, vi en, vi s, vi (fr + i), vi (lf ln i), vi k] [] (E, SS L 1 2 c3 c4 c5 c6) Q := by
        intro N
        induction N with
        | zero =>
          intro k ek k0 k1 hk
          have hlab := labK_i (K := K) (by omega) hsl els (fun j j0 j1 => hk j j0 (by omega))
          rw [cit_t hlab] at er
          refine r84_142 (K := K) ⟨fun x => by omega, fun _ => ⟨by omega, hnext (s + 1) E Y (pre ++ [lf ln i]) (FrI.r E) hC hY ?_ ?_ er⟩⟩
          · rw [List.append_assoc]; exact elt
          · rw [len_app]; omega
        | succ N ihN =>
          intro k ek k0 k1 hk
          have h84 := lr_lf v1 k0 (by omega)
          have hkm := v4 _ (lf_mem k0 (show k < lt.length by omega))
          refine r84_142 (K := K) ?_
          rw [h84.1]
          refine ⟨fun _ => ⟨by omega, ⟨hW.1, by omega, by omega, by omega, by omega⟩, fun x => ?_, fun x => ⟨by omega, ihN (k + 1) (by omega) (by omega) (by omega) (fun j j0 j1 => ?_)⟩⟩, fun x => by omega⟩
          · have hno : ¬ labK K lt (lf ln i) = s := fun y => by
              rcases labK_b (K := K) (lt := lt) (t := lf ln i) with z | ⟨z1, z2, z3, z4⟩
              · omega
              · exact z4 k k0 (by omega) (same_s x)
            rw [cit_f hno] at er
            have := Hz E hf.k (by rw [er])
            rw [er] at this
            exact this
          · by_cases c : j < k
            · exact hk j j0 c
            · rw [show j = k by omega]; exact fun y => x (same_s y)
      exact h142 _ 0 rfl (by omega) (by omega) (fun j j0 j1 => by omega)
    · -- a catch
      have n15 : ¬ K.w (lf ln i + 1) 15 := fun x => g (lkd_0.mpr x)
      have g16 := (lkd_1 n15).mp g1
      have eT : lbT K (lf ln i :: ln.drop (i + 1)) = lbT K (ln.drop (i + 1)) := cit_f n15
      rw [eT] at elt
      rw [lnR_cat n15 g16] at er
      have h4 : lf ln i + 4 < K.n := by
        rcases hkind with x | x | x
        · exact absurd x.1 n15
        · exact x.2.2.1
        · exact absurd g16 x.2.1
      have c26 := hC.1.2.2
      refine ⟨(ns, ab, lt, lp), ⟨hW.1, hW.2.1, hW.2.2.1, ⟨v1, v2, v3, v4, v5⟩, by omega, by omega, by omega, hn⟩, fun x => ?_, fun x => ?_⟩
      · dsimp only at x ⊢
        have x' := x
        rw [c26] at x'
        rw [cit_t x'] at er
        exact hnext s _ _ pre (((((((FrI.r E).u (Or.inr (Or.inl ⟨by decide, by decide⟩))).u (Or.inr (Or.inl ⟨by decide, by decide⟩))).u (Or.inr (Or.inl ⟨by decide, by decide⟩))).u (Or.inr (Or.inl ⟨by decide, by decide⟩))).u (Or.inr (Or.inr ⟨rfl, Or.inr (Or.inr rfl)⟩)))) (cds_c hC hY) (cY_l hY (by have := cfa_64 x'; omega)) elt es er
      · dsimp only at x ⊢
        have x' := x
        rw [c26] at x' ⊢
        rw [cit_f x'] at er
        have e2 := PR_f x'
        have := Hz E hf.k (by rw [er, e2])
        rw [er] at this
        exact this
    · -- an instruction
      have n15 : ¬ K.w (lf ln i + 1) 15 := fun x => g (lkd_0.mpr x)
      have n16 : ¬ K.w (lf ln i) 16 := fun x => g1 ((lkd_1 n15).mpr x)
      have eT : lbT K (lf ln i :: ln.drop (i + 1)) = lbT K (ln.drop (i + 1)) := cit_f n15
      rw [eT] at elt
      rw [lnR_ins n15 n16] at er
      rw [lop_i n15 n16]
      have hop : (pops K (K.op (lf ln i)) (lf ln i + 1)).1 = true := by
        rcases hkind with x | x | x
        · exact absurd x.1 n15
        · exact absurd x.2.1 n16
        · exact x.2.2.2.1
      refine ⟨(ns, ab, X, lt, lp, Y), ⟨hW, ⟨v1, v2, v3, v4, v5⟩, hC, hY, by omega, by omega, oSy_i hop, b0, b1⟩, fun E' x => ?_, fun E' x => ?_⟩
      · dsimp only at x
        rw [cit_t x.1] at er
        exact hnext s E' _ pre x.2.1 x.2.2 (iY_l hY (ifa_q x.1).1 (ifa_q x.1).2) elt es er
      · dsimp only at x ⊢
        rw [cit_f x.1] at er
        have e2 := PR_f x.1
        have := Hz E' (hf.k.t x.2) (by rw [er, e2])
        rw [er] at this
        exact this
def FeS (Y : XB) (D : Dt) : Prop := L1 (D 210) (Y 11) ∧ L1 (D 211) (Y 12)
theorem s84 {L c3 c4 c5 c6 : Nat} {D : Dt} {Q : Out → Wd → Prop} {K : TK} {b : Int} (H : ∃ x : List Int × List Int × XB × XB, (LW K x.1 x.2.1 x.2.2.1 D ∧ SR D (progX K) ∧ (pprog K).1 = true ∧ (0 ≤ K.n ∧ K.n ≤ 4000) ∧ BOK K x.2.2.1 ∧ CdS x.2.2.2 D ∧ YLn x.2.2.2 ∧ FeS x.2.2.2 D ∧ ((x.2.2.2 11).length = b ∧ (x.2.2.2 12).length = b) ∧ RowOK (D 83) (D 84) ∧ RowOK (D 85) (D 86) ∧ 0 ≤ b ∧ b < (x.2.2.1 4).length) ∧ (∀ E, ((bdR K x.1 x.2.1 x.2.2.1 b (lf (x.2.2.1 12) b) x.2.2.2).1.1 = true ∧ FrW D E ∧ CdS (bdR K x.1 x.2.1 x.2.2.1 b (lf (x.2.2.1 12) b) x.2.2.2).2 E ∧ FeS (bdR K x.1 x.2.1 x.2.2.1 b (lf (x.2.2.1 12) b) x.2.2.2).2 E ∧ RowOK (E 83) (E 84) ∧ RowOK (E 85) (E 86)) → Q (.inl []) (E, SS L 1 2 c3 c4 c5 c6)) ∧ (∀ E, (¬ (bdR K x.1 x.2.1 x.2.2.1 b (lf (x.2.2.1 12) b) x.2.2.2).1.1 = true ∧ FrKo D E ∧ RowOK (E 83) (E 84) ∧ RowOK (E 85) (E 86)) → Q (.inr 52) (up (up E 51 1 3) 51 2 (bdR K x.1 x.2.1 x.2.2.1 b (lf (x.2.2.1 12) b) x.2.2.2).1.2, SS L 1 2 c3 c4 c5 c6))) : wp 84 0 [vr 79, vi b, vu, vu, vu, vu, vu, vu, vu, vu] [] (D, SS L 1 2 c3 c4 c5 c6) Q := by
  obtain ⟨⟨ns, ab, X, Y⟩, ⟨hW, hR, hp, hn, hO, hC, hY, hFe, ⟨hb11, hb12⟩, ro1, ro2, b0, b1⟩, Hk, Hz⟩ := H
  dsimp only at *
  have hl := hW.2.2.2.2.2
  have hB := hW.2.2.2.2.1
  have h48 := hB.1.2.2.1
  obtain ⟨o1, o2, o3, ⟨m0, m1, m2⟩, o5, o6⟩ := hO b b0 b1
  have e82 : D 82 b = lf (X 10) b := hB.2.2.2.2.2.1 b b0 (by have := hl.2.2.2.2.2.1; omega)
  obtain ⟨z1, z2, z3, z4⟩ := lnp_i hR m0 m1
  have hll := lns_len hp hn.1
  have hsy := syn_i hR _ m0 m1
  have hml := mms_len hp hn.1
  rw [m2] at z1 z2 z4
  have eln : lnO K (lf (X 12) b) = bLn K (lf (X 12) b) := cit_f o2.2.1
  rw [eln] at z1 z2 z4
  have hgood : ∀ x ∈ bLn K (lf (X 12) b), 0 ≤ x ∧ (pline K x).1 = true := by
    have := o2.ok
    exact pls_good (adv_line K) _ _ _ this.2.2.2.2.2.2.2.2.2.2.1 (by have := o2.lt; have := o2.1; omega)
  have hg2 : ∀ x ∈ bLn K (lf (X 12) b), 0 ≤ x ∧ x < K.n := fun x hx => ⟨(hgood x hx).1, (pl_of (hgood x hx).2).1.1⟩
  have e70 : cit (lf (X 10) b = 0) 0 (D 70 (lf (X 10) b - 1)) = lnB K (lf (X 10) b) := by
    unfold lnB
    by_cases c : lf (X 10) b = 0
    · rw [cit_t c, cit_t c]
    · rw [cit_f c, cit_f c]
      exact (syn_i hR (lf (X 10) b - 1) (by omega) (by omega)).2.2.2.2.2
  have e70' : D 70 (lf (X 10) b) = lnB K (lf (X 10) b) + (bLn K (lf (X 12) b)).length := hsy.2.2.2.2.2.trans z2
  have e72 : D 72 (lf (X 10) b) = clO K (lf (X 12) b) := by rw [hsy.2.2.2.2.1, m2]
  have hlnC := lnC_b (K := K) (bLn K (lf (X 12) b))
  have c17 := hC.1.1
  have a6 := hY.2.2.1
  -- count the end, then find labels
  have h39 : ∀ (M i : Nat) (en : Int), (bLn K (lf (X 12) b)).length - i = M → i ≤ (bLn K (lf (X 12) b)).length → en + lnC K ((bLn K (lf (X 12) b)).drop i) = (Y 0).length + lnC K (bLn K (lf (X 12) b)) → 0 ≤ en → wp 84 39 [vr 79, vi b, vi (lf (X 10) b), vi (lnB K (lf (X 10) b)), vi (lnB K (lf (X 10) b) + (bLn K (lf (X 12) b)).length), vi en, vi (lnB K (lf (X 10) b) + i), vu, vu, vu] [] (D, SS L 1 2 c3 c4 c5 c6) Q := by
    intro M
    induction M with
    | zero =>
      intro i en e hi hen en0
      rw [drop_z (by omega)] at hen
      have hen : en + 0 = (Y 0).length + lnC K (bLn K (lf (X 12) b)) := hen
      refine r84_39 (K := K) ⟨fun g => by omega, fun _ => ⟨bLn K (lf (X 12) b), ⟨z1, rfl, z3, by omega, by omega, hg2, ro1, ro2, by omega, by omega⟩, fun E x => ⟨by omega, ?_⟩⟩⟩
      have fE := x.1.w
      have e17 : E 197 17 = (Y 0).length := (congrFun (x.1 197 (by decide)) 17).trans c17
      have f1 : FrW D (up E 210 b (E 197 17)) := fE.u ⟨by decide, by decide⟩
      have hW1 := hW.w f1
      have gE : ∀ a, 83 ≤ a → a ≤ 86 → up E 210 b (E 197 17) a = E a := fun a h1 h2 => ub_a (by omega)
      have hL1 : LbS K (lbT K (bLn K (lf (X 12) b))) (lbP K (bLn K (lf (X 12) b)) (Y 0).length) (up E 210 b (E 197 17)) := by
        unfold LbS
        rw [gE 83 (by decide) (by decide), gE 84 (by decide) (by decide), gE 85 (by decide) (by decide), gE 86 (by decide) (by decide)]
        have := x.2
        rw [c17] at this
        exact this
      have hC1 : CdS (ap1 Y 11 (Y 0).length) (up E 210 b (E 197 17)) := by
        obtain ⟨h1, l0, l1, l2, l3, l4, l5, l6, l7, l8, l9, l10⟩ := hC
        have g : ∀ a, ¬ (83 ≤ a ∧ a ≤ 86) → ¬ a = 210 → up E 210 b (E 197 17) a = D a := fun a h1 h2 => (ub_a h2).trans (x.1 a h1)
        unfold CdS
        rw [g 197 (by decide) (by decide), g 212 (by decide) (by decide), g 213 (by decide) (by decide), g 214 (by decide) (by decide), g 215 (by decide) (by decide), g 216 (by decide) (by decide), g 218 (by decide) (by decide), g 219 (by decide) (by decide), g 220 (by decide) (by decide), g 221 (by decide) (by decide), g 222 (by decide) (by decide)]
        exact ⟨h1, l0, l1, l2, l3, l4, l5, l6, l7, l8, l9, l10⟩
      have een : en = (Y 0).length + lnC K (bLn K (lf (X 12) b)) := by omega
      have key := l84 (K := K) (ns := ns) (ab := ab) (X := X) (lt := lbT K (bLn K (lf (X 12) b))) (lp := lbP K (bLn K (lf (X 12) b)) (Y 0).length) (ln := bLn K (lf (X 12) b)) (b := b) (m := lf (X 10) b) (en := en) (fr := lnB K (lf (X 10) b)) (to := lnB K (lf (X 10) b) + (bLn K (lf (X 12) b)).length) (r := blR K ns ab X b (lf (X 12) b) Y) (D := up E 210 b (E 197 17)) (Q := Q) (L := L) (c3 := c3) (c4 := c4) (c5 := c5) (c6 := c6) hn.2 hgood (z1.k f1.k) rfl ⟨z3, by omega⟩ b0 b1 ?_ ?_ _ 0 0 _ _ [] rfl (by omega) (FrI.r _) hW1 hL1 hC1 hY rfl rfl ?_
      · rw [show lnB K (lf (X 10) b) + ((0 : Nat) : Int) = lnB K (lf (X 10) b) by omega] at key
        exact key
      · intro E' f' hr
        have e2 : bdR K ns ab X b (lf (X 12) b) Y = blR K ns ab X b (lf (X 12) b) Y := cit_f (by rw [hr]; decide)
        rw [e2] at Hz
        exact Hz E' ⟨by rw [hr]; decide, f1.k.t f'.o, f'.ro ⟨hL1.1.2.1, hL1.2.1.2.1⟩⟩
      · intro E' s f' hC' hr
        have e2 : bdR K ns ab X b (lf (X 12) b) Y = _ := cit_t hr
        obtain ⟨n1, n2, n3, n4⟩ := lnR_n (K := K) (ns := ns) (ab := ab) (X := X) (Y := ap1 Y 11 (Y 0).length) hY hr
        have n2 : (((blR K ns ab X b (lf (X 12) b) Y).2 0).length : Int) = (Y 0).length + lnC K (bLn K (lf (X 12) b)) := n2
        have n3 : (blR K ns ab X b (lf (X 12) b) Y).2 11 = Y 11 ++ [((Y 0).length : Int)] := n3
        have n4 : (blR K ns ab X b (lf (X 12) b) Y).2 12 = Y 12 := n4
        have n6 : ((blR K ns ab X b (lf (X 12) b) Y).2 0).length ≤ 1024 := n1.2.2.1
        have c17' := hC'.1.1
        have e210 : E' 210 b = (Y 0).length := by
          rw [f'.1 210 (by decide) (by decide) (by decide), ub_s]; exact e17
        have fDE : FrW D E' := f1.t f'.w
        have q72 : E' 72 = D 72 := fDE.k 72 (by decide) (by decide)
        have ro : RowOK (E' 83) (E' 84) ∧ RowOK (E' 85) (E' 86) := by
          rw [f'.1 83 (by decide) (by decide) (by decide), f'.1 84 (by decide) (by decide) (by decide), f'.1 85 (by decide) (by decide) (by decide), f'.1 86 (by decide) (by decide) (by decide)]
          exact ⟨hL1.1.2.1, hL1.2.1.2.1⟩
        have k212 : ∀ i : Int, 0 ≤ i → i < ((blR K ns ab X b (lf (X 12) b) Y).2 0).length → E' 212 i = lf ((blR K ns ab X b (lf (X 12) b) Y).2 0) i := hC'.2.1
        have hbad : ¬ (((Y 0).length : Int) < ((blR K ns ab X b (lf (X 12) b) Y).2 0).length ∧ ¬ goOn (lf ((blR K ns ab X b (lf (X 12) b) Y).2 0) ((((blR K ns ab X b (lf (X 12) b) Y).2 0).length : Int) - 1))) → Q (.inr 52) (up (up (up E' 211 b (E' 197 17)) 51 1 3) 51 2 (clO K (lf (X 12) b)), SS L 1 2 c3 c4 c5 c6) := by
          intro h
          rw [cit_f h] at e2
          have := Hz (up E' 211 b (E' 197 17)) ⟨(by rw [e2]; intro x; cases x), (fDE.u ⟨by decide, by decide⟩).k, by rw [ub_a (by decide), ub_a (by decide), ub_a (by decide), ub_a (by decide)]; exact ro⟩
          rw [e2] at this
          exact this
        refine r84_101 (K := K) ⟨fun g => by omega, fun _ => ⟨by omega, by omega, fun g => ⟨by omega, by omega, fun g1 => ⟨by rw [q72]; omega, ?_⟩, fun g1 => ⟨by rw [q72]; omega, ?_⟩⟩, fun g => ⟨by rw [q72]; omega, ?_⟩⟩⟩
        · rw [q72, e72]
          refine hbad fun h => h.2 ?_
          rw [k212 _ (by omega) (by omega), c17'] at g1
          exact g1
        · rw [k212 _ (by omega) (by omega), c17'] at g1
          rw [cit_t ⟨by omega, g1⟩] at e2
          rw [e2] at Hk
          dsimp only at Hk
          refine Hk _ ⟨rfl, fDE.u ⟨by decide, by decide⟩, ?_, ⟨?_, ?_⟩, ?_⟩
          · exact hC'
          · show L1 (E' 210) ((blR K ns ab X b (lf (X 12) b) Y).2 11)
            rw [n3, f'.1 210 (by decide) (by decide) (by decide)]
            rw [e17]
            refine l1_up (D := E) ?_ (by omega)
            rw [x.1 210 (by decide)]
            exact hFe.1
          · show L1 (up E' 211 b (E' 197 17) 211) ((blR K ns ab X b (lf (X 12) b) Y).2 12 ++ [(((blR K ns ab X b (lf (X 12) b) Y).2 0).length : Int)])
            rw [n4, c17']
            refine l1_up ?_ (by omega)
            rw [f'.1 211 (by decide) (by decide) (by decide), ub_a (by decide), x.1 211 (by decide)]
            exact hFe.2
          · exact ro
        · rw [q72, e72]
          exact hbad fun h => by omega
      · rw [een]
        rfl
    | succ M ih =>
      intro i en e hi hen en0
      have hi1 : i < (bLn K (lf (X 12) b)).length := by omega
      obtain ⟨⟨b74, b76, b78⟩, e74, e76, e78⟩ := z1 i (by omega) (by omega)
      rw [lf_dc hi1] at hen
      have hlnd := lnC_b (K := K) ((bLn K (lf (X 12) b)).drop (i + 1))
      refine r84_39 (K := K) ?_
      rw [e74]
      have hstep : ∀ en', en' + lnC K ((bLn K (lf (X 12) b)).drop (i + 1)) = (Y 0).length + lnC K (bLn K (lf (X 12) b)) → 0 ≤ en' → wp 84 66 [vr 79, vi b, vi (lf (X 10) b), vi (lnB K (lf (X 10) b)), vi (lnB K (lf (X 10) b) + (bLn K (lf (X 12) b)).length), vi en', vi (lnB K (lf (X 10) b) + i), vu, vu, vu] [] (D, SS L 1 2 c3 c4 c5 c6) Q := by
        intro en' h1 h2
        have := ih (i + 1) en' (by omega) (by omega) h1 h2
        rw [show lnB K (lf (X 10) b) + ((i + 1 : Nat) : Int) = lnB K (lf (X 10) b) + (i : Int) + 1 by omega] at this
        exact r84_66 (K := K) ⟨by omega, this⟩
      refine ⟨fun _ => ⟨by omega, fun g => ?_, fun g => hstep en ?_ en0⟩, fun g => by omega⟩
      · have n15 : ¬ K.w (lf (bLn K (lf (X 12) b)) i + 1) 15 := fun x => by
          have := lkd_0.mpr x
          omega
        have n16 := (lkd_2 n15).mp g
        rw [lnC_ins n15 n16] at hen
        exact ⟨by omega, hstep (en + 1) (by omega) (by omega)⟩
      · rcases Classical.em (K.w (lf (bLn K (lf (X 12) b)) i + 1) 15) with x | x
        · rw [lnC_lab x] at hen; exact hen
        · have y := Classical.not_not.mp (mt (lkd_2 x).mpr g)
          rw [lnC_cat x y] at hen; exact hen
  have := h39 _ 0 (D 197 17) rfl (by omega) (by rw [c17]; rfl) (by omega)
  rw [show lnB K (lf (X 10) b) + ((0 : Nat) : Int) = lnB K (lf (X 10) b) by omega] at this
  refine r84_0 (K := K) ?_
  rw [e82, e70, e70']
  exact ⟨by omega, ⟨by omega, by omega, by omega⟩, by omega, this⟩
