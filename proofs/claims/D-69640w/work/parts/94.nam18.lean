/-! names: members, SafeCode's and the model's -/
set_option maxRecDepth 100000
noncomputable def mst (K : TK) (ns ab : List Int) (X : XB) (c t m : Int) : Bool × Int × XB :=
  cit (K.w t 9) (cit ((ffa K ns ab (X 0) (X 1) c t).1 = true) (true, 0, fdA K ns ab X c t) (false, (ffa K ns ab (X 0) (X 1) c t).2, X)) (cit ((hfa K ns ab X c t).1 = true) (true, 0, bdA K ns X c t m) (false, (hfa K ns ab X c t).2, X))
noncomputable def mF1 (K : TK) (ns ab : List Int) (c : Int) : List Int → Int → XB → Bool × Int × XB
  | [], _, X => (true, 0, X)
  | t :: l, m, X => cit ((mst K ns ab X c t m).1 = true) (mF1 K ns ab c l (m + 1) (mst K ns ab X c t m).2.2) (mst K ns ab X c t m)
noncomputable def mF2 (K : TK) (ns ab : List Int) : List Int → Int → Int → XB → Bool × Int × XB
  | [], _, _, X => (true, 0, X)
  | a :: l, c, m, X => cit ((mF1 K ns ab c (lmems K (a + 5)) m X).1 = true) (mF2 K ns ab l (c + 1) (m + (lmems K (a + 5)).length) (mF1 K ns ab c (lmems K (a + 5)) m X).2.2) (mF1 K ns ab c (lmems K (a + 5)) m X)
/-- a right member -/
def MG (K : TK) (t : Int) : Prop := 0 ≤ t ∧ (pmem K t).1 = true
theorem MG.mok {K : TK} {t : Int} (h : MG K t) (h9 : ¬ K.w t 9) : MOK K t := ⟨h.1, h9, h.2⟩
theorem MG.ty {K : TK} {t : Int} (h : MG K t) (h9 : K.w t 9) : K.ty (t + 2) ∧ t + 2 < K.n := by
  have h2 := PR_t h.2
  unfold pmem at h2
  rw [cit_t h9] at h2
  obtain ⟨c1, g1, h3⟩ := pb_t h2
  have e1 := pm_e g1
  have e2 := pm_e h3
  have h4 := e2.1
  rw [e1.2, show t + 1 + 1 = t + 2 by omega] at h4
  exact ⟨h4, h4.1⟩
theorem mst_f {K : TK} {ns ab : List Int} {X : XB} {c t m : Int} (h : K.w t 9) : mst K ns ab X c t m = cit ((ffa K ns ab (X 0) (X 1) c t).1 = true) (true, 0, fdA K ns ab X c t) (false, (ffa K ns ab (X 0) (X 1) c t).2, X) := cit_t h
theorem mst_b {K : TK} {ns ab : List Int} {X : XB} {c t m : Int} (h : ¬ K.w t 9) : mst K ns ab X c t m = cit ((hfa K ns ab X c t).1 = true) (true, 0, bdA K ns X c t m) (false, (hfa K ns ab X c t).2, X) := cit_f h
theorem GI.m {K : TK} {ns ab : List Int} {X : XB} {c t m : Int} (hw : ABw ab) (h : GI K ns ab X c) (h8 : 8 ≤ c) (hc : c < 8 + ab.length) (ht : MG K t) (hm : 0 ≤ m ∧ m < (mms K).length ∧ lf (mms K) m = t) (hf : (mst K ns ab X c t m).1 = true) : GI K ns ab (mst K ns ab X c t m).2.2 c := by
  rcases Classical.em (K.w t 9) with h9 | h9
  · rw [mst_f h9] at hf ⊢
    rcases Classical.em ((ffa K ns ab (X 0) (X 1) c t).1 = true) with h1 | h1
    · rw [cit_t h1]; exact h.f hw h8 hc h1
    · rw [cit_f h1] at hf; exact Bool.noConfusion hf
  · rw [mst_b h9] at hf ⊢
    rcases Classical.em ((hfa K ns ab X c t).1 = true) with h1 | h1
    · rw [cit_t h1]; exact h.b hw h8 hc (ht.mok h9) hm h1
    · rw [cit_f h1] at hf; exact Bool.noConfusion hf
/-- SafeCode's and the model's arrays of fields -/
def FdS (K : TK) (X : XB) (D : Dt) : Prop := L2p K (D 197 2) (D 199) (D 80) (X 0) (X 1) ∧ L1 (D 200) (X 2) ∧ L1 (D 201) (X 3)
def FdM (K : TK) (X : XB) (D : Dt) : Prop := L2p K (D 273 1) (D 276) (D 324) (X 0) (X 1) ∧ L1 (D 277) ((X 2).map mT)
def FrL (D E : Dt) : Prop := (∀ b, ¬ (80 ≤ b ∧ b ≤ 82) → ¬ b = 197 → ¬ (199 ≤ b ∧ b ≤ 201) → ¬ (203 ≤ b ∧ b ≤ 209) → E b = D b) ∧ ∀ i, ¬ i = 2 → ¬ i = 7 → E 197 i = D 197 i
theorem FrL.r (D : Dt) : FrL D D := ⟨fun _ _ _ _ _ => rfl, fun _ _ _ => rfl⟩
theorem FrL.t {D E F : Dt} (h : FrL D E) (h2 : FrL E F) : FrL D F := ⟨fun b x y z w => (h2.1 b x y z w).trans (h.1 b x y z w), fun i x y => (h2.2 i x y).trans (h.2 i x y)⟩
theorem FrL.k {D E : Dt} (h : FrL D E) : FrK D E := fun b x y => h.1 b (by omega) (by omega) (by omega) (by omega)
theorem FrB.l {D E : Dt} (h : FrB D E) : FrL D E := ⟨fun b x y z w => h.1 b (by omega) (by omega) (by omega) (by omega), fun i x y => h.2 i y⟩
theorem FrL.u {D E : Dt} (h : FrL D E) {a : Nat} {i v : Int} (ha : (80 ≤ a ∧ a ≤ 82) ∨ (199 ≤ a ∧ a ≤ 201) ∨ (203 ≤ a ∧ a ≤ 209) ∨ (a = 197 ∧ (i = 2 ∨ i = 7))) : FrL D (up E a i v) := by
  refine ⟨fun b x y z w => ?_, fun j hj hj' => ?_⟩
  · rw [ub_a (by omega)]; exact h.1 b x y z w
  · by_cases e : a = 197
    · subst e
      rw [ub_n (by omega)]; exact h.2 j hj hj'
    · rw [ub_a (by omega)]; exact h.2 j hj hj'
def FrMm (D E : Dt) : Prop := (∀ b, ¬ b = 273 → ¬ (276 ≤ b ∧ b ≤ 284) → ¬ (324 ≤ b ∧ b ≤ 326) → E b = D b) ∧ ∀ i, ¬ i = 1 → ¬ i = 2 → E 273 i = D 273 i
theorem FrMm.r (D : Dt) : FrMm D D := ⟨fun _ _ _ _ => rfl, fun _ _ _ => rfl⟩
theorem FrMm.t {D E F : Dt} (h : FrMm D E) (h2 : FrMm E F) : FrMm D F := ⟨fun b x y z => (h2.1 b x y z).trans (h.1 b x y z), fun i x y => (h2.2 i x y).trans (h.2 i x y)⟩
theorem FrC.m {D E : Dt} (h : FrC D E) : FrMm D E := ⟨fun b x y z => h.1 b (by omega) (by omega) (by omega) (by omega), fun i x y => h.2 i y⟩
theorem FrMm.n {D E : Dt} (h : FrMm D E) : FrN D E := ⟨fun b x y z => h.1 b (by omega) (by omega) (by omega), fun i _ _ _ => congrFun (h.1 226 (by decide) (by decide) (by decide)) i⟩
theorem FrMm.u {D E : Dt} (h : FrMm D E) {a : Nat} {i v : Int} (ha : (276 ≤ a ∧ a ≤ 284) ∨ (324 ≤ a ∧ a ≤ 326) ∨ (a = 273 ∧ (i = 1 ∨ i = 2))) : FrMm D (up E a i v) := by
  refine ⟨fun b x y z => ?_, fun j hj hj' => ?_⟩
  · rw [ub_a (by omega)]; exact h.1 b x y z
  · by_cases e : a = 273
    · subst e
      rw [ub_n (by omega)]; exact h.2 j hj hj'
    · rw [ub_a (by omega)]; exact h.2 j hj hj'
theorem L2p.a {K : TK} {n n' : Int} {f f' g g' : Int → Int} {l1 l2 : List Int} {c t : Int} (h : L2p K n f g l1 l2) (hn : n' = l1.length + 1) (h48 : l1.length < 48) (hf : f' l1.length = c) (hg : g' l1.length = t) (hf' : ∀ i : Int, i < l1.length → f' i = f i) (hg' : ∀ i : Int, i < l1.length → g' i = g i) (ht : 0 ≤ t ∧ t < K.n) : L2p K n' f' g' (l1 ++ [c]) (l2 ++ [t]) := by
  obtain ⟨q1, q2, q3, q4⟩ := h
  refine ⟨by rw [len_app, hn]; omega, by rw [len_app, len_app, q2], by rw [len_app]; omega, fun i i0 i1 => ?_⟩
  rw [len_app] at i1
  by_cases e : i < l1.length
  · rw [lf_a i0 e, lf_a i0 (by omega), hf' i e, hg' i e]; exact q4 i i0 e
  · have e2 : i = l1.length := by omega
    have e3 : lf (l2 ++ [t]) i = t := by rw [e2, ← q2]; exact lf_e
    rw [e3, e2, lf_e, hf, hg]
    exact ⟨rfl, rfl, ht⟩
theorem r73_0 {L c3 c4 c5 c6 : Nat} {K : TK} {D : Dt} {Q : Out → Wd → Prop} {m c : Int} (H : (0 ≤ m ∧ m < D 66 (-1)) ∧ ((0 ≤ m ∧ m < D 64 (-1)) ∧ ((D 64 m = 0 → (∃ (xf1 : List Int × List Int × List Int × List Int), (SKp K (D 54) (D 55) (D 56) (D 57) (D 224) ∧ CS K xf1.1 (D 197 0) (D 60) ∧ L2p K (D 197 2) (D 199) (D 80) xf1.2.2.1 xf1.2.2.2 ∧ (ABp (D 198) xf1.2.1 ∧ ABw xf1.2.1 ∧ xf1.2.1.length ≤ 24) ∧ c < 8 + xf1.2.1.length ∧ 1 ≤ (D 66 m) ∧ (D 66 m) + 1 < K.n ∧ K.n ≤ 4000) ∧ ((((ffa K xf1.1 xf1.2.1 xf1.2.2.1 xf1.2.2.2 c ((D 66 m) - 1)).1 = true) → (Q (.inl []) (up (up (up (up (up D 80 xf1.2.2.1.length (D 66 m)) 200 xf1.2.2.1.length (tyOf K xf1.1 ((D 66 m) + 1))) 201 xf1.2.2.1.length (fab xf1.2.1 xf1.2.2.1 c)) 199 xf1.2.2.1.length c) 197 2 (xf1.2.2.1.length + 1), SS L 1 2 c3 c4 c5 c6))) ∧ (∀ (E4 : Dt), (¬ (ffa K xf1.1 xf1.2.1 xf1.2.2.1 xf1.2.2.2 c ((D 66 m) - 1)).1 = true ∧ FrK D E4) → (Q (.inr 52) (up (up E4 51 1 3) 51 2 ((ffa K xf1.1 xf1.2.1 xf1.2.2.1 xf1.2.2.2 c ((D 66 m) - 1)).2), SS L 1 2 c3 c4 c5 c6)))))) ∧ (¬ (D 64 m = 0) → (∃ (xh6 : List Int × List Int × XB), (SKp K (D 54) (D 55) (D 56) (D 57) (D 224) ∧ CS K xh6.1 (D 197 0) (D 60) ∧ (ABp (D 198) xh6.2.1 ∧ ABw xh6.2.1 ∧ xh6.2.1.length ≤ 24) ∧ 0 ≤ c ∧ c < 8 + xh6.2.1.length ∧ BS K xh6.2.2 D ∧ BLn xh6.2.2 ∧ BOK K xh6.2.2 ∧ SYN K D ∧ 0 ≤ m ∧ m < (mms K).length ∧ MOK K (lf (mms K) m) ∧ (D 66 m) = lf (mms K) m + 1 ∧ K.n ≤ 4000) ∧ ((∀ (E8 : Dt), ((hfa K xh6.1 xh6.2.1 xh6.2.2 c (lf (mms K) m)).1 = true ∧ FrB D E8 ∧ BS K (bdA K xh6.1 xh6.2.2 c (lf (mms K) m) m) E8) → (Q (.inl []) (E8, SS L 1 2 c3 c4 c5 c6))) ∧ (∀ (E10 : Dt), (¬ (hfa K xh6.1 xh6.2.1 xh6.2.2 c (lf (mms K) m)).1 = true ∧ FrK D E10) → (Q (.inr 52) (up (up E10 51 1 3) 51 2 ((hfa K xh6.1 xh6.2.1 xh6.2.2 c (lf (mms K) m)).2), SS L 1 2 c3 c4 c5 c6))))))))) : wp 73 0 [vr 79, vi m, vi c, vu] [] (D, SS L 1 2 c3 c4 c5 c6) Q := vc_wp [4] 200 _ _ _ _ _ _ (show wp 73 4 [vr 79, vi m, vi c, vu] [vr 58] (D, SS L 1 2 c3 c4 c5 c6) Q from vc_wp [7] 200 _ _ _ _ _ _ (show wp 73 7 [vr 79, vi m, vi c, vu] [vr 65] (D, SS L 1 2 c3 c4 c5 c6) Q from vc_wp [10] 200 _ _ _ _ _ _ (show wp 73 10 [vr 79, vi m, vi c, vu] [vr 66] (D, SS L 1 2 c3 c4 c5 c6) Q from vc_wp [17] 200 _ _ _ _ _ _ (show (0 ≤ m ∧ m < D 66 (-1)) ∧ (wp 73 17 [vr 79, vi m, vi c, vi (D 66 m)] [vr 58] (D, SS L 1 2 c3 c4 c5 c6) Q) from ⟨H.1, vc_wp [20] 200 _ _ _ _ _ _ (show wp 73 20 [vr 79, vi m, vi c, vi (D 66 m)] [vr 63] (D, SS L 1 2 c3 c4 c5 c6) Q from vc_wp [23] 200 _ _ _ _ _ _ (show wp 73 23 [vr 79, vi m, vi c, vi (D 66 m)] [vr 64] (D, SS L 1 2 c3 c4 c5 c6) Q from vc_wp [] 200 _ _ _ _ _ _ (show (0 ≤ m ∧ m < D 64 (-1)) ∧ ((D 64 m = 0 → (wp 74 0 [vr 79, vi (D 66 m), vi c, vu] [] (D, SS L 1 2 c3 c4 c5 c6) (aft wp 73 31 [vr 79, vi m, vi c, vi (D 66 m)] [] Q))) ∧ (¬ (D 64 m = 0) → (wp 79 0 [vr 79, vi m, vi (D 66 m), vi c, vu, vu, vu, vu, vu, vu, vu, vu, vu, vu, vu] [] (D, SS L 1 2 c3 c4 c5 c6) (aft wp 73 41 [vr 79, vi m, vi c, vi (D 66 m)] [] Q)))) from ⟨H.2.1, ⟨fun h12 => Exists.elim ((H.2.2.1 h12)) fun xf1 x2 => s74 ⟨xf1, x2.1, (fun q3 => (show wp 73 34 [vr 79, vi m, vi c, vi (D 66 m)] [] (up (up (up (up (up D 80 xf1.2.2.1.length (D 66 m)) 200 xf1.2.2.1.length (tyOf K xf1.1 ((D 66 m) + 1))) 201 xf1.2.2.1.length (fab xf1.2.1 xf1.2.2.1 c)) 199 xf1.2.2.1.length c) 197 2 (xf1.2.2.1.length + 1), SS L 1 2 c3 c4 c5 c6) Q from vc_wp [] 200 _ _ _ _ _ _ (show Q (.inl []) (up (up (up (up (up D 80 xf1.2.2.1.length (D 66 m)) 200 xf1.2.2.1.length (tyOf K xf1.1 ((D 66 m) + 1))) 201 xf1.2.2.1.length (fab xf1.2.1 xf1.2.2.1 c)) 199 xf1.2.2.1.length c) 197 2 (xf1.2.2.1.length + 1), SS L 1 2 c3 c4 c5 c6) from (x2.2.1 q3)))), (fun E4 q5 => (show Q (.inr 52) (up (up E4 51 1 3) 51 2 ((ffa K xf1.1 xf1.2.1 xf1.2.2.1 xf1.2.2.2 c ((D 66 m) - 1)).2), SS L 1 2 c3 c4 c5 c6) from (x2.2.2 E4 q5)))⟩, fun h13 => Exists.elim ((H.2.2.2 h13)) fun xh6 x7 => s79 ⟨xh6, x7.1, (fun E8 q9 => (show wp 73 44 [vr 79, vi m, vi c, vi (D 66 m)] [] (E8, SS L 1 2 c3 c4 c5 c6) Q from vc_wp [] 200 _ _ _ _ _ _ (show Q (.inl []) (E8, SS L 1 2 c3 c4 c5 c6) from (x7.2.1 E8 q9)))), (fun E10 q11 => (show Q (.inr 52) (up (up E10 51 1 3) 51 2 ((hfa K xh6.1 xh6.2.1 xh6.2.2 c (lf (mms K) m)).2), SS L 1 2 c3 c4 c5 c6) from (x7.2.2 E10 q11)))⟩⟩⟩)))⟩))))
theorem s73 {L c3 c4 c5 c6 : Nat} {D : Dt} {Q : Out → Wd → Prop} {K : TK} {m c : Int} (H : ∃ x : List Int × List Int × XB, (SKp K (D 54) (D 55) (D 56) (D 57) (D 224) ∧ CS K x.1 (D 197 0) (D 60) ∧ (ABp (D 198) x.2.1 ∧ ABw x.2.1 ∧ x.2.1.length ≤ 24) ∧ 0 ≤ c ∧ c < 8 + x.2.1.length ∧ FdS K x.2.2 D ∧ BS K x.2.2 D ∧ FLn x.2.2 ∧ BLn x.2.2 ∧ BOK K x.2.2 ∧ SYN K D ∧ 0 ≤ m ∧ m < (mms K).length ∧ MG K (lf (mms K) m) ∧ K.n ≤ 4000) ∧ (∀ E, ((mst K x.1 x.2.1 x.2.2 c (lf (mms K) m) m).1 = true ∧ FrL D E ∧ FdS K (mst K x.1 x.2.1 x.2.2 c (lf (mms K) m) m).2.2 E ∧ BS K (mst K x.1 x.2.1 x.2.2 c (lf (mms K) m) m).2.2 E) → Q (.inl []) (E, SS L 1 2 c3 c4 c5 c6)) ∧ (∀ E, (¬ (mst K x.1 x.2.1 x.2.2 c (lf (mms K) m) m).1 = true ∧ FrK D E) → Q (.inr 52) (up (up E 51 1 3) 51 2 (mst K x.1 x.2.1 x.2.2 c (lf (mms K) m) m).2.1, SS L 1 2 c3 c4 c5 c6))) : wp 73 0 [vr 79, vi m, vi c, vu] [] (D, SS L 1 2 c3 c4 c5 c6) Q := by
  obtain ⟨⟨ns, ab, X⟩, ⟨hS, hC, hAB, hc0, hc, hF, hB, hfl, hl, hb, hY, hm0, hm, ht, hn⟩, Hok, Hz⟩ := H
  dsimp only at *
  generalize et : lf (mms K) m = t at *
  have hY' := hY
  obtain ⟨⟨y64, y66, y68, y70, y72⟩, s64, s66, s68, s72, s70⟩ := hY m hm0 hm
  rw [et] at s64 s66 s68 s72
  have t0 := ht.1
  have hmk : D 64 m = 0 ↔ K.w t 9 := by
    rw [s64]
    unfold mkd
    rcases Classical.em (K.w t 9) with h9 | h9
    · rw [cit_t h9]; exact ⟨fun _ => h9, fun _ => rfl⟩
    · rw [cit_f h9]
      rcases Classical.em (K.w t 10) with h10 | h10
      · rw [cit_t h10]; exact ⟨fun x => by omega, fun x => absurd x h9⟩
      · rw [cit_f h10]; exact ⟨fun x => by omega, fun x => absurd x h9⟩
  refine r73_0 (K := K) ⟨⟨hm0, y66⟩, ⟨hm0, y64⟩, fun g => ?_, fun g => ?_⟩
  · have h9 := hmk.mp g
    have hty := ht.ty h9
    rw [mst_f h9] at Hok Hz
    rw [s66]
    obtain ⟨q, q200, q201⟩ := hF
    obtain ⟨f1, f2, f3⟩ := hfl
    have e1 : t + 1 - 1 = t := by omega
    have e2 : t + 1 + 1 = t + 2 := by omega
    refine ⟨(ns, ab, X 0, X 1), ⟨hS, hC, q, hAB, hc, by omega, by omega, hn⟩, ?_⟩
    dsimp only
    rw [e1, e2]
    refine ⟨fun g1 => ?_, fun E g1 => ?_⟩
    · rw [cit_t g1] at Hok
      have g2 := ffa_t g1
      have q3 := q.2.2.1
      refine Hok _ ⟨rfl, ?_, ⟨?_, ?_, ?_⟩, ?_⟩
      · exact (((((FrL.r D).u (Or.inl ⟨by decide, by decide⟩)).u (Or.inr (Or.inl ⟨by decide, by decide⟩))).u (Or.inr (Or.inl ⟨by decide, by decide⟩))).u (Or.inr (Or.inl ⟨by decide, by decide⟩))).u (Or.inr (Or.inr (Or.inr ⟨rfl, Or.inl rfl⟩)))
      · refine L2p.a q ub_s (by omega) ?_ ?_ (fun i hi => ?_) (fun i hi => ?_) ⟨by omega, by omega⟩
        · show up _ 199 _ _ 199 _ = _
          exact ub_s
        · show up D 80 _ _ 80 _ = _
          exact ub_s
        · show up _ 199 _ _ 199 _ = _
          rw [ub_n (by omega)]
          rfl
        · show up D 80 _ _ 80 _ = _
          exact ub_n (by omega)
      · refine L1.a q200 ?_ (fun i hi => ?_)
        · show up _ 200 _ _ 200 _ = _
          rw [f2, ub_s]
        · show up (up D 80 _ _) 200 _ _ 200 _ = _
          rw [ub_n (by omega)]
          rfl
      · refine L1.a q201 ?_ (fun i hi => ?_)
        · show up _ 201 _ _ 201 _ = _
          rw [f3, ub_s]
        · show up (up (up D 80 _ _) 200 _ _) 201 _ _ 201 _ = _
          rw [ub_n (by omega)]
          rfl
      · obtain ⟨b4, b6, b7, b8, b9, b10, b11, b12⟩ := hB
        refine ⟨b4, b6, b7, b8, b9, b10, b11, fun b k b0 b1 k0 k1 => ?_⟩
        dsimp only at k1 ⊢
        rw [fdA_n (by omega)] at k1 ⊢
        exact b12 b k b0 b1 k0 k1
    · rw [cit_f g1.1] at Hz
      exact Hz E ⟨Bool.noConfusion, g1.2⟩
  · have h9 : ¬ K.w t 9 := fun x => g (hmk.mpr x)
    have hmok := ht.mok h9
    rw [mst_b h9] at Hok Hz
    refine ⟨(ns, ab, X), ⟨hS, hC, hAB, hc0, hc, hB, hl, hb, hY', hm0, hm, by rw [et]; exact hmok, by rw [et]; exact s66, hn⟩, fun E g1 => ?_, fun E g1 => ?_⟩
    · dsimp only at g1
      rw [et] at g1
      rw [cit_t g1.1] at Hok
      refine Hok E ⟨rfl, g1.2.1.l, ?_, g1.2.2⟩
      obtain ⟨q, q200, q201⟩ := hF
      have fb := g1.2.1
      have xe : ∀ p : Nat, p < 4 → bdA K ns X c t m p = X p := fun p hp => by
        unfold bdA
        rw [nbq (p := p) (q := 4) (by omega), nbq (p := p) (q := 5) (by omega), nbq (p := p) (q := 6) (by omega), nbq (p := p) (q := 7) (by omega), nbq (p := p) (q := 8) (by omega), nbq (p := p) (q := 9) (by omega), nbq (p := p) (q := 10) (by omega), nbq (p := p) (q := 11) (by omega), nbq (p := p) (q := 12) (by omega), nbq (p := p) (q := 20 + (X 4).length) (by omega)]
        rfl
      show L2p K (E 197 2) (E 199) (E 80) (bdA K ns X c t m 0) (bdA K ns X c t m 1) ∧ L1 (E 200) (bdA K ns X c t m 2) ∧ L1 (E 201) (bdA K ns X c t m 3)
      rw [xe 0 (by decide), xe 1 (by decide), xe 2 (by decide), xe 3 (by decide), fb.2 2 (by decide), fb.1 199 (by decide) (by decide) (by decide) (by decide), fb.1 80 (by decide) (by decide) (by decide) (by decide), fb.1 200 (by decide) (by decide) (by decide) (by decide), fb.1 201 (by decide) (by decide) (by decide) (by decide)]
      exact ⟨q, q200, q201⟩
    · dsimp only at g1 ⊢
      rw [et] at g1 ⊢
      rw [cit_f g1.1] at Hz
      exact Hz E ⟨Bool.noConfusion, g1.2⟩
