/-! names: the model's instructions -/
set_option maxRecDepth 100000
def mA (op v n : Int) : Int := if op = 0 then n else if op = 37 ∨ op = 38 then mT v else v
def mB (op n : Int) : Int := if op = 0 then 0 else n
/-- the thresholds of the code -/
def thP (Y : XB) (v : Int) : Prop := ∃ i : Int, 0 ≤ i ∧ i < (Y 0).length ∧ (lf (Y 0) i = 0 ∨ lf (Y 0) i = 4) ∧ (lf (Y 2) i - 1 ≤ v ∧ v ≤ lf (Y 2) i + 1) ∧ (-2147483648 ≤ v ∧ v ≤ 2147483647)
def CdM (Y : XB) (D : Dt) : Prop := (D 273 3 = (Y 0).length ∧ D 273 4 = (Y 5).length ∧ D 273 5 = (Y 6).length) ∧ L1 (D 288) (Y 0) ∧ (∀ i : Int, 0 ≤ i → i < (Y 0).length → D 289 i = mA (lf (Y 0) i) (lf (Y 1) i) (lf (Y 2) i) ∧ D 290 i = mB (lf (Y 0) i) (lf (Y 2) i)) ∧ L1 (D 329) (Y 3) ∧ L1 (D 291) (Y 4) ∧ L1 (D 293) ((Y 5).map mT) ∧ (L1 (D 295) (Y 6) ∧ L1 (D 296) (Y 7) ∧ L1 (D 297) (Y 8) ∧ L1 (D 298) (Y 9) ∧ L1 (D 294) (Y 10)) ∧ SL (D 299) (D 273 7) (thP Y) ∧ D 273 7 ≤ 3 * (Y 0).length
def FrJ (D E : Dt) : Prop := (∀ b, ¬ b = 273 → ¬ (288 ≤ b ∧ b ≤ 291) → ¬ (293 ≤ b ∧ b ≤ 299) → ¬ b = 329 → E b = D b) ∧ ∀ i, ¬ (3 ≤ i ∧ i ≤ 5) → ¬ i = 7 → E 273 i = D 273 i
theorem FrJ.r (D : Dt) : FrJ D D := ⟨fun _ _ _ _ _ => rfl, fun _ _ _ => rfl⟩
theorem FrJ.t {D E F : Dt} (h : FrJ D E) (h2 : FrJ E F) : FrJ D F := ⟨fun b x y z w => (h2.1 b x y z w).trans (h.1 b x y z w), fun i x y => (h2.2 i x y).trans (h.2 i x y)⟩
theorem FrJ.u {D E : Dt} (h : FrJ D E) {a : Nat} {i v : Int} (ha : (288 ≤ a ∧ a ≤ 291) ∨ (293 ≤ a ∧ a ≤ 299) ∨ a = 329 ∨ (a = 273 ∧ (3 ≤ i ∧ i ≤ 5 ∨ i = 7))) : FrJ D (up E a i v) := by
  refine ⟨fun b x y z w => ?_, fun j x y => ?_⟩
  · rw [ub_a (by omega)]; exact h.1 b x y z w
  · by_cases e : a = 273
    · subst e
      rw [ub_n (by omega)]; exact h.2 j x y
    · rw [ub_a (by omega)]; exact h.2 j x y
theorem FrT.j {D E : Dt} (h : FrT D E) : FrJ D E := ⟨fun b x _ z _ => h.1 b x (by omega), fun i _ y => h.2 i y⟩
theorem FrJ.n {D E : Dt} (h : FrJ D E) : FrN D E := ⟨fun b _ y z => h.1 b (by omega) (by omega) (by omega) (by omega), fun i _ _ _ => congrFun (h.1 226 (by decide) (by decide) (by decide) (by decide)) i⟩
/-- what stands while the model reads a body's lines -/
def MW (K : TK) (ns ab : List Int) (X : XB) (D : Dt) : Prop := MKp K (D 226 10) (D 321) (D 322) (D 320) ∧ CM K ns (D 273 0) (D 323) ∧ (ABp (D 274) ab ∧ ABw ab ∧ ab.length ≤ 24 ∧ ns.length = ab.length) ∧ FdM K X D ∧ BM K X D ∧ BLn X ∧ BOK K X ∧ UNQ K ab (X 0) (X 1)
theorem MW.f {K : TK} {ns ab : List Int} {X : XB} {D E : Dt} (h : MW K ns ab X D) (f : FrJ D E) : MW K ns ab X E := by
  obtain ⟨h1, h2, h3, h4, h5, h6, h7⟩ := h
  refine ⟨mk_f h1 f.n, ?_, ?_, ?_, ?_, h6, h7⟩
  · rw [f.2 0 (by decide) (by decide), f.1 323 (by decide) (by decide) (by decide) (by decide)]; exact h2
  · rw [f.1 274 (by decide) (by decide) (by decide) (by decide)]; exact h3
  · unfold FdM
    rw [f.2 1 (by decide) (by decide), f.1 276 (by decide) (by decide) (by decide) (by decide), f.1 324 (by decide) (by decide) (by decide) (by decide), f.1 277 (by decide) (by decide) (by decide) (by decide)]; exact h4
  · unfold BM
    rw [f.2 2 (by decide) (by decide), f.1 279 (by decide) (by decide) (by decide) (by decide), f.1 325 (by decide) (by decide) (by decide) (by decide), f.1 280 (by decide) (by decide) (by decide) (by decide), f.1 281 (by decide) (by decide) (by decide) (by decide), f.1 283 (by decide) (by decide) (by decide) (by decide), f.1 284 (by decide) (by decide) (by decide) (by decide), f.1 326 (by decide) (by decide) (by decide) (by decide), f.1 282 (by decide) (by decide) (by decide) (by decide)]; exact h5
theorem LbM.f {K : TK} {lt lp : List Int} {D E : Dt} (h : LbM K lt lp D) (f : FrJ D E) : LbM K lt lp E := by
  unfold LbM
  rw [f.1 226 (by decide) (by decide) (by decide) (by decide), f.1 327 (by decide) (by decide) (by decide) (by decide), f.1 328 (by decide) (by decide) (by decide) (by decide)]; exact h
theorem thP_a {K : TK} {ns ab : List Int} {X : XB} {lt lp : List Int} {b : Int} {Y : XB} {op t v : Int} (hY : YLn Y) : thP (iY K ns ab X lt lp b Y op t) v ↔ thP Y v ∨ ((op = 0 ∨ op = 4) ∧ (oNum K ns op (t + 1) - 1 ≤ v ∧ v ≤ oNum K ns op (t + 1) + 1) ∧ (-2147483648 ≤ v ∧ v ≤ 2147483647)) := by
  have l2 := hY.1.2.1
  show (∃ i : Int, 0 ≤ i ∧ i < (Y 0 ++ [op]).length ∧ (lf (Y 0 ++ [op]) i = 0 ∨ lf (Y 0 ++ [op]) i = 4) ∧ (lf (Y 2 ++ [oNum K ns op (t + 1)]) i - 1 ≤ v ∧ v ≤ lf (Y 2 ++ [oNum K ns op (t + 1)]) i + 1) ∧ (-2147483648 ≤ v ∧ v ≤ 2147483647)) ↔ _
  have eE : lf (Y 2 ++ [oNum K ns op (t + 1)]) (Y 0).length = oNum K ns op (t + 1) := by rw [← l2]; exact lf_e
  constructor
  · rintro ⟨i, i0, i1, h1, h2, h3⟩
    rw [len_app] at i1
    by_cases e : i < (Y 0).length
    · rw [lf_a i0 e] at h1
      rw [lf_a i0 (by omega)] at h2
      exact Or.inl ⟨i, i0, e, h1, h2, h3⟩
    · have e2 : i = (Y 0).length := by omega
      rw [e2, lf_e] at h1
      rw [e2, eE] at h2
      exact Or.inr ⟨h1, h2, h3⟩
  · rintro (⟨i, i0, i1, h1, h2, h3⟩ | ⟨h1, h2, h3⟩)
    · refine ⟨i, i0, by rw [len_app]; omega, ?_, ?_, h3⟩
      · rw [lf_a i0 i1]; exact h1
      · rw [lf_a i0 (by omega)]; exact h2
    · refine ⟨(Y 0).length, by omega, by rw [len_app]; omega, ?_, ?_, h3⟩
      · rw [lf_e]; exact h1
      · rw [eE]; exact h2
theorem cdm_a {K : TK} {ns ab : List Int} {X : XB} {lt lp : List Int} {b : Int} {Y : XB} {op t : Int} {D E : Dt} (h : CdM Y D) (hY : YLn Y)
    (e3 : E 273 3 = D 273 3 + 1) (e5 : E 273 5 = D 273 5) (e288 : E 288 = up D 288 (D 273 3) op 288) (e329 : E 329 = up D 329 (D 273 3) t 329) (e291 : E 291 = up D 291 (D 273 3) b 291)
    (e289 : ∀ j, ¬ j = D 273 3 → E 289 j = D 289 j) (f289 : E 289 (D 273 3) = mA op (cit (isSi op) ((Y 5).length : Int) (oVal K ns ab X lt lp op (t + 1))) (oNum K ns op (t + 1)))
    (e290 : ∀ j, ¬ j = D 273 3 → E 290 j = D 290 j) (f290 : E 290 (D 273 3) = mB op (oNum K ns op (t + 1)))
    (e4 : E 273 4 = ((cit (isSi op) (Y 5 ++ [oVal K ns ab X lt lp op (t + 1)]) (Y 5)).length : Int)) (e293 : L1 (E 293) ((cit (isSi op) (Y 5 ++ [oVal K ns ab X lt lp op (t + 1)]) (Y 5)).map mT))
    (ec : ∀ a, 294 ≤ a → a ≤ 298 → E a = D a) (es : SL (E 299) (E 273 7) (fun v => thP Y v ∨ ((op = 0 ∨ op = 4) ∧ (oNum K ns op (t + 1) - 1 ≤ v ∧ v ≤ oNum K ns op (t + 1) + 1) ∧ (-2147483648 ≤ v ∧ v ≤ 2147483647)))) (es2 : E 273 7 ≤ D 273 7 + 3) : CdM (iY K ns ab X lt lp b Y op t) E := by
  obtain ⟨⟨ec3, ec4, ec5⟩, l0, l1, l3, l4, l5, ⟨k6, k7, k8, k9, k10⟩, hs, hs2⟩ := h
  obtain ⟨⟨a1, a2, a3, a4⟩, a5, a6, a7, a8⟩ := hY
  refine ⟨⟨?_, e4, e5.trans ec5⟩, ?_, fun i i0 i1 => ?_, ?_, ?_, e293, ⟨?_, ?_, ?_, ?_, ?_⟩, es.cg fun v => (thP_a ⟨⟨a1, a2, a3, a4⟩, a5, a6, a7, a8⟩).symm, ?_⟩
  · show _ = ((Y 0 ++ [op]).length : Int)
    rw [e3, len_app]; omega
  · rw [e288]; exact l1_up l0 ec3
  · have i1 : i < (Y 0 ++ [op]).length := i1
    rw [len_app] at i1
    show E 289 i = mA (lf (Y 0 ++ [op]) i) (lf (Y 1 ++ [cit (isSi op) ((Y 5).length : Int) (oVal K ns ab X lt lp op (t + 1))]) i) (lf (Y 2 ++ [oNum K ns op (t + 1)]) i) ∧ E 290 i = mB (lf (Y 0 ++ [op]) i) (lf (Y 2 ++ [oNum K ns op (t + 1)]) i)
    by_cases e : i < (Y 0).length
    · rw [lf_a i0 e, lf_a i0 (by omega), lf_a i0 (by omega), e289 i (by omega), e290 i (by omega)]
      exact l1 i i0 e
    · have q0 : lf (Y 0 ++ [op]) i = op := by rw [show i = (Y 0).length by omega]; exact lf_e
      have q1 : lf (Y 1 ++ [cit (isSi op) ((Y 5).length : Int) (oVal K ns ab X lt lp op (t + 1))]) i = cit (isSi op) ((Y 5).length : Int) (oVal K ns ab X lt lp op (t + 1)) := by rw [show i = (Y 1).length by omega]; exact lf_e
      have q2 : lf (Y 2 ++ [oNum K ns op (t + 1)]) i = oNum K ns op (t + 1) := by rw [show i = (Y 2).length by omega]; exact lf_e
      rw [q0, q1, q2, show i = D 273 3 by omega]
      exact ⟨f289, f290⟩
  · rw [e329]; exact l1_up l3 (by omega)
  · rw [e291]; exact l1_up l4 (by omega)
  · rw [ec 295 (by decide) (by decide)]; exact k6
  · rw [ec 296 (by decide) (by decide)]; exact k7
  · rw [ec 297 (by decide) (by decide)]; exact k8
  · rw [ec 298 (by decide) (by decide)]; exact k9
  · rw [ec 294 (by decide) (by decide)]; exact k10
  · show _ ≤ 3 * ((Y 0 ++ [op]).length : Int)
    rw [len_app]; omega
theorem r274_0 {L c2 c3 c4 c5 c6 : Nat} {K : TK} {D : Dt} {Q : Out → Wd → Prop} {b t en : Int} (H : (MKp K (D 226 10) (D 321) (D 322) (D 320) ∧ 0 ≤ t ∧ t < K.n) ∧ ((((D 273 3 = 1024 → (Q (.inl [vi 0]) (up D 226 12 t, SS L 1 c2 c3 c4 c5 c6))) ∧ (¬ (D 273 3 = 1024) → ((K.op t = 30 → ((D 273 4 = 48 → (Q (.inl [vi 0]) (up D 226 12 t, SS L 1 c2 c3 c4 c5 c6))) ∧ (¬ (D 273 4 = 48) → (wp 274 46 [vr 226, vr 273, vi b, vi t, vi en, vi (K.op t), vu] [] (D, SS L 1 c2 c3 c4 c5 c6) Q)))) ∧ (¬ (K.op t = 30) → ((K.op t = 31 → ((D 273 4 = 48 → (Q (.inl [vi 0]) (up D 226 12 t, SS L 1 c2 c3 c4 c5 c6))) ∧ (¬ (D 273 4 = 48) → (wp 274 46 [vr 226, vr 273, vi b, vi t, vi en, vi (K.op t), vu] [] (D, SS L 1 c2 c3 c4 c5 c6) Q)))) ∧ (¬ (K.op t = 31) → (wp 274 46 [vr 226, vr 273, vi b, vi t, vi en, vi (K.op t), vu] [] (D, SS L 1 c2 c3 c4 c5 c6) Q)))))))))) : wp 274 0 [vr 226, vr 273, vi b, vi t, vi en, vu, vu] [] (D, SS L 1 c2 c3 c4 c5 c6) Q := vc_wp [] 200 _ _ _ _ _ _ (show wp 247 0 [vr 226, vi t] [] (D, SS L 1 c2 c3 c4 c5 c6) (aft wp 274 2 [vr 226, vr 273, vi b, vi t, vi en, vu, vu] [] Q) from k247 ⟨H.1, (show wp 274 5 [vr 226, vr 273, vi b, vi t, vi en, vu, vu] [vi (K.op t)] (D, SS L 1 c2 c3 c4 c5 c6) Q from vc_wp [46] 200 _ _ _ _ _ _ (show ((D 273 3 = 1024 → (wp 256 0 [vr 226, vi t] [] (D, SS L 1 c2 c3 c4 c5 c6) (aft wp 274 42 [vr 226, vr 273, vi b, vi t, vi en, vi (K.op t), vu] [] Q))) ∧ (¬ (D 273 3 = 1024) → ((K.op t = 30 → ((D 273 4 = 48 → (wp 256 0 [vr 226, vi t] [] (D, SS L 1 c2 c3 c4 c5 c6) (aft wp 274 42 [vr 226, vr 273, vi b, vi t, vi en, vi (K.op t), vu] [] Q))) ∧ (¬ (D 273 4 = 48) → (wp 274 46 [vr 226, vr 273, vi b, vi t, vi en, vi (K.op t), vu] [] (D, SS L 1 c2 c3 c4 c5 c6) Q)))) ∧ (¬ (K.op t = 30) → ((K.op t = 31 → ((D 273 4 = 48 → (wp 256 0 [vr 226, vi t] [] (D, SS L 1 c2 c3 c4 c5 c6) (aft wp 274 42 [vr 226, vr 273, vi b, vi t, vi en, vi (K.op t), vu] [] Q))) ∧ (¬ (D 273 4 = 48) → (wp 274 46 [vr 226, vr 273, vi b, vi t, vi en, vi (K.op t), vu] [] (D, SS L 1 c2 c3 c4 c5 c6) Q)))) ∧ (¬ (K.op t = 31) → (wp 274 46 [vr 226, vr 273, vi b, vi t, vi en, vi (K.op t), vu] [] (D, SS L 1 c2 c3 c4 c5 c6) Q))))))) from ⟨fun h17 => r256_0 (show wp 274 45 [vr 226, vr 273, vi b, vi t, vi en, vi (K.op t), vu] [vi 0] (up D 226 12 t, SS L 1 c2 c3 c4 c5 c6) Q from vc_wp [] 200 _ _ _ _ _ _ (show ((0 : Int) ≤ 0 ∧ 0 ≤ (1 : Int)) ∧ (Q (.inl [vi 0]) (up D 226 12 t, SS L 1 c2 c3 c4 c5 c6)) from ⟨(by decide), (H.2.1 h17)⟩)), fun h18 => ⟨fun h15 => ⟨fun h7 => r256_0 (show wp 274 45 [vr 226, vr 273, vi b, vi t, vi en, vi (K.op t), vu] [vi 0] (up D 226 12 t, SS L 1 c2 c3 c4 c5 c6) Q from vc_wp [] 200 _ _ _ _ _ _ (show ((0 : Int) ≤ 0 ∧ 0 ≤ (1 : Int)) ∧ (Q (.inl [vi 0]) (up D 226 12 t, SS L 1 c2 c3 c4 c5 c6)) from ⟨(by decide), (((H.2.2 h18).1 h15).1 h7)⟩)), fun h8 => (((H.2.2 h18).1 h15).2 h8)⟩, fun h16 => ⟨fun h13 => ⟨fun h11 => r256_0 (show wp 274 45 [vr 226, vr 273, vi b, vi t, vi en, vi (K.op t), vu] [vi 0] (up D 226 12 t, SS L 1 c2 c3 c4 c5 c6) Q from vc_wp [] 200 _ _ _ _ _ _ (show ((0 : Int) ≤ 0 ∧ 0 ≤ (1 : Int)) ∧ (Q (.inl [vi 0]) (up D 226 12 t, SS L 1 c2 c3 c4 c5 c6)) from ⟨(by decide), ((((H.2.2 h18).2 h16).1 h13).1 h11)⟩)), fun h12 => ((((H.2.2 h18).2 h16).1 h13).2 h12)⟩, fun h14 => (((H.2.2 h18).2 h16).2 h14)⟩⟩⟩))⟩)
theorem r274_46 {L c2 c3 c4 c5 c6 : Nat} {K : TK} {D : Dt} {Q : Out → Wd → Prop} {b t en op : Int} (H : (0 ≤ D 273 3 ∧ D 273 3 < 1024) ∧ ((0 ≤ D 273 3 ∧ D 273 3 < 1024) ∧ ((0 ≤ D 273 3 ∧ D 273 3 < 1024) ∧ ((0 ≤ D 273 3 ∧ D 273 3 < 1024) ∧ ((0 ≤ D 273 3 ∧ D 273 3 < 1024) ∧ (((-2147483648) ≤ (D 273 3) + 1 ∧ (D 273 3) + 1 ≤ 2147483647) ∧ (wp 274 103 [vr 226, vr 273, vi b, vi t, vi en, vi op, vi (D 273 3)] [] (up (up (up (up (up (up D 329 (D 273 3) t) 288 (D 273 3) op) 291 (D 273 3) b) 289 (D 273 3) 0) 290 (D 273 3) 0) 273 3 ((D 273 3) + 1), SS L 1 c2 c3 c4 c5 c6) Q))))))) : wp 274 46 [vr 226, vr 273, vi b, vi t, vi en, vi op, vu] [] (D, SS L 1 c2 c3 c4 c5 c6) Q := vc_wp [56] 200 _ _ _ _ _ _ (show wp 274 56 [vr 226, vr 273, vi b, vi t, vi en, vi op, vi (D 273 3)] [vr 329] (D, SS L 1 c2 c3 c4 c5 c6) Q from vc_wp [64] 200 _ _ _ _ _ _ (show (0 ≤ D 273 3 ∧ D 273 3 < 1024) ∧ (wp 274 64 [vr 226, vr 273, vi b, vi t, vi en, vi op, vi (D 273 3)] [vr 288] (up D 329 (D 273 3) t, SS L 1 c2 c3 c4 c5 c6) Q) from ⟨H.1, vc_wp [73] 200 _ _ _ _ _ _ (show (0 ≤ D 273 3 ∧ D 273 3 < 1024) ∧ (wp 274 73 [vr 226, vr 273, vi b, vi t, vi en, vi op, vi (D 273 3)] [vr 291] (up (up D 329 (D 273 3) t) 288 (D 273 3) op, SS L 1 c2 c3 c4 c5 c6) Q) from ⟨H.2.1, vc_wp [81] 200 _ _ _ _ _ _ (show (0 ≤ D 273 3 ∧ D 273 3 < 1024) ∧ (wp 274 81 [vr 226, vr 273, vi b, vi t, vi en, vi op, vi (D 273 3)] [vr 289] (up (up (up D 329 (D 273 3) t) 288 (D 273 3) op) 291 (D 273 3) b, SS L 1 c2 c3 c4 c5 c6) Q) from ⟨H.2.2.1, vc_wp [89] 200 _ _ _ _ _ _ (show (0 ≤ D 273 3 ∧ D 273 3 < 1024) ∧ (wp 274 89 [vr 226, vr 273, vi b, vi t, vi en, vi op, vi (D 273 3)] [vr 290] (up (up (up (up D 329 (D 273 3) t) 288 (D 273 3) op) 291 (D 273 3) b) 289 (D 273 3) 0, SS L 1 c2 c3 c4 c5 c6) Q) from ⟨H.2.2.2.1, vc_wp [100] 200 _ _ _ _ _ _ (show (0 ≤ D 273 3 ∧ D 273 3 < 1024) ∧ (wp 274 100 [vr 226, vr 273, vi b, vi t, vi en, vi op, vi (D 273 3)] [vi (w32 ((D 273 3) + 1)), vr 273] (up (up (up (up (up D 329 (D 273 3) t) 288 (D 273 3) op) 291 (D 273 3) b) 289 (D 273 3) 0) 290 (D 273 3) 0, SS L 1 c2 c3 c4 c5 c6) Q) from ⟨H.2.2.2.2.1, w32_i (fun z1 : Int => wp 274 100 [vr 226, vr 273, vi b, vi t, vi en, vi op, vi (D 273 3)] [vi z1, vr 273] (up (up (up (up (up D 329 (D 273 3) t) 288 (D 273 3) op) 291 (D 273 3) b) 289 (D 273 3) 0) 290 (D 273 3) 0, SS L 1 c2 c3 c4 c5 c6) Q) (H.2.2.2.2.2).1 (vc_wp [103] 200 _ _ _ _ _ _ (show wp 274 103 [vr 226, vr 273, vi b, vi t, vi en, vi op, vi (D 273 3)] [] (up (up (up (up (up (up D 329 (D 273 3) t) 288 (D 273 3) op) 291 (D 273 3) b) 289 (D 273 3) 0) 290 (D 273 3) 0) 273 3 ((D 273 3) + 1), SS L 1 c2 c3 c4 c5 c6) Q from (H.2.2.2.2.2).2))⟩)⟩)⟩)⟩)⟩))
theorem r274_103 {L c2 c3 c4 c5 c6 : Nat} {K : TK} {D : Dt} {Q : Out → Wd → Prop} {b t en op i : Int} (H : (0 ≤ op ∧ op < 46) ∧ (((sbt 34).getD op.toNat 0 = 67 → (wp 274 336 [vr 226, vr 273, vu, vi t, vu, vi op, vi i] [] (D, SS L 1 c2 c3 c4 c5 c6) Q)) ∧ (¬ ((sbt 34).getD op.toNat 0 = 67) → (((sbt 34).getD op.toNat 0 = 68 → (wp 274 403 [vr 226, vr 273, vu, vu, vu, vu, vu] [] (D, SS L 1 c2 c3 c4 c5 c6) Q)) ∧ (¬ ((sbt 34).getD op.toNat 0 = 68) → (((sbt 34).getD op.toNat 0 = 69 → (wp 274 336 [vr 226, vr 273, vu, vi t, vu, vi op, vi i] [] (D, SS L 1 c2 c3 c4 c5 c6) Q)) ∧ (¬ ((sbt 34).getD op.toNat 0 = 69) → (((sbt 34).getD op.toNat 0 = 70 → (wp 274 349 [vr 226, vr 273, vu, vi t, vu, vi op, vi i] [] (D, SS L 1 c2 c3 c4 c5 c6) Q)) ∧ (¬ ((sbt 34).getD op.toNat 0 = 70) → (((sbt 34).getD op.toNat 0 = 71 → (wp 274 403 [vr 226, vr 273, vu, vu, vu, vu, vu] [] (D, SS L 1 c2 c3 c4 c5 c6) Q)) ∧ (¬ ((sbt 34).getD op.toNat 0 = 71) → (((sbt 34).getD op.toNat 0 = 72 → (wp 274 403 [vr 226, vr 273, vu, vu, vu, vu, vu] [] (D, SS L 1 c2 c3 c4 c5 c6) Q)) ∧ (¬ ((sbt 34).getD op.toNat 0 = 72) → (((sbt 34).getD op.toNat 0 = 73 → (wp 274 238 [vr 226, vr 273, vi b, vi t, vu, vu, vi i] [] (D, SS L 1 c2 c3 c4 c5 c6) Q)) ∧ (¬ ((sbt 34).getD op.toNat 0 = 73) → (((sbt 34).getD op.toNat 0 = 74 → (wp 274 403 [vr 226, vr 273, vu, vu, vu, vu, vu] [] (D, SS L 1 c2 c3 c4 c5 c6) Q)) ∧ (¬ ((sbt 34).getD op.toNat 0 = 74) → (((sbt 34).getD op.toNat 0 = 75 → (wp 274 226 [vr 226, vr 273, vi b, vi t, vu, vu, vi i] [] (D, SS L 1 c2 c3 c4 c5 c6) Q)) ∧ (¬ ((sbt 34).getD op.toNat 0 = 75) → (((sbt 34).getD op.toNat 0 = 76 → (wp 274 284 [vr 226, vr 273, vu, vi t, vi en, vu, vi i] [] (D, SS L 1 c2 c3 c4 c5 c6) Q)) ∧ (¬ ((sbt 34).getD op.toNat 0 = 76) → (((sbt 34).getD op.toNat 0 = 77 → (wp 274 403 [vr 226, vr 273, vu, vu, vu, vu, vu] [] (D, SS L 1 c2 c3 c4 c5 c6) Q)) ∧ (¬ ((sbt 34).getD op.toNat 0 = 77) → (((sbt 34).getD op.toNat 0 = 78 → (wp 274 196 [vr 226, vr 273, vu, vi t, vu, vu, vi i] [] (D, SS L 1 c2 c3 c4 c5 c6) Q)) ∧ (¬ ((sbt 34).getD op.toNat 0 = 78) → (((sbt 34).getD op.toNat 0 = 79 → (wp 274 403 [vr 226, vr 273, vu, vu, vu, vu, vu] [] (D, SS L 1 c2 c3 c4 c5 c6) Q)) ∧ (¬ ((sbt 34).getD op.toNat 0 = 79) → (((sbt 34).getD op.toNat 0 = 80 → (wp 274 403 [vr 226, vr 273, vu, vu, vu, vu, vu] [] (D, SS L 1 c2 c3 c4 c5 c6) Q)) ∧ (¬ ((sbt 34).getD op.toNat 0 = 80) → (((sbt 34).getD op.toNat 0 = 81 → (wp 274 403 [vr 226, vr 273, vu, vu, vu, vu, vu] [] (D, SS L 1 c2 c3 c4 c5 c6) Q)) ∧ (¬ ((sbt 34).getD op.toNat 0 = 81) → (((sbt 34).getD op.toNat 0 = 82 → (wp 274 403 [vr 226, vr 273, vu, vu, vu, vu, vu] [] (D, SS L 1 c2 c3 c4 c5 c6) Q)) ∧ (¬ ((sbt 34).getD op.toNat 0 = 82) → (((sbt 34).getD op.toNat 0 = 83 → (wp 274 403 [vr 226, vr 273, vu, vu, vu, vu, vu] [] (D, SS L 1 c2 c3 c4 c5 c6) Q)) ∧ (¬ ((sbt 34).getD op.toNat 0 = 83) → (((sbt 34).getD op.toNat 0 = 84 → (wp 274 362 [vr 226, vr 273, vu, vi t, vu, vu, vi i] [] (D, SS L 1 c2 c3 c4 c5 c6) Q)) ∧ (¬ ((sbt 34).getD op.toNat 0 = 84) → (wp 274 403 [vr 226, vr 273, vu, vu, vu, vu, vu] [] (D, SS L 1 c2 c3 c4 c5 c6) Q)))))))))))))))))))))))))))))))))))))) : wp 274 103 [vr 226, vr 273, vi b, vi t, vi en, vi op, vi i] [] (D, SS L 1 c2 c3 c4 c5 c6) Q := vc_wp [] 200 _ _ _ _ _ _ (show (0 ≤ op ∧ op < 46) ∧ (wp 274 111 [vr 226, vr 273, vi b, vi t, vi en, vi op, vi i] [vi ((sbt 34).getD op.toNat 0)] (D, SS L 1 c2 c3 c4 c5 c6) Q) from ⟨H.1, vc_wp [196, 226, 238, 284, 336, 349, 362, 403] 200 _ _ _ _ _ _ (show (((sbt 34).getD op.toNat 0 = 67 → (wp 274 336 [vr 226, vr 273, vi b, vi t, vi en, vi op, vi i] [] (D, SS L 1 c2 c3 c4 c5 c6) Q)) ∧ (¬ ((sbt 34).getD op.toNat 0 = 67) → (((sbt 34).getD op.toNat 0 = 68 → (wp 274 403 [vr 226, vr 273, vi b, vi t, vi en, vi op, vi i] [] (D, SS L 1 c2 c3 c4 c5 c6) Q)) ∧ (¬ ((sbt 34).getD op.toNat 0 = 68) → (((sbt 34).getD op.toNat 0 = 69 → (wp 274 336 [vr 226, vr 273, vi b, vi t, vi en, vi op, vi i] [] (D, SS L 1 c2 c3 c4 c5 c6) Q)) ∧ (¬ ((sbt 34).getD op.toNat 0 = 69) → (((sbt 34).getD op.toNat 0 = 70 → (wp 274 349 [vr 226, vr 273, vi b, vi t, vi en, vi op, vi i] [] (D, SS L 1 c2 c3 c4 c5 c6) Q)) ∧ (¬ ((sbt 34).getD op.toNat 0 = 70) → (((sbt 34).getD op.toNat 0 = 71 → (wp 274 403 [vr 226, vr 273, vi b, vi t, vi en, vi op, vi i] [] (D, SS L 1 c2 c3 c4 c5 c6) Q)) ∧ (¬ ((sbt 34).getD op.toNat 0 = 71) → (((sbt 34).getD op.toNat 0 = 72 → (wp 274 403 [vr 226, vr 273, vi b, vi t, vi en, vi op, vi i] [] (D, SS L 1 c2 c3 c4 c5 c6) Q)) ∧ (¬ ((sbt 34).getD op.toNat 0 = 72) → (((sbt 34).getD op.toNat 0 = 73 → (wp 274 238 [vr 226, vr 273, vi b, vi t, vi en, vi op, vi i] [] (D, SS L 1 c2 c3 c4 c5 c6) Q)) ∧ (¬ ((sbt 34).getD op.toNat 0 = 73) → (((sbt 34).getD op.toNat 0 = 74 → (wp 274 403 [vr 226, vr 273, vi b, vi t, vi en, vi op, vi i] [] (D, SS L 1 c2 c3 c4 c5 c6) Q)) ∧ (¬ ((sbt 34).getD op.toNat 0 = 74) → (((sbt 34).getD op.toNat 0 = 75 → (wp 274 226 [vr 226, vr 273, vi b, vi t, vi en, vi op, vi i] [] (D, SS L 1 c2 c3 c4 c5 c6) Q)) ∧ (¬ ((sbt 34).getD op.toNat 0 = 75) → (((sbt 34).getD op.toNat 0 = 76 → (wp 274 284 [vr 226, vr 273, vi b, vi t, vi en, vi op, vi i] [] (D, SS L 1 c2 c3 c4 c5 c6) Q)) ∧ (¬ ((sbt 34).getD op.toNat 0 = 76) → (((sbt 34).getD op.toNat 0 = 77 → (wp 274 403 [vr 226, vr 273, vi b, vi t, vi en, vi op, vi i] [] (D, SS L 1 c2 c3 c4 c5 c6) Q)) ∧ (¬ ((sbt 34).getD op.toNat 0 = 77) → (((sbt 34).getD op.toNat 0 = 78 → (wp 274 196 [vr 226, vr 273, vi b, vi t, vi en, vi op, vi i] [] (D, SS L 1 c2 c3 c4 c5 c6) Q)) ∧ (¬ ((sbt 34).getD op.toNat 0 = 78) → (((sbt 34).getD op.toNat 0 = 79 → (wp 274 403 [vr 226, vr 273, vi b, vi t, vi en, vi op, vi i] [] (D, SS L 1 c2 c3 c4 c5 c6) Q)) ∧ (¬ ((sbt 34).getD op.toNat 0 = 79) → (((sbt 34).getD op.toNat 0 = 80 → (wp 274 403 [vr 226, vr 273, vi b, vi t, vi en, vi op, vi i] [] (D, SS L 1 c2 c3 c4 c5 c6) Q)) ∧ (¬ ((sbt 34).getD op.toNat 0 = 80) → (((sbt 34).getD op.toNat 0 = 81 → (wp 274 403 [vr 226, vr 273, vi b, vi t, vi en, vi op, vi i] [] (D, SS L 1 c2 c3 c4 c5 c6) Q)) ∧ (¬ ((sbt 34).getD op.toNat 0 = 81) → (((sbt 34).getD op.toNat 0 = 82 → (wp 274 403 [vr 226, vr 273, vi b, vi t, vi en, vi op, vi i] [] (D, SS L 1 c2 c3 c4 c5 c6) Q)) ∧ (¬ ((sbt 34).getD op.toNat 0 = 82) → (((sbt 34).getD op.toNat 0 = 83 → (wp 274 403 [vr 226, vr 273, vi b, vi t, vi en, vi op, vi i] [] (D, SS L 1 c2 c3 c4 c5 c6) Q)) ∧ (¬ ((sbt 34).getD op.toNat 0 = 83) → (((sbt 34).getD op.toNat 0 = 84 → (wp 274 362 [vr 226, vr 273, vi b, vi t, vi en, vi op, vi i] [] (D, SS L 1 c2 c3 c4 c5 c6) Q)) ∧ (¬ ((sbt 34).getD op.toNat 0 = 84) → (wp 274 403 [vr 226, vr 273, vi b, vi t, vi en, vi op, vi i] [] (D, SS L 1 c2 c3 c4 c5 c6) Q))))))))))))))))))))))))))))))))))))) from ⟨fun h35 => wp_d (Lle.k rfl (Lle.k rfl (Lle.v rfl (Lle.k rfl (Lle.v rfl (Lle.k rfl (Lle.k rfl (Lle.nil)))))))) ((H.2.1 h35)), fun h36 => ⟨fun h33 => wp_d (Lle.k rfl (Lle.k rfl (Lle.v rfl (Lle.v rfl (Lle.v rfl (Lle.v rfl (Lle.v rfl (Lle.nil)))))))) (((H.2.2 h36).1 h33)), fun h34 => ⟨fun h31 => wp_d (Lle.k rfl (Lle.k rfl (Lle.v rfl (Lle.k rfl (Lle.v rfl (Lle.k rfl (Lle.k rfl (Lle.nil)))))))) ((((H.2.2 h36).2 h34).1 h31)), fun h32 => ⟨fun h29 => wp_d (Lle.k rfl (Lle.k rfl (Lle.v rfl (Lle.k rfl (Lle.v rfl (Lle.k rfl (Lle.k rfl (Lle.nil)))))))) (((((H.2.2 h36).2 h34).2 h32).1 h29)), fun h30 => ⟨fun h27 => wp_d (Lle.k rfl (Lle.k rfl (Lle.v rfl (Lle.v rfl (Lle.v rfl (Lle.v rfl (Lle.v rfl (Lle.nil)))))))) ((((((H.2.2 h36).2 h34).2 h32).2 h30).1 h27)), fun h28 => ⟨fun h25 => wp_d (Lle.k rfl (Lle.k rfl (Lle.v rfl (Lle.v rfl (Lle.v rfl (Lle.v rfl (Lle.v rfl (Lle.nil)))))))) (((((((H.2.2 h36).2 h34).2 h32).2 h30).2 h28).1 h25)), fun h26 => ⟨fun h23 => wp_d (Lle.k rfl (Lle.k rfl (Lle.k rfl (Lle.k rfl (Lle.v rfl (Lle.v rfl (Lle.k rfl (Lle.nil)))))))) ((((((((H.2.2 h36).2 h34).2 h32).2 h30).2 h28).2 h26).1 h23)), fun h24 => ⟨fun h21 => wp_d (Lle.k rfl (Lle.k rfl (Lle.v rfl (Lle.v rfl (Lle.v rfl (Lle.v rfl (Lle.v rfl (Lle.nil)))))))) (((((((((H.2.2 h36).2 h34).2 h32).2 h30).2 h28).2 h26).2 h24).1 h21)), fun h22 => ⟨fun h19 => wp_d (Lle.k rfl (Lle.k rfl (Lle.k rfl (Lle.k rfl (Lle.v rfl (Lle.v rfl (Lle.k rfl (Lle.nil)))))))) ((((((((((H.2.2 h36).2 h34).2 h32).2 h30).2 h28).2 h26).2 h24).2 h22).1 h19)), fun h20 => ⟨fun h17 => wp_d (Lle.k rfl (Lle.k rfl (Lle.v rfl (Lle.k rfl (Lle.k rfl (Lle.v rfl (Lle.k rfl (Lle.nil)))))))) (((((((((((H.2.2 h36).2 h34).2 h32).2 h30).2 h28).2 h26).2 h24).2 h22).2 h20).1 h17)), fun h18 => ⟨fun h15 => wp_d (Lle.k rfl (Lle.k rfl (Lle.v rfl (Lle.v rfl (Lle.v rfl (Lle.v rfl (Lle.v rfl (Lle.nil)))))))) ((((((((((((H.2.2 h36).2 h34).2 h32).2 h30).2 h28).2 h26).2 h24).2 h22).2 h20).2 h18).1 h15)), fun h16 => ⟨fun h13 => wp_d (Lle.k rfl (Lle.k rfl (Lle.v rfl (Lle.k rfl (Lle.v rfl (Lle.v rfl (Lle.k rfl (Lle.nil)))))))) (((((((((((((H.2.2 h36).2 h34).2 h32).2 h30).2 h28).2 h26).2 h24).2 h22).2 h20).2 h18).2 h16).1 h13)), fun h14 => ⟨fun h11 => wp_d (Lle.k rfl (Lle.k rfl (Lle.v rfl (Lle.v rfl (Lle.v rfl (Lle.v rfl (Lle.v rfl (Lle.nil)))))))) ((((((((((((((H.2.2 h36).2 h34).2 h32).2 h30).2 h28).2 h26).2 h24).2 h22).2 h20).2 h18).2 h16).2 h14).1 h11)), fun h12 => ⟨fun h9 => wp_d (Lle.k rfl (Lle.k rfl (Lle.v rfl (Lle.v rfl (Lle.v rfl (Lle.v rfl (Lle.v rfl (Lle.nil)))))))) (((((((((((((((H.2.2 h36).2 h34).2 h32).2 h30).2 h28).2 h26).2 h24).2 h22).2 h20).2 h18).2 h16).2 h14).2 h12).1 h9)), fun h10 => ⟨fun h7 => wp_d (Lle.k rfl (Lle.k rfl (Lle.v rfl (Lle.v rfl (Lle.v rfl (Lle.v rfl (Lle.v rfl (Lle.nil)))))))) ((((((((((((((((H.2.2 h36).2 h34).2 h32).2 h30).2 h28).2 h26).2 h24).2 h22).2 h20).2 h18).2 h16).2 h14).2 h12).2 h10).1 h7)), fun h8 => ⟨fun h5 => wp_d (Lle.k rfl (Lle.k rfl (Lle.v rfl (Lle.v rfl (Lle.v rfl (Lle.v rfl (Lle.v rfl (Lle.nil)))))))) (((((((((((((((((H.2.2 h36).2 h34).2 h32).2 h30).2 h28).2 h26).2 h24).2 h22).2 h20).2 h18).2 h16).2 h14).2 h12).2 h10).2 h8).1 h5)), fun h6 => ⟨fun h3 => wp_d (Lle.k rfl (Lle.k rfl (Lle.v rfl (Lle.v rfl (Lle.v rfl (Lle.v rfl (Lle.v rfl (Lle.nil)))))))) ((((((((((((((((((H.2.2 h36).2 h34).2 h32).2 h30).2 h28).2 h26).2 h24).2 h22).2 h20).2 h18).2 h16).2 h14).2 h12).2 h10).2 h8).2 h6).1 h3)), fun h4 => ⟨fun h1 => wp_d (Lle.k rfl (Lle.k rfl (Lle.v rfl (Lle.k rfl (Lle.v rfl (Lle.v rfl (Lle.k rfl (Lle.nil)))))))) (((((((((((((((((((H.2.2 h36).2 h34).2 h32).2 h30).2 h28).2 h26).2 h24).2 h22).2 h20).2 h18).2 h16).2 h14).2 h12).2 h10).2 h8).2 h6).2 h4).1 h1)), fun h2 => wp_d (Lle.k rfl (Lle.k rfl (Lle.v rfl (Lle.v rfl (Lle.v rfl (Lle.v rfl (Lle.v rfl (Lle.nil)))))))) (((((((((((((((((((H.2.2 h36).2 h34).2 h32).2 h30).2 h28).2 h26).2 h24).2 h22).2 h20).2 h18).2 h16).2 h14).2 h12).2 h10).2 h8).2 h6).2 h4).2 h2))⟩⟩⟩⟩⟩⟩⟩⟩⟩⟩⟩⟩⟩⟩⟩⟩⟩⟩)⟩)
theorem r274_196 {L c2 c3 c4 c5 c6 : Nat} {K : TK} {D : Dt} {Q : Out → Wd → Prop} {t i : Int} (H : ((-2147483648) ≤ t + 1 ∧ t + 1 ≤ 2147483647) ∧ ((MKp K (D 226 10) (D 321) (D 322) (D 320) ∧ 0 ≤ (t + 1) ∧ K.num (t + 1)) ∧ ((((-2147483648) ≤ K.val (t + 1) ∧ K.val (t + 1) ≤ 2147483647) ∧ ((0 ≤ i ∧ i < 1024) ∧ ((0 ≤ i ∧ i < 1024) ∧ (∃ (P3 : Int → Prop), (SL (D 299) (D 273 7) P3 ∧ D 273 7 < 3077 ∧ (-2147483648 ≤ ((up D 289 i (K.val (t + 1))) 289 i) ∧ ((up D 289 i (K.val (t + 1))) 289 i) ≤ 2147483647)) ∧ ((∀ (E5 : Dt), (FrT (up D 289 i (K.val (t + 1))) E5 ∧ SL (E5 299) (E5 273 7) (fun x => P3 x ∨ ((((up D 289 i (K.val (t + 1))) 289 i) - 1 ≤ x ∧ x ≤ ((up D 289 i (K.val (t + 1))) 289 i) + 1) ∧ (-2147483648 ≤ x ∧ x ≤ 2147483647))) ∧ E5 273 7 ≤ D 273 7 + 3) → (Q (.inl [vi 1]) (E5, SS L 1 c2 c3 c4 c5 c6))))))))))) : wp 274 196 [vr 226, vr 273, vu, vi t, vu, vu, vi i] [] (D, SS L 1 c2 c3 c4 c5 c6) Q := vc_wp [200] 200 _ _ _ _ _ _ (show wp 274 200 [vr 226, vr 273, vu, vi t, vu, vu, vi i] [vr 289] (D, SS L 1 c2 c3 c4 c5 c6) Q from vc_wp [206] 200 _ _ _ _ _ _ (show wp 274 206 [vr 226, vr 273, vu, vi t, vu, vu, vi i] [vi (w32 (t + 1)), vr 226, vi i, vr 289] (D, SS L 1 c2 c3 c4 c5 c6) Q from w32_i (fun z8 : Int => wp 274 206 [vr 226, vr 273, vu, vi t, vu, vu, vi i] [vi z8, vr 226, vi i, vr 289] (D, SS L 1 c2 c3 c4 c5 c6) Q) (H).1 (vc_wp [] 200 _ _ _ _ _ _ (show wp 244 0 [vr 226, vi (t + 1), vu, vu, vu, vu] [] (D, SS L 1 c2 c3 c4 c5 c6) (aft wp 274 206 [vr 226, vr 273, vu, vi t, vu, vu, vi i] [vi i, vr 289] Q) from k244 ⟨(H).2.1, (show wp 274 209 [vr 226, vr 273, vu, vi t, vu, vu, vi i] [vl (K.val (t + 1)), vi i, vr 289] (D, SS L 1 c2 c3 c4 c5 c6) Q from vc_wp [210] 200 _ _ _ _ _ _ (show wp 274 210 [vr 226, vr 273, vu, vi t, vu, vu, vi i] [vi (w32 (K.val (t + 1))), vi i, vr 289] (D, SS L 1 c2 c3 c4 c5 c6) Q from w32_i (fun z7 : Int => wp 274 210 [vr 226, vr 273, vu, vi t, vu, vu, vi i] [vi z7, vi i, vr 289] (D, SS L 1 c2 c3 c4 c5 c6) Q) ((H).2.2).1 (vc_wp [217] 200 _ _ _ _ _ _ (show (0 ≤ i ∧ i < 1024) ∧ (wp 274 217 [vr 226, vr 273, vu, vi t, vu, vu, vi i] [vr 289, vr 273, vr 226] (up D 289 i (K.val (t + 1)), SS L 1 c2 c3 c4 c5 c6) Q) from ⟨((H).2.2).2.1, vc_wp [] 200 _ _ _ _ _ _ (show (0 ≤ i ∧ i < 1024) ∧ (wp 275 0 [vr 226, vr 273, vl ((up D 289 i (K.val (t + 1))) 289 i), vu, vu, vu] [] (up D 289 i (K.val (t + 1)), SS L 1 c2 c3 c4 c5 c6) (aft wp 274 221 [vr 226, vr 273, vu, vi t, vu, vu, vi i] [] Q)) from ⟨((H).2.2).2.2.1, Exists.elim (((H).2.2).2.2.2) fun P3 x4 => s275 ⟨P3, x4.1, (fun E5 q6 => (show wp 274 224 [vr 226, vr 273, vu, vi t, vu, vu, vi i] [] (E5, SS L 1 c2 c3 c4 c5 c6) Q from vc_wp [] 200 _ _ _ _ _ _ (show ((0 : Int) ≤ 1 ∧ 1 ≤ (1 : Int)) ∧ (Q (.inl [vi 1]) (E5, SS L 1 c2 c3 c4 c5 c6)) from ⟨(by decide), (x4.2 E5 q6)⟩)))⟩⟩)⟩))))⟩))))
theorem r274_226 {L c2 c3 c4 c5 c6 : Nat} {K : TK} {D : Dt} {Q : Out → Wd → Prop} {b t i : Int} (H : ((-2147483648) ≤ t + 1 ∧ t + 1 ≤ 2147483647) ∧ ((MKp K (D 226 10) (D 321) (D 322) (D 320) ∧ 0 ≤ (t + 1) ∧ K.num (t + 1) ∧ (0 ≤ b ∧ b < 48) ∧ (0 ≤ i ∧ i < 1024)) ∧ (((0 ≤ K.val (t + 1) ∧ K.val (t + 1) < D 284 b) → (Q (.inl [vi 1]) (up D 289 i (K.val (t + 1)), SS L 1 c2 c3 c4 c5 c6))) ∧ ((¬ (0 ≤ K.val (t + 1) ∧ K.val (t + 1) < D 284 b)) → (Q (.inl [vi 0]) (up D 226 12 (t + 1), SS L 1 c2 c3 c4 c5 c6)))))) : wp 274 226 [vr 226, vr 273, vi b, vi t, vu, vu, vi i] [] (D, SS L 1 c2 c3 c4 c5 c6) Q := vc_wp [234] 200 _ _ _ _ _ _ (show wp 274 234 [vr 226, vr 273, vi b, vi t, vu, vu, vi i] [vi (w32 (t + 1)), vi i, vi b, vr 273, vr 226] (D, SS L 1 c2 c3 c4 c5 c6) Q from w32_i (fun z4 : Int => wp 274 234 [vr 226, vr 273, vi b, vi t, vu, vu, vi i] [vi z4, vi i, vi b, vr 273, vr 226] (D, SS L 1 c2 c3 c4 c5 c6) Q) (H).1 (vc_wp [] 200 _ _ _ _ _ _ (show wp 277 0 [vr 226, vr 273, vi b, vi i, vi (t + 1), vu, vu] [] (D, SS L 1 c2 c3 c4 c5 c6) (aft wp 274 234 [vr 226, vr 273, vi b, vi t, vu, vu, vi i] [] Q) from s277 ⟨(H).2.1, (fun q2 => (show wp 274 237 [vr 226, vr 273, vi b, vi t, vu, vu, vi i] [vi 1] (up D 289 i (K.val (t + 1)), SS L 1 c2 c3 c4 c5 c6) Q from vc_wp [] 200 _ _ _ _ _ _ (show ((0 : Int) ≤ 1 ∧ 1 ≤ (1 : Int)) ∧ (Q (.inl [vi 1]) (up D 289 i (K.val (t + 1)), SS L 1 c2 c3 c4 c5 c6)) from ⟨(by decide), ((H).2.2.1 q2)⟩))), (fun q3 => (show wp 274 237 [vr 226, vr 273, vi b, vi t, vu, vu, vi i] [vi 0] (up D 226 12 (t + 1), SS L 1 c2 c3 c4 c5 c6) Q from vc_wp [] 200 _ _ _ _ _ _ (show ((0 : Int) ≤ 0 ∧ 0 ≤ (1 : Int)) ∧ (Q (.inl [vi 0]) (up D 226 12 (t + 1), SS L 1 c2 c3 c4 c5 c6)) from ⟨(by decide), ((H).2.2.2 q3)⟩)))⟩)))
theorem r274_238 {L c2 c3 c4 c5 c6 : Nat} {K : TK} {D : Dt} {Q : Out → Wd → Prop} {b t i : Int} (H : ((-2147483648) ≤ t + 1 ∧ t + 1 ≤ 2147483647) ∧ ((MKp K (D 226 10) (D 321) (D 322) (D 320) ∧ 0 ≤ (t + 1) ∧ K.num (t + 1) ∧ (0 ≤ b ∧ b < 48) ∧ (0 ≤ i ∧ i < 1024)) ∧ (((0 ≤ K.val (t + 1) ∧ K.val (t + 1) < D 284 b) → (((-2147483648) ≤ t + 2 ∧ t + 2 ≤ 2147483647) ∧ ((MKp K (D 226 10) (D 321) (D 322) (D 320) ∧ 0 ≤ (t + 2) ∧ K.num (t + 2)) ∧ ((((-2147483648) ≤ K.val (t + 2) ∧ K.val (t + 2) ≤ 2147483647) ∧ ((0 ≤ i ∧ i < 1024) ∧ ((0 ≤ i ∧ i < 1024) ∧ (∃ (P5 : Int → Prop), (SL (D 299) (D 273 7) P5 ∧ D 273 7 < 3077 ∧ (-2147483648 ≤ ((up (up D 289 i (K.val (t + 1))) 290 i (K.val (t + 2))) 290 i) ∧ ((up (up D 289 i (K.val (t + 1))) 290 i (K.val (t + 2))) 290 i) ≤ 2147483647)) ∧ ((∀ (E7 : Dt), (FrT (up (up D 289 i (K.val (t + 1))) 290 i (K.val (t + 2))) E7 ∧ SL (E7 299) (E7 273 7) (fun x => P5 x ∨ ((((up (up D 289 i (K.val (t + 1))) 290 i (K.val (t + 2))) 290 i) - 1 ≤ x ∧ x ≤ ((up (up D 289 i (K.val (t + 1))) 290 i (K.val (t + 2))) 290 i) + 1) ∧ (-2147483648 ≤ x ∧ x ≤ 2147483647))) ∧ E7 273 7 ≤ D 273 7 + 3) → (Q (.inl [vi 1]) (E7, SS L 1 c2 c3 c4 c5 c6)))))))))))) ∧ ((¬ (0 ≤ K.val (t + 1) ∧ K.val (t + 1) < D 284 b)) → (Q (.inl [vi 0]) (up D 226 12 (t + 1), SS L 1 c2 c3 c4 c5 c6)))))) : wp 274 238 [vr 226, vr 273, vi b, vi t, vu, vu, vi i] [] (D, SS L 1 c2 c3 c4 c5 c6) Q := vc_wp [246] 200 _ _ _ _ _ _ (show wp 274 246 [vr 226, vr 273, vi b, vi t, vu, vu, vi i] [vi (w32 (t + 1)), vi i, vi b, vr 273, vr 226] (D, SS L 1 c2 c3 c4 c5 c6) Q from w32_i (fun z24 : Int => wp 274 246 [vr 226, vr 273, vi b, vi t, vu, vu, vi i] [vi z24, vi i, vi b, vr 273, vr 226] (D, SS L 1 c2 c3 c4 c5 c6) Q) (H).1 (vc_wp [] 200 _ _ _ _ _ _ (show wp 277 0 [vr 226, vr 273, vi b, vi i, vi (t + 1), vu, vu] [] (D, SS L 1 c2 c3 c4 c5 c6) (aft wp 274 246 [vr 226, vr 273, vi b, vi t, vu, vu, vi i] [] Q) from s277 ⟨(H).2.1, (fun q2 => (show wp 274 249 [vr 226, vr 273, vi b, vi t, vu, vu, vi i] [vi 1] (up D 289 i (K.val (t + 1)), SS L 1 c2 c3 c4 c5 c6) Q from vc_wp [258] 200 _ _ _ _ _ _ (show (((1 : Int) = 0 → (((0 : Int) ≤ 0 ∧ 0 ≤ (1 : Int)) ∧ (Q (.inl [vi 0]) (up D 289 i (K.val (t + 1)), SS L 1 c2 c3 c4 c5 c6)))) ∧ (¬ ((1 : Int) = 0) → (wp 274 258 [vr 226, vr 273, vi b, vi t, vu, vu, vi i] [vr 290] (up D 289 i (K.val (t + 1)), SS L 1 c2 c3 c4 c5 c6) Q))) from ⟨fun h11 => absurd h11 (by decide), fun _ => vc_wp [264] 200 _ _ _ _ _ _ (show wp 274 264 [vr 226, vr 273, vi b, vi t, vu, vu, vi i] [vi (w32 (t + 2)), vr 226, vi i, vr 290] (up D 289 i (K.val (t + 1)), SS L 1 c2 c3 c4 c5 c6) Q from w32_i (fun z10 : Int => wp 274 264 [vr 226, vr 273, vi b, vi t, vu, vu, vi i] [vi z10, vr 226, vi i, vr 290] (up D 289 i (K.val (t + 1)), SS L 1 c2 c3 c4 c5 c6) Q) (((H).2.2.1 q2)).1 (vc_wp [] 200 _ _ _ _ _ _ (show wp 244 0 [vr 226, vi (t + 2), vu, vu, vu, vu] [] (up D 289 i (K.val (t + 1)), SS L 1 c2 c3 c4 c5 c6) (aft wp 274 264 [vr 226, vr 273, vi b, vi t, vu, vu, vi i] [vi i, vr 290] Q) from k244 ⟨(((H).2.2.1 q2)).2.1, (show wp 274 267 [vr 226, vr 273, vi b, vi t, vu, vu, vi i] [vl (K.val (t + 2)), vi i, vr 290] (up D 289 i (K.val (t + 1)), SS L 1 c2 c3 c4 c5 c6) Q from vc_wp [268] 200 _ _ _ _ _ _ (show wp 274 268 [vr 226, vr 273, vi b, vi t, vu, vu, vi i] [vi (w32 (K.val (t + 2))), vi i, vr 290] (up D 289 i (K.val (t + 1)), SS L 1 c2 c3 c4 c5 c6) Q from w32_i (fun z9 : Int => wp 274 268 [vr 226, vr 273, vi b, vi t, vu, vu, vi i] [vi z9, vi i, vr 290] (up D 289 i (K.val (t + 1)), SS L 1 c2 c3 c4 c5 c6) Q) ((((H).2.2.1 q2)).2.2).1 (vc_wp [275] 200 _ _ _ _ _ _ (show (0 ≤ i ∧ i < 1024) ∧ (wp 274 275 [vr 226, vr 273, vi b, vi t, vu, vu, vi i] [vr 290, vr 273, vr 226] (up (up D 289 i (K.val (t + 1))) 290 i (K.val (t + 2)), SS L 1 c2 c3 c4 c5 c6) Q) from ⟨((((H).2.2.1 q2)).2.2).2.1, vc_wp [] 200 _ _ _ _ _ _ (show (0 ≤ i ∧ i < 1024) ∧ (wp 275 0 [vr 226, vr 273, vl ((up (up D 289 i (K.val (t + 1))) 290 i (K.val (t + 2))) 290 i), vu, vu, vu] [] (up (up D 289 i (K.val (t + 1))) 290 i (K.val (t + 2)), SS L 1 c2 c3 c4 c5 c6) (aft wp 274 279 [vr 226, vr 273, vi b, vi t, vu, vu, vi i] [] Q)) from ⟨((((H).2.2.1 q2)).2.2).2.2.1, Exists.elim (((((H).2.2.1 q2)).2.2).2.2.2) fun P5 x6 => s275 ⟨P5, x6.1, (fun E7 q8 => (show wp 274 282 [vr 226, vr 273, vi b, vi t, vu, vu, vi i] [] (E7, SS L 1 c2 c3 c4 c5 c6) Q from vc_wp [] 200 _ _ _ _ _ _ (show ((0 : Int) ≤ 1 ∧ 1 ≤ (1 : Int)) ∧ (Q (.inl [vi 1]) (E7, SS L 1 c2 c3 c4 c5 c6)) from ⟨(by decide), (x6.2 E7 q8)⟩)))⟩⟩)⟩))))⟩)))⟩))), (fun q13 => (show wp 274 249 [vr 226, vr 273, vi b, vi t, vu, vu, vi i] [vi 0] (up D 226 12 (t + 1), SS L 1 c2 c3 c4 c5 c6) Q from vc_wp [258] 200 _ _ _ _ _ _ (show (((0 : Int) = 0 → (((0 : Int) ≤ 0 ∧ 0 ≤ (1 : Int)) ∧ (Q (.inl [vi 0]) (up D 226 12 (t + 1), SS L 1 c2 c3 c4 c5 c6)))) ∧ (¬ ((0 : Int) = 0) → (wp 274 258 [vr 226, vr 273, vi b, vi t, vu, vu, vi i] [vr 290] (up D 226 12 (t + 1), SS L 1 c2 c3 c4 c5 c6) Q))) from ⟨fun _ => ⟨(by decide), ((H).2.2.2 q13)⟩, fun h23 => absurd (by decide) h23⟩)))⟩)))
theorem r274_284 {L c2 c3 c4 c5 c6 : Nat} {K : TK} {D : Dt} {Q : Out → Wd → Prop} {t en i : Int} (H : ((-2147483648) ≤ t + 1 ∧ t + 1 ≤ 2147483647) ∧ (∃ (xl1 : List Int × List Int), (MKp K (D 226 10) (D 321) (D 322) (D 320) ∧ LbM K xl1.1 xl1.2 D ∧ 0 ≤ (t + 1) ∧ (t + 1) < K.n) ∧ (((0 ≤ i ∧ i < 1024) ∧ ((0 ≤ i ∧ i < 1024) ∧ (((up D 289 i (labA K xl1.1 xl1.2 (t + 1))) 289 i < 0 → (((-2147483648) ≤ t + 1 ∧ t + 1 ≤ 2147483647) ∧ (Q (.inl [vi 0]) (up (up D 289 i (labA K xl1.1 xl1.2 (t + 1))) 226 12 (t + 1), SS L 1 c2 c3 c4 c5 c6)))) ∧ (¬ ((up D 289 i (labA K xl1.1 xl1.2 (t + 1))) 289 i < 0) → ((0 ≤ i ∧ i < 1024) ∧ (((up D 289 i (labA K xl1.1 xl1.2 (t + 1))) 289 i < en → (Q (.inl [vi 1]) (up D 289 i (labA K xl1.1 xl1.2 (t + 1)), SS L 1 c2 c3 c4 c5 c6))) ∧ (¬ ((up D 289 i (labA K xl1.1 xl1.2 (t + 1))) 289 i < en) → (((-2147483648) ≤ t + 1 ∧ t + 1 ≤ 2147483647) ∧ (Q (.inl [vi 0]) (up (up D 289 i (labA K xl1.1 xl1.2 (t + 1))) 226 12 (t + 1), SS L 1 c2 c3 c4 c5 c6))))))))))))) : wp 274 284 [vr 226, vr 273, vu, vi t, vi en, vu, vi i] [] (D, SS L 1 c2 c3 c4 c5 c6) Q := vc_wp [288] 200 _ _ _ _ _ _ (show wp 274 288 [vr 226, vr 273, vu, vi t, vi en, vu, vi i] [vr 289] (D, SS L 1 c2 c3 c4 c5 c6) Q from vc_wp [294] 200 _ _ _ _ _ _ (show wp 274 294 [vr 226, vr 273, vu, vi t, vi en, vu, vi i] [vi (w32 (t + 1)), vr 226, vi i, vr 289] (D, SS L 1 c2 c3 c4 c5 c6) Q from w32_i (fun z18 : Int => wp 274 294 [vr 226, vr 273, vu, vi t, vi en, vu, vi i] [vi z18, vr 226, vi i, vr 289] (D, SS L 1 c2 c3 c4 c5 c6) Q) (H).1 (vc_wp [] 200 _ _ _ _ _ _ (show wp 273 0 [vr 226, vi (t + 1), vu] [] (D, SS L 1 c2 c3 c4 c5 c6) (aft wp 274 294 [vr 226, vr 273, vu, vi t, vi en, vu, vi i] [vi i, vr 289] Q) from Exists.elim ((H).2) fun xl1 x2 => s273 ⟨xl1, x2.1, (show wp 274 297 [vr 226, vr 273, vu, vi t, vi en, vu, vi i] [vi (labA K xl1.1 xl1.2 (t + 1)), vi i, vr 289] (D, SS L 1 c2 c3 c4 c5 c6) Q from vc_wp [302] 200 _ _ _ _ _ _ (show (0 ≤ i ∧ i < 1024) ∧ (wp 274 302 [vr 226, vr 273, vu, vi t, vi en, vu, vi i] [vr 289] (up D 289 i (labA K xl1.1 xl1.2 (t + 1)), SS L 1 c2 c3 c4 c5 c6) Q) from ⟨x2.2.1, vc_wp [312, 324] 200 _ _ _ _ _ _ (show (0 ≤ i ∧ i < 1024) ∧ (((up D 289 i (labA K xl1.1 xl1.2 (t + 1))) 289 i < 0 → (wp 274 324 [vr 226, vr 273, vu, vi t, vi en, vu, vi i] [vi (w32 (t + 1)), vr 226] (up D 289 i (labA K xl1.1 xl1.2 (t + 1)), SS L 1 c2 c3 c4 c5 c6) Q)) ∧ (¬ ((up D 289 i (labA K xl1.1 xl1.2 (t + 1))) 289 i < 0) → (wp 274 312 [vr 226, vr 273, vu, vi t, vi en, vu, vi i] [vr 289] (up D 289 i (labA K xl1.1 xl1.2 (t + 1)), SS L 1 c2 c3 c4 c5 c6) Q))) from ⟨x2.2.2.1, ⟨fun h16 => w32_i (fun z8 : Int => wp 274 324 [vr 226, vr 273, vu, vi t, vi en, vu, vi i] [vi z8, vr 226] (up D 289 i (labA K xl1.1 xl1.2 (t + 1)), SS L 1 c2 c3 c4 c5 c6) Q) ((x2.2.2.2.1 h16)).1 (vc_wp [] 200 _ _ _ _ _ _ (show wp 256 0 [vr 226, vi (t + 1)] [] (up D 289 i (labA K xl1.1 xl1.2 (t + 1)), SS L 1 c2 c3 c4 c5 c6) (aft wp 274 324 [vr 226, vr 273, vu, vi t, vi en, vu, vi i] [] Q) from r256_0 (show wp 274 327 [vr 226, vr 273, vu, vi t, vi en, vu, vi i] [vi 0] (up (up D 289 i (labA K xl1.1 xl1.2 (t + 1))) 226 12 (t + 1), SS L 1 c2 c3 c4 c5 c6) Q from vc_wp [] 200 _ _ _ _ _ _ (show (((0 : Int) = 0 → (((0 : Int) ≤ 0 ∧ 0 ≤ (1 : Int)) ∧ (Q (.inl [vi 0]) (up (up D 289 i (labA K xl1.1 xl1.2 (t + 1))) 226 12 (t + 1), SS L 1 c2 c3 c4 c5 c6)))) ∧ (¬ ((0 : Int) = 0) → (((0 : Int) ≤ 1 ∧ 1 ≤ (1 : Int)) ∧ (Q (.inl [vi 1]) (up (up D 289 i (labA K xl1.1 xl1.2 (t + 1))) 226 12 (t + 1), SS L 1 c2 c3 c4 c5 c6))))) from ⟨fun _ => ⟨(by decide), ((x2.2.2.2.1 h16)).2⟩, fun h7 => absurd (by decide) h7⟩)))), fun h17 => vc_wp [324] 200 _ _ _ _ _ _ (show (0 ≤ i ∧ i < 1024) ∧ (((up D 289 i (labA K xl1.1 xl1.2 (t + 1))) 289 i < en → (((0 : Int) ≤ 1 ∧ 1 ≤ (1 : Int)) ∧ (Q (.inl [vi 1]) (up D 289 i (labA K xl1.1 xl1.2 (t + 1)), SS L 1 c2 c3 c4 c5 c6)))) ∧ (¬ ((up D 289 i (labA K xl1.1 xl1.2 (t + 1))) 289 i < en) → (wp 274 324 [vr 226, vr 273, vu, vi t, vi en, vu, vi i] [vi (w32 (t + 1)), vr 226] (up D 289 i (labA K xl1.1 xl1.2 (t + 1)), SS L 1 c2 c3 c4 c5 c6) Q))) from ⟨(x2.2.2.2.2 h17).1, ⟨fun h14 => ⟨(by decide), ((x2.2.2.2.2 h17).2.1 h14)⟩, fun h15 => w32_i (fun z13 : Int => wp 274 324 [vr 226, vr 273, vu, vi t, vi en, vu, vi i] [vi z13, vr 226] (up D 289 i (labA K xl1.1 xl1.2 (t + 1)), SS L 1 c2 c3 c4 c5 c6) Q) (((x2.2.2.2.2 h17).2.2 h15)).1 (vc_wp [] 200 _ _ _ _ _ _ (show wp 256 0 [vr 226, vi (t + 1)] [] (up D 289 i (labA K xl1.1 xl1.2 (t + 1)), SS L 1 c2 c3 c4 c5 c6) (aft wp 274 324 [vr 226, vr 273, vu, vi t, vi en, vu, vi i] [] Q) from r256_0 (show wp 274 327 [vr 226, vr 273, vu, vi t, vi en, vu, vi i] [vi 0] (up (up D 289 i (labA K xl1.1 xl1.2 (t + 1))) 226 12 (t + 1), SS L 1 c2 c3 c4 c5 c6) Q from vc_wp [] 200 _ _ _ _ _ _ (show (((0 : Int) = 0 → (((0 : Int) ≤ 0 ∧ 0 ≤ (1 : Int)) ∧ (Q (.inl [vi 0]) (up (up D 289 i (labA K xl1.1 xl1.2 (t + 1))) 226 12 (t + 1), SS L 1 c2 c3 c4 c5 c6)))) ∧ (¬ ((0 : Int) = 0) → (((0 : Int) ≤ 1 ∧ 1 ≤ (1 : Int)) ∧ (Q (.inl [vi 1]) (up (up D 289 i (labA K xl1.1 xl1.2 (t + 1))) 226 12 (t + 1), SS L 1 c2 c3 c4 c5 c6))))) from ⟨fun _ => ⟨(by decide), (((x2.2.2.2.2 h17).2.2 h15)).2⟩, fun h12 => absurd (by decide) h12⟩))))⟩⟩)⟩⟩)⟩))⟩))))
theorem r274_336 {L c2 c3 c4 c5 c6 : Nat} {K : TK} {D : Dt} {Q : Out → Wd → Prop} {t op i : Int} (H : ((-2147483648) ≤ t + 1 ∧ t + 1 ≤ 2147483647) ∧ (∃ (nz1 : List Int), (MKp K (D 226 10) (D 321) (D 322) (D 320) ∧ CM K nz1 (D 273 0) (D 323) ∧ 0 ≤ (t + 1) ∧ (op = 30 → K.cn (t + 1)) ∧ (op = 30 ∨ op = 31) ∧ (K.w (t + 1) 18 ∨ K.cn (t + 1)) ∧ (0 ≤ D 273 4 ∧ D 273 4 < 48) ∧ (0 ≤ i ∧ i < 1024)) ∧ (((¬ tyOf K nz1 (t + 1) < 0) → (Q (.inl [vi 1]) (up (up (up D 293 (D 273 4) (mT (mkT K nz1 op (t + 1)))) 289 i (D 273 4)) 273 4 (D 273 4 + 1), SS L 1 c2 c3 c4 c5 c6))) ∧ ((tyOf K nz1 (t + 1) < 0) → (Q (.inl [vi 0]) (up D 226 12 (t + 1), SS L 1 c2 c3 c4 c5 c6)))))) : wp 274 336 [vr 226, vr 273, vu, vi t, vu, vi op, vi i] [] (D, SS L 1 c2 c3 c4 c5 c6) Q := vc_wp [345] 200 _ _ _ _ _ _ (show wp 274 345 [vr 226, vr 273, vu, vi t, vu, vi op, vi i] [vi (w32 (t + 1)), vi op, vi i, vr 273, vr 226] (D, SS L 1 c2 c3 c4 c5 c6) Q from w32_i (fun z5 : Int => wp 274 345 [vr 226, vr 273, vu, vi t, vu, vi op, vi i] [vi z5, vi op, vi i, vr 273, vr 226] (D, SS L 1 c2 c3 c4 c5 c6) Q) (H).1 (vc_wp [] 200 _ _ _ _ _ _ (show wp 278 0 [vr 226, vr 273, vi i, vi op, vi (t + 1), vu] [] (D, SS L 1 c2 c3 c4 c5 c6) (aft wp 274 345 [vr 226, vr 273, vu, vi t, vu, vi op, vi i] [] Q) from Exists.elim ((H).2) fun nz1 x2 => s278 ⟨nz1, x2.1, (fun q3 => (show wp 274 348 [vr 226, vr 273, vu, vi t, vu, vi op, vi i] [vi 1] (up (up (up D 293 (D 273 4) (mT (mkT K nz1 op (t + 1)))) 289 i (D 273 4)) 273 4 (D 273 4 + 1), SS L 1 c2 c3 c4 c5 c6) Q from vc_wp [] 200 _ _ _ _ _ _ (show ((0 : Int) ≤ 1 ∧ 1 ≤ (1 : Int)) ∧ (Q (.inl [vi 1]) (up (up (up D 293 (D 273 4) (mT (mkT K nz1 op (t + 1)))) 289 i (D 273 4)) 273 4 (D 273 4 + 1), SS L 1 c2 c3 c4 c5 c6)) from ⟨(by decide), (x2.2.1 q3)⟩))), (fun q4 => (show wp 274 348 [vr 226, vr 273, vu, vi t, vu, vi op, vi i] [vi 0] (up D 226 12 (t + 1), SS L 1 c2 c3 c4 c5 c6) Q from vc_wp [] 200 _ _ _ _ _ _ (show ((0 : Int) ≤ 0 ∧ 0 ≤ (1 : Int)) ∧ (Q (.inl [vi 0]) (up D 226 12 (t + 1), SS L 1 c2 c3 c4 c5 c6)) from ⟨(by decide), (x2.2.2 q4)⟩)))⟩)))
theorem r274_349 {L c2 c3 c4 c5 c6 : Nat} {K : TK} {D : Dt} {Q : Out → Wd → Prop} {t op i : Int} (H : ((-2147483648) ≤ t + 1 ∧ t + 1 ≤ 2147483647) ∧ (∃ (xo1 : List Int × List Int × XB), (MKp K (D 226 10) (D 321) (D 322) (D 320) ∧ CM K xo1.1 (D 273 0) (D 323) ∧ (ABp (D 274) xo1.2.1 ∧ ABw xo1.2.1 ∧ xo1.2.1.length ≤ 24 ∧ xo1.1.length = xo1.2.1.length) ∧ FdM K xo1.2.2 D ∧ BM K xo1.2.2 D ∧ BLn xo1.2.2 ∧ BOK K xo1.2.2 ∧ UNQ K xo1.2.1 (xo1.2.2 0) (xo1.2.2 1) ∧ 0 ≤ (t + 1) ∧ K.ref (t + 1) ∧ isRf op ∧ (0 ≤ i ∧ i < 1024)) ∧ (((mrOK K xo1.1 xo1.2.1 xo1.2.2 op (t + 1)) → (Q (.inl [vi 1]) (up (up D 289 i (mrK K xo1.1 xo1.2.1 xo1.2.2 op (t + 1))) 290 i (mrC K xo1.1 (t + 1)), SS L 1 c2 c3 c4 c5 c6))) ∧ ((¬ mrOK K xo1.1 xo1.2.1 xo1.2.2 op (t + 1)) → (Q (.inl [vi 0]) (up D 226 12 (t + 1), SS L 1 c2 c3 c4 c5 c6)))))) : wp 274 349 [vr 226, vr 273, vu, vi t, vu, vi op, vi i] [] (D, SS L 1 c2 c3 c4 c5 c6) Q := vc_wp [358] 200 _ _ _ _ _ _ (show wp 274 358 [vr 226, vr 273, vu, vi t, vu, vi op, vi i] [vi (w32 (t + 1)), vi op, vi i, vr 273, vr 226] (D, SS L 1 c2 c3 c4 c5 c6) Q from w32_i (fun z5 : Int => wp 274 358 [vr 226, vr 273, vu, vi t, vu, vi op, vi i] [vi z5, vi op, vi i, vr 273, vr 226] (D, SS L 1 c2 c3 c4 c5 c6) Q) (H).1 (vc_wp [] 200 _ _ _ _ _ _ (show wp 279 0 [vr 226, vr 273, vi i, vi op, vi (t + 1), vu, vu, vu] [] (D, SS L 1 c2 c3 c4 c5 c6) (aft wp 274 358 [vr 226, vr 273, vu, vi t, vu, vi op, vi i] [] Q) from Exists.elim ((H).2) fun xo1 x2 => s279 ⟨xo1, x2.1, (fun q3 => (show wp 274 361 [vr 226, vr 273, vu, vi t, vu, vi op, vi i] [vi 1] (up (up D 289 i (mrK K xo1.1 xo1.2.1 xo1.2.2 op (t + 1))) 290 i (mrC K xo1.1 (t + 1)), SS L 1 c2 c3 c4 c5 c6) Q from vc_wp [] 200 _ _ _ _ _ _ (show ((0 : Int) ≤ 1 ∧ 1 ≤ (1 : Int)) ∧ (Q (.inl [vi 1]) (up (up D 289 i (mrK K xo1.1 xo1.2.1 xo1.2.2 op (t + 1))) 290 i (mrC K xo1.1 (t + 1)), SS L 1 c2 c3 c4 c5 c6)) from ⟨(by decide), (x2.2.1 q3)⟩))), (fun q4 => (show wp 274 361 [vr 226, vr 273, vu, vi t, vu, vi op, vi i] [vi 0] (up D 226 12 (t + 1), SS L 1 c2 c3 c4 c5 c6) Q from vc_wp [] 200 _ _ _ _ _ _ (show ((0 : Int) ≤ 0 ∧ 0 ≤ (1 : Int)) ∧ (Q (.inl [vi 0]) (up D 226 12 (t + 1), SS L 1 c2 c3 c4 c5 c6)) from ⟨(by decide), (x2.2.2 q4)⟩)))⟩)))
theorem r274_362 {L c2 c3 c4 c5 c6 : Nat} {K : TK} {D : Dt} {Q : Out → Wd → Prop} {t i : Int} (H : ((-2147483648) ≤ t + 1 ∧ t + 1 ≤ 2147483647) ∧ (∃ (ns1 : List Int), (MKp K (D 226 10) (D 321) (D 322) (D 320) ∧ CM K ns1 (D 273 0) (D 323) ∧ 0 ≤ (t + 1) ∧ K.ty (t + 1)) ∧ (((0 ≤ i ∧ i < 1024) ∧ ((0 ≤ i ∧ i < 1024) ∧ (((up D 289 i (mT (tyOf K ns1 (t + 1)))) 289 i < 0 → (((-2147483648) ≤ t + 1 ∧ t + 1 ≤ 2147483647) ∧ (Q (.inl [vi 0]) (up (up D 289 i (mT (tyOf K ns1 (t + 1)))) 226 12 (t + 1), SS L 1 c2 c3 c4 c5 c6)))) ∧ (¬ ((up D 289 i (mT (tyOf K ns1 (t + 1)))) 289 i < 0) → (Q (.inl [vi 1]) (up D 289 i (mT (tyOf K ns1 (t + 1))), SS L 1 c2 c3 c4 c5 c6))))))))) : wp 274 362 [vr 226, vr 273, vu, vi t, vu, vu, vi i] [] (D, SS L 1 c2 c3 c4 c5 c6) Q := vc_wp [366] 200 _ _ _ _ _ _ (show wp 274 366 [vr 226, vr 273, vu, vi t, vu, vu, vi i] [vr 289] (D, SS L 1 c2 c3 c4 c5 c6) Q from vc_wp [373] 200 _ _ _ _ _ _ (show wp 274 373 [vr 226, vr 273, vu, vi t, vu, vu, vi i] [vi (w32 (t + 1)), vr 273, vr 226, vi i, vr 289] (D, SS L 1 c2 c3 c4 c5 c6) Q from w32_i (fun z11 : Int => wp 274 373 [vr 226, vr 273, vu, vi t, vu, vu, vi i] [vi z11, vr 273, vr 226, vi i, vr 289] (D, SS L 1 c2 c3 c4 c5 c6) Q) (H).1 (vc_wp [] 200 _ _ _ _ _ _ (show wp 262 0 [vr 226, vr 273, vi (t + 1), vu, vu, vu] [] (D, SS L 1 c2 c3 c4 c5 c6) (aft wp 274 373 [vr 226, vr 273, vu, vi t, vu, vu, vi i] [vi i, vr 289] Q) from Exists.elim ((H).2) fun ns1 x2 => s262 ⟨ns1, x2.1, (show wp 274 376 [vr 226, vr 273, vu, vi t, vu, vu, vi i] [vi (mT (tyOf K ns1 (t + 1))), vi i, vr 289] (D, SS L 1 c2 c3 c4 c5 c6) Q from vc_wp [381] 200 _ _ _ _ _ _ (show (0 ≤ i ∧ i < 1024) ∧ (wp 274 381 [vr 226, vr 273, vu, vi t, vu, vu, vi i] [vr 289] (up D 289 i (mT (tyOf K ns1 (t + 1))), SS L 1 c2 c3 c4 c5 c6) Q) from ⟨x2.2.1, vc_wp [391] 200 _ _ _ _ _ _ (show (0 ≤ i ∧ i < 1024) ∧ (((up D 289 i (mT (tyOf K ns1 (t + 1)))) 289 i < 0 → (wp 274 391 [vr 226, vr 273, vu, vi t, vu, vu, vi i] [vi (w32 (t + 1)), vr 226] (up D 289 i (mT (tyOf K ns1 (t + 1))), SS L 1 c2 c3 c4 c5 c6) Q)) ∧ (¬ ((up D 289 i (mT (tyOf K ns1 (t + 1)))) 289 i < 0) → (((0 : Int) ≤ 1 ∧ 1 ≤ (1 : Int)) ∧ (Q (.inl [vi 1]) (up D 289 i (mT (tyOf K ns1 (t + 1))), SS L 1 c2 c3 c4 c5 c6))))) from ⟨x2.2.2.1, ⟨fun h9 => w32_i (fun z8 : Int => wp 274 391 [vr 226, vr 273, vu, vi t, vu, vu, vi i] [vi z8, vr 226] (up D 289 i (mT (tyOf K ns1 (t + 1))), SS L 1 c2 c3 c4 c5 c6) Q) ((x2.2.2.2.1 h9)).1 (vc_wp [] 200 _ _ _ _ _ _ (show wp 256 0 [vr 226, vi (t + 1)] [] (up D 289 i (mT (tyOf K ns1 (t + 1))), SS L 1 c2 c3 c4 c5 c6) (aft wp 274 391 [vr 226, vr 273, vu, vi t, vu, vu, vi i] [] Q) from r256_0 (show wp 274 394 [vr 226, vr 273, vu, vi t, vu, vu, vi i] [vi 0] (up (up D 289 i (mT (tyOf K ns1 (t + 1)))) 226 12 (t + 1), SS L 1 c2 c3 c4 c5 c6) Q from vc_wp [] 200 _ _ _ _ _ _ (show (((0 : Int) = 0 → (((0 : Int) ≤ 0 ∧ 0 ≤ (1 : Int)) ∧ (Q (.inl [vi 0]) (up (up D 289 i (mT (tyOf K ns1 (t + 1)))) 226 12 (t + 1), SS L 1 c2 c3 c4 c5 c6)))) ∧ (¬ ((0 : Int) = 0) → (((0 : Int) ≤ 1 ∧ 1 ≤ (1 : Int)) ∧ (Q (.inl [vi 1]) (up (up D 289 i (mT (tyOf K ns1 (t + 1)))) 226 12 (t + 1), SS L 1 c2 c3 c4 c5 c6))))) from ⟨fun _ => ⟨(by decide), ((x2.2.2.2.1 h9)).2⟩, fun h7 => absurd (by decide) h7⟩)))), fun h10 => ⟨(by decide), (x2.2.2.2.2 h10)⟩⟩⟩)⟩))⟩))))
theorem r274_403 {L c2 c3 c4 c5 c6 : Nat} {K : TK} {D : Dt} {Q : Out → Wd → Prop} (H : Q (.inl [vi 1]) (D, SS L 1 c2 c3 c4 c5 c6)) : wp 274 403 [vr 226, vr 273, vu, vu, vu, vu, vu] [] (D, SS L 1 c2 c3 c4 c5 c6) Q := vc_wp [] 200 _ _ _ _ _ _ (show ((0 : Int) ≤ 1 ∧ 1 ≤ (1 : Int)) ∧ (Q (.inl [vi 1]) (D, SS L 1 c2 c3 c4 c5 c6)) from ⟨(by decide), H⟩)
theorem l274 {L c2 c3 c4 c5 c6 : Nat} {D : Dt} {Q : Out → Wd → Prop} {K : TK} {ns ab : List Int} {X : XB} {lt lp : List Int} {Y : XB} {b t en op n : Int} {E1 : Dt} (hW : MW K ns ab X D) (hL : LbM K lt lp D) (hC : CdM Y D) (hY : YLn Y) (t0 : 0 ≤ t) (t1 : t < K.n) (hy : oSy K op (t + 1)) (o0 : 0 ≤ op) (o1 : op < 46) (b0 : 0 ≤ b) (b1 : b < (X 4).length) (hn : n = D 273 3) (hlt : (Y 0).length < 1024) (hsi : ¬ (isSi op ∧ (Y 5).length = 48))
    (eE : E1 = up (up (up (up (up (up D 329 (D 273 3) t) 288 (D 273 3) op) 291 (D 273 3) b) 289 (D 273 3) 0) 290 (D 273 3) 0) 273 3 (D 273 3 + 1))
    (H1 : ∀ E, (oOK K ns ab X lt lp b en op (t + 1) ∧ FrJ D E ∧ CdM (iY K ns ab X lt lp b Y op t) E) → Q (.inl [vi 1]) (E, SS L 1 c2 c3 c4 c5 c6)) (H2 : ∀ E, (¬ oOK K ns ab X lt lp b en op (t + 1) ∧ FrN D E ∧ E 226 12 = t + 1) → Q (.inl [vi 0]) (E, SS L 1 c2 c3 c4 c5 c6)) : wp 274 103 [vr 226, vr 273, vi b, vi t, vi en, vi op, vi n] [] (E1, SS L 1 c2 c3 c4 c5 c6) Q := by
  have ec3 := hC.1.1
  have ec4 := hC.1.2.1
  have hs := hC.2.2.2.2.2.2.2.1
  have hs2 := hC.2.2.2.2.2.2.2.2
  have l5 := hC.2.2.2.2.2.1
  have h48 := hW.2.2.2.2.1.1.2.2.1
  have n1 : 0 ≤ n ∧ n < 1024 := by omega
  have hf1 : FrJ D E1 := by
    rw [eE]
    exact ((((((FrJ.r D).u (Or.inr (Or.inr (Or.inl rfl)))).u (Or.inl ⟨by decide, by decide⟩)).u (Or.inl ⟨by decide, by decide⟩)).u (Or.inl ⟨by decide, by decide⟩)).u (Or.inl ⟨by decide, by decide⟩)).u (Or.inr (Or.inr (Or.inr ⟨rfl, Or.inl ⟨by decide, by decide⟩⟩)))
  have hW1 := hW.f hf1
  have hL1 := hL.f hf1
  have hM1 := hW1.1
  have x3 : E1 273 3 = D 273 3 + 1 := by rw [eE]; rfl
  have x4 : E1 273 4 = D 273 4 := by rw [eE]; rfl
  have x5 : E1 273 5 = D 273 5 := by rw [eE]; rfl
  have x7 : E1 273 7 = D 273 7 := by rw [eE]; rfl
  have x288 : E1 288 = up D 288 (D 273 3) op 288 := by rw [eE]; rfl
  have x329 : E1 329 = up D 329 (D 273 3) t 329 := by rw [eE]; rfl
  have x291 : E1 291 = up D 291 (D 273 3) b 291 := by rw [eE]; rfl
  have x293 : E1 293 = D 293 := by rw [eE]; rfl
  have x299 : E1 299 = D 299 := by rw [eE]; rfl
  have x289 : ∀ j, ¬ j = D 273 3 → E1 289 j = D 289 j := fun j hj => by rw [eE]; exact ub_n (D := D) hj
  have x290 : ∀ j, ¬ j = D 273 3 → E1 290 j = D 290 j := fun j hj => by rw [eE]; exact ub_n (D := D) hj
  have y290 : E1 290 (D 273 3) = 0 := by rw [eE]; exact ub_s (D := D)
  have y289 : E1 289 (D 273 3) = 0 := by rw [eE]; exact ub_s (D := D)
  have xc : ∀ a, 294 ≤ a → a ≤ 298 → E1 a = D a := fun a h1 h2 => by
    rw [eE, ub_a (by omega), ub_a (by omega), ub_a (by omega), ub_a (by omega), ub_a (by omega), ub_a (by omega)]
  have hS1 : SL (E1 299) (E1 273 7) (thP Y) := by rw [x299, x7]; exact hs
  have hbad : ∀ E, FrJ D E → ¬ oOK K ns ab X lt lp b en op (t + 1) → Q (.inl [vi 0]) (up E 226 12 (t + 1), SS L 1 c2 c3 c4 c5 c6) := fun E f g => H2 _ ⟨g, f.n.u (Or.inr (Or.inr ⟨rfl, Or.inl rfl⟩)), ub_s⟩
  -- no site, a and b put in
  have hfin : ¬ isSi op → oOK K ns ab X lt lp b en op (t + 1) → ∀ E : Dt, FrJ E1 E → (∀ a, ¬ a = 273 → ¬ a = 289 → ¬ a = 290 → ¬ a = 299 → E a = E1 a) → (∀ i, ¬ i = 7 → E 273 i = E1 273 i) → (∀ j, ¬ j = D 273 3 → E 289 j = E1 289 j ∧ E 290 j = E1 290 j) → E 289 (D 273 3) = mA op (oVal K ns ab X lt lp op (t + 1)) (oNum K ns op (t + 1)) → E 290 (D 273 3) = mB op (oNum K ns op (t + 1)) → SL (E 299) (E 273 7) (fun v => thP Y v ∨ ((op = 0 ∨ op = 4) ∧ (oNum K ns op (t + 1) - 1 ≤ v ∧ v ≤ oNum K ns op (t + 1) + 1) ∧ (-2147483648 ≤ v ∧ v ≤ 2147483647))) → E 273 7 ≤ D 273 7 + 3 → Q (.inl [vi 1]) (E, SS L 1 c2 c3 c4 c5 c6) := by
    intro g0 ok E f q1 q2 q3 q4 q5 q6 q7
    refine H1 E ⟨ok, hf1.t f, cdm_a hC hY ((q2 3 (by decide)).trans x3) ((q2 5 (by decide)).trans x5) ((q1 288 (by decide) (by decide) (by decide) (by decide)).trans x288) ((q1 329 (by decide) (by decide) (by decide) (by decide)).trans x329) ((q1 291 (by decide) (by decide) (by decide) (by decide)).trans x291) (fun j hj => (q3 j hj).1.trans (x289 j hj)) ?_ (fun j hj => (q3 j hj).2.trans (x290 j hj)) q5 ?_ ?_ (fun a h1 h2 => (q1 a (by omega) (by omega) (by omega) (by omega)).trans (xc a h1 h2)) q6 q7⟩
    · rw [cit_f g0]; exact q4
    · rw [cit_f g0]; exact (q2 4 (by decide)).trans (x4.trans ec4)
    · rw [cit_f g0, q1 293 (by decide) (by decide) (by decide) (by decide), x293]; exact l5
  have hno : ¬ (op = 0 ∨ op = 4) → ∀ v, thP Y v ↔ (thP Y v ∨ ((op = 0 ∨ op = 4) ∧ (oNum K ns op (t + 1) - 1 ≤ v ∧ v ≤ oNum K ns op (t + 1) + 1) ∧ (-2147483648 ≤ v ∧ v ≤ 2147483647))) := fun g v => ⟨Or.inl, fun x => x.elim id fun y => absurd y.1 g⟩
  -- only a put in, no thresholds
  have hput : ¬ isSi op → ¬ (op = 0 ∨ op = 4) → oOK K ns ab X lt lp b en op (t + 1) → ∀ v, v = mA op (oVal K ns ab X lt lp op (t + 1)) (oNum K ns op (t + 1)) → 0 = mB op (oNum K ns op (t + 1)) → Q (.inl [vi 1]) (up E1 289 n v, SS L 1 c2 c3 c4 c5 c6) := by
    intro g0 g1 ok v hv hb
    refine hfin g0 ok _ ((FrJ.r E1).u (Or.inl ⟨by decide, by decide⟩)) (fun a a1 a2 a3 a4 => ub_a a2) (fun i hi => by rw [ub_a (by decide)]) (fun j hj => ⟨ub_n (by omega), by rw [ub_a (by decide)]⟩) ?_ ?_ ?_ ?_
    · rw [← hn, ub_s]; exact hv
    · rw [ub_a (by decide), y290]; exact hb
    · rw [ub_a (by decide), ub_a (by decide)]; exact hS1.cg (hno g1)
    · rw [ub_a (by decide), x7]; omega
  have hnum0 : ¬ op = 0 → ¬ op = 4 → ¬ isRf op → oNum K ns op (t + 1) = 0 := fun h1 h2 h3 => by
    unfold oNum
    rw [if_neg h1, if_neg h2]
    exact if_neg h3
  have hloc : 2 ≤ op ∧ op ≤ 4 → (oOK K ns ab X lt lp b en op (t + 1) ↔ (0 ≤ K.val (t + 1) ∧ K.val (t + 1) < E1 284 b)) ∧ oVal K ns ab X lt lp op (t + 1) = K.val (t + 1) := fun g => by
    have e1 : E1 284 b = lf (X 9) b := by
      have := hW1.2.2.2.2.1.2.2.2.2.1 b b0 (by have := hW.2.2.2.2.2.1.2.2.2.2.1; omega)
      exact this
    rw [e1]
    exact ⟨by unfold oOK; rw [if_pos g], if_pos g⟩
  have h403 : oc op = 45 → wp 274 403 [vr 226, vr 273, vu, vu, vu, vu, vu] [] (E1, SS L 1 c2 c3 c4 c5 c6) Q := by
    intro ho
    have q : ¬ op = 0 ∧ ¬ (2 ≤ op ∧ op ≤ 4) ∧ ¬ (19 ≤ op ∧ op ≤ 29) ∧ ¬ op = 30 ∧ ¬ op = 31 ∧ ¬ (op = 35 ∨ op = 36 ∨ op = 39 ∨ op = 40) ∧ ¬ (op = 37 ∨ op = 38) := by
      unfold oc at ho
      split at ho
      · omega
      · split at ho
        · omega
        · split at ho
          · omega
          · split at ho
            · omega
            · split at ho
              · omega
              · split at ho
                · omega
                · split at ho
                  · omega
                  · split at ho
                    · omega
                    · omega
    have ok : oOK K ns ab X lt lp b en op (t + 1) := by
      unfold oOK
      rw [if_neg q.2.1, if_neg q.2.2.1, if_neg (by omega), if_neg q.2.2.2.2.2.1]
      trivial
    have ev : oVal K ns ab X lt lp op (t + 1) = 0 := by
      unfold oVal
      rw [if_neg q.2.1, if_neg q.2.2.1, if_neg (by omega), if_neg (by omega), if_neg q.2.2.2.2.2.1]
    have en0 := hnum0 q.1 (by omega) q.2.2.2.2.2.1
    refine r274_403 (K := K) (hfin (fun x => x.elim q.2.2.2.1 q.2.2.2.2.1) ok E1 (FrJ.r E1) (fun _ _ _ _ _ => rfl) (fun _ _ => rfl) (fun _ _ => ⟨rfl, rfl⟩) ?_ ?_ (hS1.cg (hno (by omega))) (by omega))
    · rw [y289, ev, en0]
      unfold mA
      rw [if_neg q.1, if_neg q.2.2.2.2.2.2]
    · rw [y290, en0]
      unfold mB
      rw [if_neg q.1]
  refine r274_103 (K := K) ?_
  rw [oc_e o0 o1]
  have hk := mk_tok hW.1 t0 t1
  refine ⟨⟨o0, o1⟩, ?_⟩
  have hcase : oc op = 78 ∧ op = 0 ∨ oc op = 75 ∧ (op = 2 ∨ op = 3) ∨ oc op = 73 ∧ op = 4 ∨ oc op = 76 ∧ (19 ≤ op ∧ op ≤ 29) ∨ oc op = 67 ∧ op = 30 ∨ oc op = 69 ∧ op = 31 ∨ oc op = 70 ∧ (op = 35 ∨ op = 36 ∨ op = 39 ∨ op = 40) ∨ oc op = 84 ∧ (op = 37 ∨ op = 38) ∨ oc op = 45 := by
    unfold oc
    split
    · exact Or.inl ⟨rfl, by assumption⟩
    · split
      · exact Or.inr (Or.inl ⟨rfl, by assumption⟩)
      · split
        · exact Or.inr (Or.inr (Or.inl ⟨rfl, by assumption⟩))
        · split
          · exact Or.inr (Or.inr (Or.inr (Or.inl ⟨rfl, by assumption⟩)))
          · split
            · exact Or.inr (Or.inr (Or.inr (Or.inr (Or.inl ⟨rfl, by assumption⟩))))
            · split
              · exact Or.inr (Or.inr (Or.inr (Or.inr (Or.inr (Or.inl ⟨rfl, by assumption⟩)))))
              · split
                · exact Or.inr (Or.inr (Or.inr (Or.inr (Or.inr (Or.inr (Or.inl ⟨rfl, by assumption⟩))))))
                · split
                  · exact Or.inr (Or.inr (Or.inr (Or.inr (Or.inr (Or.inr (Or.inr (Or.inl ⟨rfl, by assumption⟩)))))))
                  · exact Or.inr (Or.inr (Or.inr (Or.inr (Or.inr (Or.inr (Or.inr (Or.inr rfl)))))))
  have hmade : op = 30 ∨ op = 31 → wp 274 336 [vr 226, vr 273, vu, vi t, vu, vi op, vi n] [] (E1, SS L 1 c2 c3 c4 c5 c6) Q := by
    intro g
    have eo : oOK K ns ab X lt lp b en op (t + 1) ↔ ¬ tyOf K ns (t + 1) < 0 := by
      unfold oOK
      rw [if_neg (by omega), if_neg (by omega), if_pos (by omega)]
    have ev : oVal K ns ab X lt lp op (t + 1) = mkT K ns op (t + 1) := by
      unfold oVal mkT
      rw [if_neg (by omega), if_neg (by omega)]
      by_cases e : op = 30
      · rw [if_pos (Or.inl e), if_pos e]
      · rw [if_neg (by omega), if_neg e, if_pos (by omega)]
    have gs : isSi op := g
    have n48 : ¬ (Y 5).length = 48 := fun x => hsi ⟨g, x⟩
    have a7 := hY.2.2.2.1
    refine r274_336 (K := K) ⟨by omega, ns, ⟨hM1, hW1.2.1, by omega, fun e => hy.2.2.2.1 e, g, ?_, by omega, n1⟩, fun g1 => ?_, fun g1 => hbad _ hf1 fun x => eo.mp x g1⟩
    · rcases g with e | e
      · exact Or.inr (hy.2.2.2.1 e)
      · exact hy.2.2.2.2.1 e
    · refine H1 _ ⟨eo.mpr g1, ?_, cdm_a hC hY x3 x5 x288 x329 x291 (fun j hj => ?_) ?_ x290 ?_ ?_ ?_ (fun a h1 h2 => by rw [ub_a (by omega), ub_a (by omega), ub_a (by omega)]; exact xc a h1 h2) ?_ ?_⟩
      · exact ((hf1.u (Or.inr (Or.inl ⟨by decide, by decide⟩))).u (Or.inl ⟨by decide, by decide⟩)).u (Or.inr (Or.inr (Or.inr ⟨rfl, Or.inl ⟨by decide, by decide⟩⟩)))
      · show up E1 289 n (E1 273 4) 289 j = _
        rw [ub_n (by omega)]; exact x289 j hj
      · show up E1 289 n (E1 273 4) 289 (D 273 3) = _
        rw [← hn, ub_s, x4, ec4, cit_t gs]
        unfold mA
        rw [if_neg (by omega), if_neg (by omega)]
      · show E1 290 (D 273 3) = _
        rw [y290, hnum0 (by omega) (by omega) (fun x => by unfold isRf at x; omega)]
        unfold mB
        rw [if_neg (by omega)]
      · show E1 273 4 + 1 = _
        rw [cit_t gs, len_app, x4]; omega
      · show L1 (up E1 293 (E1 273 4) (mT (mkT K ns op (t + 1))) 293) _
        rw [cit_t gs, ev, List.map_append]
        refine l1_up (by rw [x293]; exact l5) ?_
        rw [List.length_map, x4, ec4]
      · exact hS1.cg (hno (by omega))
      · show E1 273 7 ≤ _
        omega
  rcases hcase with ⟨e, g⟩ | ⟨e, g⟩ | ⟨e, g⟩ | ⟨e, g⟩ | ⟨e, g⟩ | ⟨e, g⟩ | ⟨e, g⟩ | ⟨e, g⟩ | e
  · -- a number
    have hnm := hy.1 (Or.inl g)
    have en0 : oNum K ns op (t + 1) = K.val (t + 1) := if_pos g
    have h196 : wp 274 196 [vr 226, vr 273, vu, vi t, vu, vu, vi n] [] (E1, SS L 1 c2 c3 c4 c5 c6) Q := by
      have e1 : up E1 289 n (K.val (t + 1)) 289 n = K.val (t + 1) := ub_s
      refine r274_196 (K := K) ?_
      rw [e1]
      refine ⟨by omega, ⟨hM1, by omega, hnm⟩, hnm.2.2.2, n1, n1, thP Y, ⟨hS1, by omega, hnm.2.2.2⟩, fun E h => ?_⟩
      have hv : ∀ i, ¬ i = 7 → E 273 i = E1 273 i := fun i hi => h.1.2 i hi
      refine hfin (fun x => by unfold isSi at x; omega) (by unfold oOK; rw [if_neg (by omega), if_neg (by omega), if_neg (by omega), if_neg (by omega)]; trivial) E (((FrJ.r E1).u (Or.inl ⟨by decide, by decide⟩)).t h.1.j) (fun a a1 a2 a3 a4 => (h.1.1 a a1 a4).trans (ub_a a2)) hv (fun j hj => ⟨?_, ?_⟩) ?_ ?_ ?_ ?_
      · rw [h.1.1 289 (by decide) (by decide), ub_n (by omega)]
      · rw [h.1.1 290 (by decide) (by decide), ub_a (by decide)]
      · rw [h.1.1 289 (by decide) (by decide), ← hn, ub_s, en0]
        unfold mA
        rw [if_pos g]
      · rw [h.1.1 290 (by decide) (by decide), ub_a (by decide), y290]
        unfold mB
        rw [if_pos g]
      · rw [en0]
        exact h.2.1.cg fun v => or_congr_right ⟨fun x => ⟨Or.inl g, x⟩, fun x => x.2⟩
      · have := h.2.2
        omega
    rw [e]
    repeat (first | exact ⟨fun _ => h196, fun x => absurd rfl x⟩ | refine ⟨fun x => absurd x (by decide), fun _ => ?_⟩)
  · have hnm := hy.1 (by omega)
    have hl := hloc (by omega)
    have h226 : wp 274 226 [vr 226, vr 273, vi b, vi t, vu, vu, vi n] [] (E1, SS L 1 c2 c3 c4 c5 c6) Q := by
      refine r274_226 (K := K) ⟨by omega, ⟨hM1, by omega, hnm, by omega, n1⟩, fun g1 => hput (fun x => by unfold isSi at x; omega) (by omega) (hl.1.mpr g1) _ ?_ ?_, fun g1 => hbad _ hf1 fun x => g1 (hl.1.mp x)⟩
      · unfold mA
        rw [if_neg (by omega), if_neg (by omega), hl.2]
      · unfold mB
        rw [if_neg (by omega), hnum0 (by omega) (by omega) (fun x => by unfold isRf at x; omega)]
    rw [e]
    repeat (first | exact ⟨fun _ => h226, fun x => absurd rfl x⟩ | refine ⟨fun x => absurd x (by decide), fun _ => ?_⟩)
  · have hnm := hy.2.1 g
    have hl := hloc (by omega)
    have e2 : t + 1 + 1 = t + 2 := by omega
    rw [e2] at hnm
    have en0 : oNum K ns op (t + 1) = K.val (t + 2) := by
      unfold oNum
      rw [if_neg (by omega), if_pos g, e2]
    have h238 : wp 274 238 [vr 226, vr 273, vi b, vi t, vu, vu, vi n] [] (E1, SS L 1 c2 c3 c4 c5 c6) Q := by
      have e1 : up (up E1 289 n (K.val (t + 1))) 290 n (K.val (t + 2)) 290 n = K.val (t + 2) := ub_s
      refine r274_238 (K := K) ?_
      rw [e1]
      refine ⟨by omega, ⟨hM1, by omega, hnm.1, by omega, n1⟩, fun g1 => ⟨by omega, ⟨hM1, by omega, hnm.2⟩, hnm.2.2.2.2, n1, n1, thP Y, ⟨hS1, by omega, hnm.2.2.2.2⟩, fun E h => ?_⟩, fun g1 => hbad _ hf1 fun x => g1 (hl.1.mp x)⟩
      have hv : ∀ i, ¬ i = 7 → E 273 i = E1 273 i := fun i hi => h.1.2 i hi
      refine hfin (fun x => by unfold isSi at x; omega) (hl.1.mpr g1) E ((((FrJ.r E1).u (Or.inl ⟨by decide, by decide⟩)).u (Or.inl ⟨by decide, by decide⟩)).t h.1.j) (fun a a1 a2 a3 a4 => (h.1.1 a a1 a4).trans ((ub_a a3).trans (ub_a a2))) hv (fun j hj => ⟨?_, ?_⟩) ?_ ?_ ?_ ?_
      · rw [h.1.1 289 (by decide) (by decide), ub_a (by decide), ub_n (by omega)]
      · rw [h.1.1 290 (by decide) (by decide), ub_n (by omega), ub_a (by decide)]
      · rw [h.1.1 289 (by decide) (by decide), ub_a (by decide), ← hn, ub_s, hl.2]
        unfold mA
        rw [if_neg (by omega), if_neg (by omega)]
      · rw [h.1.1 290 (by decide) (by decide), ← hn, ub_s, en0]
        unfold mB
        rw [if_neg (by omega)]
      · rw [en0]
        exact h.2.1.cg fun v => or_congr_right ⟨fun x => ⟨Or.inr g, x⟩, fun x => x.2⟩
      · have := h.2.2
        have h7 : up (up E1 289 n (K.val (t + 1))) 290 n (K.val (t + 2)) 273 7 = E1 273 7 := rfl
        omega
    rw [e]
    repeat (first | exact ⟨fun _ => h238, fun x => absurd rfl x⟩ | refine ⟨fun x => absurd x (by decide), fun _ => ?_⟩)
  · have hsn := hy.2.2.1 g
    have eo : oOK K ns ab X lt lp b en op (t + 1) ↔ (0 ≤ labA K lt lp (t + 1) ∧ labA K lt lp (t + 1) < en) := by
      unfold oOK
      rw [if_neg (by omega), if_pos g]
    have ev : oVal K ns ab X lt lp op (t + 1) = labA K lt lp (t + 1) := by
      unfold oVal
      rw [if_neg (by omega), if_pos g]
    have h284 : wp 274 284 [vr 226, vr 273, vu, vi t, vi en, vu, vi n] [] (E1, SS L 1 c2 c3 c4 c5 c6) Q := by
      refine r274_284 (K := K) ⟨by omega, (lt, lp), ⟨hM1, hL1, by omega, hsn.1⟩, ?_⟩
      dsimp only
      rw [ub_s]
      refine ⟨n1, n1, fun g1 => ⟨by omega, hbad _ (hf1.u (Or.inl ⟨by decide, by decide⟩)) fun x => by have := eo.mp x; omega⟩, fun g1 => ⟨n1, fun g2 => hput (fun x => by unfold isSi at x; omega) (by omega) (eo.mpr (by omega)) _ ?_ ?_, fun g2 => ⟨by omega, hbad _ (hf1.u (Or.inl ⟨by decide, by decide⟩)) fun x => by have := eo.mp x; omega⟩⟩⟩
      · unfold mA
        rw [if_neg (by omega), if_neg (by omega), ev]
      · unfold mB
        rw [if_neg (by omega), hnum0 (by omega) (by omega) (fun x => by unfold isRf at x; omega)]
    rw [e]
    repeat (first | exact ⟨fun _ => h284, fun x => absurd rfl x⟩ | refine ⟨fun x => absurd x (by decide), fun _ => ?_⟩)
  · rw [e]
    repeat (first | exact ⟨fun _ => hmade (Or.inl g), fun x => absurd rfl x⟩ | refine ⟨fun x => absurd x (by decide), fun _ => ?_⟩)
  · rw [e]
    repeat (first | exact ⟨fun _ => hmade (Or.inr g), fun x => absurd rfl x⟩ | refine ⟨fun x => absurd x (by decide), fun _ => ?_⟩)
  · have eo : oOK K ns ab X lt lp b en op (t + 1) ↔ mrOK K ns ab X op (t + 1) := by
      unfold oOK
      rw [if_neg (by omega), if_neg (by omega), if_neg (by omega), if_pos g]
    have ev : oVal K ns ab X lt lp op (t + 1) = mrK K ns ab X op (t + 1) := by
      unfold oVal
      rw [if_neg (by omega), if_neg (by omega), if_neg (by omega), if_neg (by omega), if_pos g]
    have en0 : oNum K ns op (t + 1) = mrC K ns (t + 1) := by
      unfold oNum
      rw [if_neg (by omega), if_neg (by omega), if_pos g]
    have h349 : wp 274 349 [vr 226, vr 273, vu, vi t, vu, vi op, vi n] [] (E1, SS L 1 c2 c3 c4 c5 c6) Q := by
      refine r274_349 (K := K) ⟨by omega, (ns, ab, X), ⟨hM1, hW1.2.1, hW1.2.2.1, hW1.2.2.2.1, hW1.2.2.2.2.1, hW1.2.2.2.2.2.1, hW1.2.2.2.2.2.2.1, hW1.2.2.2.2.2.2.2, by omega, hy.2.2.2.2.2.1 g, g, n1⟩, ?_⟩
      dsimp only
      refine ⟨fun g1 => hfin (fun x => by unfold isSi at x; omega) (eo.mpr g1) _ (((FrJ.r E1).u (Or.inl ⟨by decide, by decide⟩)).u (Or.inl ⟨by decide, by decide⟩)) (fun a a1 a2 a3 a4 => (ub_a a3).trans (ub_a a2)) (fun i hi => by rw [ub_a (by decide), ub_a (by decide)]) (fun j hj => ⟨?_, ?_⟩) ?_ ?_ ?_ ?_, fun g1 => hbad _ hf1 fun x => g1 (eo.mp x)⟩
      · rw [ub_a (by decide), ub_n (by omega)]
      · rw [ub_n (by omega), ub_a (by decide)]
      · rw [ub_a (by decide), ← hn, ub_s, ev]
        unfold mA
        rw [if_neg (by omega), if_neg (by omega)]
      · rw [← hn, ub_s, en0]
        unfold mB
        rw [if_neg (by omega)]
      · exact hS1.cg (hno (by omega))
      · show E1 273 7 ≤ _
        omega
    rw [e]
    repeat (first | exact ⟨fun _ => h349, fun x => absurd rfl x⟩ | refine ⟨fun x => absurd x (by decide), fun _ => ?_⟩)
  · have eo : oOK K ns ab X lt lp b en op (t + 1) ↔ ¬ tyOf K ns (t + 1) < 0 := by
      unfold oOK
      rw [if_neg (by omega), if_neg (by omega), if_pos (by omega)]
    have ev : oVal K ns ab X lt lp op (t + 1) = tyOf K ns (t + 1) := by
      unfold oVal
      rw [if_neg (by omega), if_neg (by omega), if_pos (by omega)]
    have h362 : wp 274 362 [vr 226, vr 273, vu, vi t, vu, vu, vi n] [] (E1, SS L 1 c2 c3 c4 c5 c6) Q := by
      refine r274_362 (K := K) ⟨by omega, ns, ⟨hM1, hW1.2.1, by omega, (hy.2.2.2.2.2.2 g).1⟩, ?_⟩
      rw [ub_s]
      refine ⟨n1, n1, fun g1 => ⟨by omega, hbad _ (hf1.u (Or.inl ⟨by decide, by decide⟩)) fun x => eo.mp x (mT_neg.mp g1)⟩, fun g1 => hput (fun x => by unfold isSi at x; omega) (by omega) (eo.mpr fun x => g1 (mT_neg.mpr x)) _ ?_ ?_⟩
      · unfold mA
        rw [if_neg (by omega), if_pos g, ev]
      · unfold mB
        rw [if_neg (by omega), hnum0 (by omega) (by omega) (fun x => by unfold isRf at x; omega)]
    rw [e]
    repeat (first | exact ⟨fun _ => h362, fun x => absurd rfl x⟩ | refine ⟨fun x => absurd x (by decide), fun _ => ?_⟩)
  · have h403' := h403 e
    rw [e]
    repeat (first | exact h403' | refine ⟨fun x => absurd x (by decide), fun _ => ?_⟩)
theorem s274 {L c2 c3 c4 c5 c6 : Nat} {D : Dt} {Q : Out → Wd → Prop} {K : TK} {b t en : Int} (H : ∃ x : List Int × List Int × XB × List Int × List Int × XB, (MW K x.1 x.2.1 x.2.2.1 D ∧ LbM K x.2.2.2.1 x.2.2.2.2.1 D ∧ CdM x.2.2.2.2.2 D ∧ YLn x.2.2.2.2.2 ∧ 0 ≤ t ∧ t < K.n ∧ 0 ≤ K.op t ∧ oSy K (K.op t) (t + 1) ∧ 0 ≤ b ∧ b < (x.2.2.1 4).length) ∧ (∀ E, ((ifa K x.1 x.2.1 x.2.2.1 x.2.2.2.1 x.2.2.2.2.1 b en x.2.2.2.2.2 (K.op t) t).1 = true ∧ FrJ D E ∧ CdM (iY K x.1 x.2.1 x.2.2.1 x.2.2.2.1 x.2.2.2.2.1 b x.2.2.2.2.2 (K.op t) t) E) → Q (.inl [vi 1]) (E, SS L 1 c2 c3 c4 c5 c6)) ∧ (∀ E, (¬ (ifa K x.1 x.2.1 x.2.2.1 x.2.2.2.1 x.2.2.2.2.1 b en x.2.2.2.2.2 (K.op t) t).1 = true ∧ FrN D E ∧ E 226 12 = (ifa K x.1 x.2.1 x.2.2.1 x.2.2.2.1 x.2.2.2.2.1 b en x.2.2.2.2.2 (K.op t) t).2) → Q (.inl [vi 0]) (E, SS L 1 c2 c3 c4 c5 c6))) : wp 274 0 [vr 226, vr 273, vi b, vi t, vi en, vu, vu] [] (D, SS L 1 c2 c3 c4 c5 c6) Q := by
  obtain ⟨⟨ns, ab, X, lt, lp, Y⟩, ⟨hW, hL, hC, hY, t0, t1, o0, hy, b0, b1⟩, Hk, Hz⟩ := H
  dsimp only at *
  have ec3 := hC.1.1
  have ec4 := hC.1.2.1
  have a6 := hY.2.2.1
  have hz : ∀ p E, FrN D E → E 226 12 = p → ifa K ns ab X lt lp b en Y (K.op t) t = (false, p) → Q (.inl [vi 0]) (E, SS L 1 c2 c3 c4 c5 c6) := fun p E f e e2 => by
    rw [e2] at Hz
    exact Hz E ⟨Bool.noConfusion, f, e⟩
  have h46 : (Y 0).length < 1024 → ¬ (isSi (K.op t) ∧ (Y 5).length = 48) → wp 274 46 [vr 226, vr 273, vi b, vi t, vi en, vi (K.op t), vu] [] (D, SS L 1 c2 c3 c4 c5 c6) Q := by
    intro q1 q2
    refine r274_46 (K := K) ⟨by omega, by omega, by omega, by omega, by omega, by omega, l274 hW hL hC hY t0 t1 hy o0 (op_b K t).2 b0 b1 rfl q1 q2 rfl (fun E h => Hk E ⟨?_, h.2⟩) (fun E h => hz _ E h.2.1 h.2.2 ((cit_t ⟨q1, q2⟩).trans (cit_f h.1)))⟩
    rw [show ifa K ns ab X lt lp b en Y (K.op t) t = (true, t) from (cit_t ⟨q1, q2⟩).trans (cit_t h.1)]
  have hf : FrN D (up D 226 12 t) := (FrN.r D).u (Or.inr (Or.inr ⟨rfl, Or.inl rfl⟩))
  refine r274_0 (K := K) ⟨⟨hW.1, t0, t1⟩, fun g => hz t _ hf ub_s (cit_f (by omega)), fun g => ⟨fun g1 => ⟨fun g2 => hz t _ hf ub_s (cit_f fun x => x.2 ⟨Or.inl g1, by omega⟩), fun g2 => h46 (by omega) (fun x => by omega)⟩, fun g1 => ⟨fun g2 => ⟨fun g3 => hz t _ hf ub_s (cit_f fun x => x.2 ⟨Or.inr g2, by omega⟩), fun g3 => h46 (by omega) (fun x => by omega)⟩, fun g2 => h46 (by omega) (fun x => x.1.elim g1 g2)⟩⟩⟩
