/-! names: the model's lines, the whole -/
set_option maxRecDepth 100000
theorem r268_0 {L c2 c3 c4 c5 c6 : Nat} {K : TK} {D : Dt} {Q : Out → Wd → Prop} (H : wp 268 22 [vr 226, vr 273, vi 0] [] (up (up (up (up D 273 3 0) 273 4 0) 273 5 0) 273 7 0, SS L 1 c2 c3 c4 c5 c6) Q) : wp 268 0 [vr 226, vr 273, vu] [] (D, SS L 1 c2 c3 c4 c5 c6) Q := vc_wp [5] 200 _ _ _ _ _ _ (show wp 268 5 [vr 226, vr 273, vu] [] (up D 273 3 0, SS L 1 c2 c3 c4 c5 c6) Q from vc_wp [10] 200 _ _ _ _ _ _ (show wp 268 10 [vr 226, vr 273, vu] [] (up (up D 273 3 0) 273 4 0, SS L 1 c2 c3 c4 c5 c6) Q from vc_wp [15] 200 _ _ _ _ _ _ (show wp 268 15 [vr 226, vr 273, vu] [] (up (up (up D 273 3 0) 273 4 0) 273 5 0, SS L 1 c2 c3 c4 c5 c6) Q from vc_wp [20] 200 _ _ _ _ _ _ (show wp 268 20 [vr 226, vr 273, vu] [] (up (up (up (up D 273 3 0) 273 4 0) 273 5 0) 273 7 0, SS L 1 c2 c3 c4 c5 c6) Q from vc_wp [22] 200 _ _ _ _ _ _ (show wp 268 22 [vr 226, vr 273, vi 0] [] (up (up (up (up D 273 3 0) 273 4 0) 273 5 0) 273 7 0, SS L 1 c2 c3 c4 c5 c6) Q from H)))))
theorem r268_22 {L c2 c3 c4 c5 c6 : Nat} {K : TK} {D : Dt} {Q : Out → Wd → Prop} {b : Int} (H : ((b < D 273 2 → (∃ (xb1 : List Int × List Int × XB × XB), (MW K xb1.1 xb1.2.1 xb1.2.2.1 D ∧ CdM xb1.2.2.2 D ∧ YLn xb1.2.2.2 ∧ FeM xb1.2.2.2 D ∧ ((xb1.2.2.2 11).length = b ∧ (xb1.2.2.2 12).length = b) ∧ 0 ≤ b ∧ b < (xb1.2.2.1 4).length) ∧ ((∀ (E3 : Dt), ((bdR K xb1.1 xb1.2.1 xb1.2.2.1 b (lf (xb1.2.2.1 12) b) xb1.2.2.2).1.1 = true ∧ FrQ D E3 ∧ CdM (bdR K xb1.1 xb1.2.1 xb1.2.2.1 b (lf (xb1.2.2.1 12) b) xb1.2.2.2).2 E3 ∧ FeM (bdR K xb1.1 xb1.2.1 xb1.2.2.1 b (lf (xb1.2.2.1 12) b) xb1.2.2.2).2 E3) → (((-2147483648) ≤ b + 1 ∧ b + 1 ≤ 2147483647) ∧ (wp 268 22 [vr 226, vr 273, vi (b + 1)] [] (E3, SS L 1 c2 c3 c4 c5 c6) Q))) ∧ (∀ (E8 : Dt), (¬ (bdR K xb1.1 xb1.2.1 xb1.2.2.1 b (lf (xb1.2.2.1 12) b) xb1.2.2.2).1.1 = true ∧ FrN D E8 ∧ E8 226 12 = (bdR K xb1.1 xb1.2.1 xb1.2.2.1 b (lf (xb1.2.2.1 12) b) xb1.2.2.2).1.2) → (Q (.inl [vi 0]) (E8, SS L 1 c2 c3 c4 c5 c6)))))) ∧ (¬ (b < D 273 2) → (Q (.inl [vi 1]) (D, SS L 1 c2 c3 c4 c5 c6))))) : wp 268 22 [vr 226, vr 273, vi b] [] (D, SS L 1 c2 c3 c4 c5 c6) Q := vc_wp [] 200 _ _ _ _ _ _ (show ((b < D 273 2 → (wp 269 0 [vr 226, vr 273, vi b, vu, vu, vu, vu, vu, vu] [] (D, SS L 1 c2 c3 c4 c5 c6) (aft wp 268 33 [vr 226, vr 273, vi b] [] Q))) ∧ (¬ (b < D 273 2) → (((0 : Int) ≤ 1 ∧ 1 ≤ (1 : Int)) ∧ (Q (.inl [vi 1]) (D, SS L 1 c2 c3 c4 c5 c6))))) from ⟨fun h13 => Exists.elim ((H.1 h13)) fun xb1 x2 => s269 ⟨xb1, x2.1, (fun E3 q4 => (show wp 268 36 [vr 226, vr 273, vi b] [vi 1] (E3, SS L 1 c2 c3 c4 c5 c6) Q from vc_wp [44] 200 _ _ _ _ _ _ (show (((1 : Int) = 0 → (((0 : Int) ≤ 0 ∧ 0 ≤ (1 : Int)) ∧ (Q (.inl [vi 0]) (E3, SS L 1 c2 c3 c4 c5 c6)))) ∧ (¬ ((1 : Int) = 0) → (wp 268 44 [vr 226, vr 273, vi (w32 (b + 1))] [] (E3, SS L 1 c2 c3 c4 c5 c6) Q))) from ⟨fun h6 => absurd h6 (by decide), fun _ => w32_i (fun z5 : Int => wp 268 44 [vr 226, vr 273, vi z5] [] (E3, SS L 1 c2 c3 c4 c5 c6) Q) ((x2.2.1 E3 q4)).1 (vc_wp [22] 200 _ _ _ _ _ _ (show wp 268 22 [vr 226, vr 273, vi (b + 1)] [] (E3, SS L 1 c2 c3 c4 c5 c6) Q from ((x2.2.1 E3 q4)).2))⟩))), (fun E8 q9 => (show wp 268 36 [vr 226, vr 273, vi b] [vi 0] (E8, SS L 1 c2 c3 c4 c5 c6) Q from vc_wp [44] 200 _ _ _ _ _ _ (show (((0 : Int) = 0 → (((0 : Int) ≤ 0 ∧ 0 ≤ (1 : Int)) ∧ (Q (.inl [vi 0]) (E8, SS L 1 c2 c3 c4 c5 c6)))) ∧ (¬ ((0 : Int) = 0) → (wp 268 44 [vr 226, vr 273, vi (w32 (b + 1))] [] (E8, SS L 1 c2 c3 c4 c5 c6) Q))) from ⟨fun _ => ⟨(by decide), (x2.2.2 E8 q9)⟩, fun h12 => absurd (by decide) h12⟩)))⟩, fun h14 => ⟨(by decide), (H.2 h14)⟩⟩)
theorem l268 {L c2 c3 c4 c5 c6 : Nat} {D : Dt} {Q : Out → Wd → Prop} {K : TK} {ns ab : List Int} {X : XB} {r : PR × XB} (Hz : ∀ E, FrN D E → ¬ r.1.1 = true → E 226 12 = r.1.2 → Q (.inl [vi 0]) (E, SS L 1 c2 c3 c4 c5 c6)) (Hk : ∀ E, FrQ D E → r.1.1 = true → YLn r.2 → ((r.2 11).length = (X 4).length ∧ (r.2 12).length = (X 4).length) → CdM r.2 E → FeM r.2 E → Q (.inl [vi 1]) (E, SS L 1 c2 c3 c4 c5 c6)) : ∀ (M n : Nat) (E : Dt) (Y : XB), (X 4).length - n = M → n ≤ (X 4).length → FrQ D E → MW K ns ab X E → CdM Y E → YLn Y → FeM Y E → ((Y 11).length = n ∧ (Y 12).length = n) → r = bsR K ns ab X M n Y → wp 268 22 [vr 226, vr 273, vi n] [] (E, SS L 1 c2 c3 c4 c5 c6) Q := by
  intro M
  induction M with
  | zero =>
    intro n E Y e hn1 hf hW hC hY hFe hl er
    have er : r = ((true, 0), Y) := er
    have h2 := hW.2.2.2.2.1.1.1
    refine r268_22 (K := K) ⟨fun g => by rw [h2] at g; omega, fun _ => Hk E hf (by rw [er]) (by rw [er]; exact hY) ?_ (by rw [er]; exact hC) (by rw [er]; exact hFe)⟩
    rw [er]
    dsimp only
    omega
  | succ M ih =>
    intro n E Y e hn1 hf hW hC hY hFe hl er
    have h2 := hW.2.2.2.2.1.1.1
    have h48 := hW.2.2.2.2.1.1.2.2.1
    refine r268_22 (K := K) ⟨fun _ => ⟨(ns, ab, X, Y), ⟨hW, hC, hY, hFe, ⟨by dsimp only; omega, by dsimp only; omega⟩, by omega, by dsimp only; omega⟩, fun E' x => ⟨by omega, ?_⟩, fun E' x => ?_⟩, fun g => by rw [h2] at g; omega⟩
    · dsimp only at x
      have er' : r = bsR K ns ab X M ((n : Int) + 1) (bdR K ns ab X n (lf (X 12) n) Y).2 := er.trans (cit_t x.1)
      have hb := bdR_n hY x.1
      have := ih (n + 1) E' _ (by omega) (by omega) (hf.t x.2.1) (hW.q x.2.1) x.2.2.1 hb.1 x.2.2.2 ⟨by omega, by omega⟩ (by rw [er']; rfl)
      rw [show ((n + 1 : Nat) : Int) = (n : Int) + 1 by omega] at this
      exact this
    · dsimp only at x
      have er' : r = bdR K ns ab X n (lf (X 12) n) Y := er.trans (cit_f x.1)
      rw [← er'] at x
      exact Hz E' (hf.n.t x.2.1) x.1 x.2.2
theorem s268 {L c2 c3 c4 c5 c6 : Nat} {D : Dt} {Q : Out → Wd → Prop} {K : TK} (H : ∃ x : List Int × List Int × XB, MW K x.1 x.2.1 x.2.2 D ∧ (∀ E, ((bsR K x.1 x.2.1 x.2.2 (x.2.2 4).length 0 Y0).1.1 = true ∧ FrN D E ∧ MW K x.1 x.2.1 x.2.2 E ∧ YLn (bsR K x.1 x.2.1 x.2.2 (x.2.2 4).length 0 Y0).2 ∧ ((((bsR K x.1 x.2.1 x.2.2 (x.2.2 4).length 0 Y0).2 11).length = (x.2.2 4).length) ∧ (((bsR K x.1 x.2.1 x.2.2 (x.2.2 4).length 0 Y0).2 12).length = (x.2.2 4).length)) ∧ CdM (bsR K x.1 x.2.1 x.2.2 (x.2.2 4).length 0 Y0).2 E ∧ FeM (bsR K x.1 x.2.1 x.2.2 (x.2.2 4).length 0 Y0).2 E) → Q (.inl [vi 1]) (E, SS L 1 c2 c3 c4 c5 c6)) ∧ (∀ E, (¬ (bsR K x.1 x.2.1 x.2.2 (x.2.2 4).length 0 Y0).1.1 = true ∧ FrN D E ∧ E 226 12 = (bsR K x.1 x.2.1 x.2.2 (x.2.2 4).length 0 Y0).1.2) → Q (.inl [vi 0]) (E, SS L 1 c2 c3 c4 c5 c6))) : wp 268 0 [vr 226, vr 273, vu] [] (D, SS L 1 c2 c3 c4 c5 c6) Q := by
  obtain ⟨⟨ns, ab, X⟩, hW, Hk, Hz⟩ := H
  dsimp only at *
  have f0 : FrQ D (up (up (up (up D 273 3 0) 273 4 0) 273 5 0) 273 7 0) := by
    refine ⟨fun b _ y _ _ _ _ => ?_, fun i _ => rfl, fun i x y => ?_⟩
    · rw [ub_a y, ub_a y, ub_a y, ub_a y]
    · rw [ub_n (by omega), ub_n (by omega), ub_n (by omega), ub_n (by omega)]
  have hC0 : CdM Y0 (up (up (up (up D 273 3 0) 273 4 0) 273 5 0) 273 7 0) := by
    refine ⟨⟨rfl, rfl, rfl⟩, ?_, ?_, ?_, ?_, ?_, ⟨?_, ?_, ?_, ?_, ?_⟩, ⟨Int.le_refl _, fun i j i0 ij j1 => ?_, fun v => ⟨?_, ?_⟩⟩, Int.le_refl _⟩
    iterate 10 exact fun i i0 i1 => by have i1 : i < ((0 : Nat) : Int) := i1; omega
    · have j1 : j < (0 : Int) := j1
      omega
    · rintro ⟨i, i0, i1, _⟩
      have i1 : i < ((0 : Nat) : Int) := i1
      omega
    · rintro ⟨i, i0, i1, _⟩
      have i1 : i < (0 : Int) := i1
      omega
  have hF0 : FeM Y0 (up (up (up (up D 273 3 0) 273 4 0) 273 5 0) 273 7 0) := by
    refine ⟨?_, ?_⟩ <;> exact fun i i0 i1 => by have i1 : i < ((0 : Nat) : Int) := i1; omega
  have hY0 : YLn Y0 := ⟨⟨rfl, rfl, rfl, rfl⟩, ⟨rfl, rfl, rfl, rfl⟩, by decide, by decide, by decide⟩
  exact r268_0 (K := K) (l268 (K := K) (ns := ns) (ab := ab) (X := X) (r := bsR K ns ab X (X 4).length 0 Y0) (fun E f h e => Hz E ⟨h, f0.n.t f, e⟩) (fun E f h hY hl hC hFe => Hk E ⟨h, f0.n.t f.n, (hW.q f0).q f, hY, hl, hC, hFe⟩) _ 0 _ Y0 rfl (by omega) (FrQ.r _) (hW.q f0) hC0 hY0 hF0 ⟨rfl, rfl⟩ rfl)
