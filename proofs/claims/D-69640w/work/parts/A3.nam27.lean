/-! names: the model's thresholds -/
set_option maxRecDepth 100000
/-- f is strictly increasing on 0..n-1, and its numbers are those of P -/
def SL (f : Int → Int) (n : Int) (P : Int → Prop) : Prop := 0 ≤ n ∧ (∀ i j, 0 ≤ i → i < j → j < n → f i < f j) ∧ ∀ v, P v ↔ ∃ i, 0 ≤ i ∧ i < n ∧ f i = v
def FrT (D E : Dt) : Prop := (∀ b, ¬ b = 273 → ¬ b = 299 → E b = D b) ∧ ∀ i, ¬ i = 7 → E 273 i = D 273 i
theorem FrT.r (D : Dt) : FrT D D := ⟨fun _ _ _ => rfl, fun _ _ => rfl⟩
theorem FrT.t {D E F : Dt} (h : FrT D E) (h2 : FrT E F) : FrT D F := ⟨fun b x y => (h2.1 b x y).trans (h.1 b x y), fun i x => (h2.2 i x).trans (h.2 i x)⟩
theorem SL.cg {f : Int → Int} {n : Int} {P P' : Int → Prop} (h : SL f n P) (e : ∀ v, P v ↔ P' v) : SL f n P' := ⟨h.1, h.2.1, fun v => (e v).symm.trans (h.2.2 v)⟩
theorem SL.ins {f g : Int → Int} {n k v : Int} {P : Int → Prop} (h : SL f n P) (k0 : 0 ≤ k) (k1 : k ≤ n) (hl : ∀ i, 0 ≤ i → i < k → f i < v) (hr : ∀ i, k ≤ i → i < n → v < f i) (g1 : ∀ i, i < k → g i = f i) (g2 : g k = v) (g3 : ∀ i, k < i → i ≤ n → g i = f (i - 1)) : SL g (n + 1) (fun x => P x ∨ x = v) := by
  refine ⟨by have := h.1; omega, fun i j i0 ij jn => ?_, fun x => ?_⟩
  · by_cases c1 : j < k
    · rw [g1 i (by omega), g1 j c1]; exact h.2.1 i j i0 ij (by omega)
    · by_cases c2 : j = k
      · rw [c2, g1 i (by omega), g2]; exact hl i i0 (by omega)
      · rw [g3 j (by omega) (by omega)]
        by_cases c3 : i < k
        · rw [g1 i c3]; exact h.2.1 i (j - 1) i0 (by omega) (by omega)
        · by_cases c4 : i = k
          · rw [c4, g2]; exact hr (j - 1) (by omega) (by omega)
          · rw [g3 i (by omega) (by omega)]; exact h.2.1 (i - 1) (j - 1) (by omega) (by omega) (by omega)
  · constructor
    · rintro (hx | hx)
      · obtain ⟨i, i0, i1, e⟩ := (h.2.2 x).mp hx
        by_cases c : i < k
        · exact ⟨i, i0, by omega, by rw [g1 i c]; exact e⟩
        · refine ⟨i + 1, by omega, by omega, ?_⟩
          rw [g3 (i + 1) (by omega) (by omega), show i + 1 - 1 = i by omega]; exact e
      · exact ⟨k, k0, by omega, by rw [g2, hx]⟩
    · rintro ⟨i, i0, i1, e⟩
      by_cases c : i < k
      · rw [g1 i c] at e; exact Or.inl ((h.2.2 x).mpr ⟨i, i0, by omega, e⟩)
      · by_cases c2 : i = k
        · rw [c2, g2] at e; exact Or.inr e.symm
        · rw [g3 i (by omega) (by omega)] at e
          exact Or.inl ((h.2.2 x).mpr ⟨i - 1, by omega, by omega, e⟩)
theorem r276_0 {L c2 c3 c4 c5 c6 : Nat} {D : Dt} {Q : Out → Wd → Prop} {v : Int} (H : ((v < (-2147483648) → (Q (.inl []) (D, SS L 1 c2 c3 c4 c5 c6))) ∧ (¬ (v < (-2147483648)) → ((2147483647 < v → (Q (.inl []) (D, SS L 1 c2 c3 c4 c5 c6))) ∧ (¬ (2147483647 < v) → (wp 276 23 [vr 226, vr 273, vl v, vu, vi (D 273 7), vu] [] (D, SS L 1 c2 c3 c4 c5 c6) Q)))))) : wp 276 0 [vr 226, vr 273, vl v, vu, vu, vu] [] (D, SS L 1 c2 c3 c4 c5 c6) Q := vc_wp [23] 200 _ _ _ _ _ _ (show ((lcmp v (-2147483648) < 0 → (Q (.inl []) (D, SS L 1 c2 c3 c4 c5 c6))) ∧ (¬ (lcmp v (-2147483648) < 0) → ((0 < lcmp v 2147483647 → (Q (.inl []) (D, SS L 1 c2 c3 c4 c5 c6))) ∧ (¬ (0 < lcmp v 2147483647) → (wp 276 23 [vr 226, vr 273, vl v, vu, vi (D 273 7), vu] [] (D, SS L 1 c2 c3 c4 c5 c6) Q))))) from ⟨fun h3 => (H.1 ((lc_l).mp h3)), fun h4 => ⟨fun h1 => ((H.2 (mt (lc_l).mpr h4)).1 ((lc_g).mp h1)), fun h2 => ((H.2 (mt (lc_l).mpr h4)).2 (mt (lc_g).mpr h2))⟩⟩)
theorem r276_23 {L c2 c3 c4 c5 c6 : Nat} {D : Dt} {Q : Out → Wd → Prop} {v k : Int} (H : ((0 < k → (((-2147483648) ≤ k - 1 ∧ k - 1 ≤ 2147483647) ∧ ((0 ≤ k - 1 ∧ k - 1 < 3079) ∧ ((v < D 299 (k - 1) → (((-2147483648) ≤ k + (-1) ∧ k + (-1) ≤ 2147483647) ∧ (wp 276 23 [vr 226, vr 273, vl v, vu, vi (k + (-1)), vu] [] (D, SS L 1 c2 c3 c4 c5 c6) Q))) ∧ (¬ (v < D 299 (k - 1)) → ((0 < k → (((-2147483648) ≤ k - 1 ∧ k - 1 ≤ 2147483647) ∧ ((0 ≤ k - 1 ∧ k - 1 < 3079) ∧ ((D 299 (k - 1) = v → (Q (.inl []) (D, SS L 1 c2 c3 c4 c5 c6))) ∧ (¬ (D 299 (k - 1) = v) → (wp 276 76 [vr 226, vr 273, vl v, vu, vi k, vi (D 273 7)] [] (D, SS L 1 c2 c3 c4 c5 c6) Q)))))) ∧ (¬ (0 < k) → (wp 276 76 [vr 226, vr 273, vl v, vu, vi k, vi (D 273 7)] [] (D, SS L 1 c2 c3 c4 c5 c6) Q)))))))) ∧ (¬ (0 < k) → ((0 < k → (((-2147483648) ≤ k - 1 ∧ k - 1 ≤ 2147483647) ∧ ((0 ≤ k - 1 ∧ k - 1 < 3079) ∧ ((D 299 (k - 1) = v → (Q (.inl []) (D, SS L 1 c2 c3 c4 c5 c6))) ∧ (¬ (D 299 (k - 1) = v) → (wp 276 76 [vr 226, vr 273, vl v, vu, vi k, vi (D 273 7)] [] (D, SS L 1 c2 c3 c4 c5 c6) Q)))))) ∧ (¬ (0 < k) → (wp 276 76 [vr 226, vr 273, vl v, vu, vi k, vi (D 273 7)] [] (D, SS L 1 c2 c3 c4 c5 c6) Q)))))) : wp 276 23 [vr 226, vr 273, vl v, vu, vi k, vu] [] (D, SS L 1 c2 c3 c4 c5 c6) Q := vc_wp [32, 58, 76] 200 _ _ _ _ _ _ (show ((0 < k → (wp 276 32 [vr 226, vr 273, vl v, vu, vi k, vu] [vr 299] (D, SS L 1 c2 c3 c4 c5 c6) Q)) ∧ (¬ (0 < k) → ((0 < k → (wp 276 58 [vr 226, vr 273, vl v, vu, vi k, vu] [vr 299] (D, SS L 1 c2 c3 c4 c5 c6) Q)) ∧ (¬ (0 < k) → (wp 276 76 [vr 226, vr 273, vl v, vu, vi k, vi (D 273 7)] [] (D, SS L 1 c2 c3 c4 c5 c6) Q))))) from ⟨fun h15 => vc_wp [36] 200 _ _ _ _ _ _ (show wp 276 36 [vr 226, vr 273, vl v, vu, vi k, vu] [vi (w32 (k - 1)), vr 299] (D, SS L 1 c2 c3 c4 c5 c6) Q from w32_i (fun z9 : Int => wp 276 36 [vr 226, vr 273, vl v, vu, vi k, vu] [vi z9, vr 299] (D, SS L 1 c2 c3 c4 c5 c6) Q) ((H.1 h15)).1 (vc_wp [46, 58, 76] 200 _ _ _ _ _ _ (show (0 ≤ k - 1 ∧ k - 1 < 3079) ∧ ((0 < lcmp (D 299 (k - 1)) v → (wp 276 46 [vr 226, vr 273, vl v, vu, vi (w32 (k + (-1))), vu] [] (D, SS L 1 c2 c3 c4 c5 c6) Q)) ∧ (¬ (0 < lcmp (D 299 (k - 1)) v) → ((0 < k → (wp 276 58 [vr 226, vr 273, vl v, vu, vi k, vu] [vr 299] (D, SS L 1 c2 c3 c4 c5 c6) Q)) ∧ (¬ (0 < k) → (wp 276 76 [vr 226, vr 273, vl v, vu, vi k, vi (D 273 7)] [] (D, SS L 1 c2 c3 c4 c5 c6) Q))))) from ⟨((H.1 h15)).2.1, ⟨fun h7 => w32_i (fun z1 : Int => wp 276 46 [vr 226, vr 273, vl v, vu, vi z1, vu] [] (D, SS L 1 c2 c3 c4 c5 c6) Q) ((((H.1 h15)).2.2.1 ((lc_g).mp h7))).1 (vc_wp [23] 200 _ _ _ _ _ _ (show wp 276 23 [vr 226, vr 273, vl v, vu, vi (k + (-1)), vu] [] (D, SS L 1 c2 c3 c4 c5 c6) Q from ((((H.1 h15)).2.2.1 ((lc_g).mp h7))).2)), fun h8 => ⟨fun h5 => vc_wp [62] 200 _ _ _ _ _ _ (show wp 276 62 [vr 226, vr 273, vl v, vu, vi k, vu] [vi (w32 (k - 1)), vr 299] (D, SS L 1 c2 c3 c4 c5 c6) Q from w32_i (fun z4 : Int => wp 276 62 [vr 226, vr 273, vl v, vu, vi k, vu] [vi z4, vr 299] (D, SS L 1 c2 c3 c4 c5 c6) Q) (((((H.1 h15)).2.2.2 (mt (lc_g).mpr h8)).1 h5)).1 (vc_wp [76] 200 _ _ _ _ _ _ (show (0 ≤ k - 1 ∧ k - 1 < 3079) ∧ ((lcmp (D 299 (k - 1)) v = 0 → (Q (.inl []) (D, SS L 1 c2 c3 c4 c5 c6))) ∧ (¬ (lcmp (D 299 (k - 1)) v = 0) → (wp 276 76 [vr 226, vr 273, vl v, vu, vi k, vi (D 273 7)] [] (D, SS L 1 c2 c3 c4 c5 c6) Q))) from ⟨(((((H.1 h15)).2.2.2 (mt (lc_g).mpr h8)).1 h5)).2.1, ⟨fun h2 => ((((((H.1 h15)).2.2.2 (mt (lc_g).mpr h8)).1 h5)).2.2.1 ((lc_e).mp h2)), fun h3 => ((((((H.1 h15)).2.2.2 (mt (lc_g).mpr h8)).1 h5)).2.2.2 (mt (lc_e).mpr h3))⟩⟩))), fun h6 => ((((H.1 h15)).2.2.2 (mt (lc_g).mpr h8)).2 h6)⟩⟩⟩))), fun h16 => ⟨fun h13 => vc_wp [62] 200 _ _ _ _ _ _ (show wp 276 62 [vr 226, vr 273, vl v, vu, vi k, vu] [vi (w32 (k - 1)), vr 299] (D, SS L 1 c2 c3 c4 c5 c6) Q from w32_i (fun z12 : Int => wp 276 62 [vr 226, vr 273, vl v, vu, vi k, vu] [vi z12, vr 299] (D, SS L 1 c2 c3 c4 c5 c6) Q) (((H.2 h16).1 h13)).1 (vc_wp [76] 200 _ _ _ _ _ _ (show (0 ≤ k - 1 ∧ k - 1 < 3079) ∧ ((lcmp (D 299 (k - 1)) v = 0 → (Q (.inl []) (D, SS L 1 c2 c3 c4 c5 c6))) ∧ (¬ (lcmp (D 299 (k - 1)) v = 0) → (wp 276 76 [vr 226, vr 273, vl v, vu, vi k, vi (D 273 7)] [] (D, SS L 1 c2 c3 c4 c5 c6) Q))) from ⟨(((H.2 h16).1 h13)).2.1, ⟨fun h10 => ((((H.2 h16).1 h13)).2.2.1 ((lc_e).mp h10)), fun h11 => ((((H.2 h16).1 h13)).2.2.2 (mt (lc_e).mpr h11))⟩⟩))), fun h14 => ((H.2 h16).2 h14)⟩⟩)
theorem r276_76 {L c2 c3 c4 c5 c6 : Nat} {D : Dt} {Q : Out → Wd → Prop} {v k j : Int} (H : ((k < j → (((-2147483648) ≤ j - 1 ∧ j - 1 ≤ 2147483647) ∧ ((0 ≤ j - 1 ∧ j - 1 < 3079) ∧ ((0 ≤ j ∧ j < 3079) ∧ (((-2147483648) ≤ j + (-1) ∧ j + (-1) ≤ 2147483647) ∧ (wp 276 76 [vr 226, vr 273, vl v, vu, vi k, vi (j + (-1))] [] (up D 299 j (D 299 (j - 1)), SS L 1 c2 c3 c4 c5 c6) Q)))))) ∧ (¬ (k < j) → (((-2147483648) ≤ v ∧ v ≤ 2147483647) ∧ ((0 ≤ k ∧ k < 3079) ∧ (((-2147483648) ≤ (D 273 7) + 1 ∧ (D 273 7) + 1 ≤ 2147483647) ∧ (Q (.inl []) (up (up D 299 k v) 273 7 ((D 273 7) + 1), SS L 1 c2 c3 c4 c5 c6)))))))) : wp 276 76 [vr 226, vr 273, vl v, vu, vi k, vi j] [] (D, SS L 1 c2 c3 c4 c5 c6) Q := vc_wp [87, 109] 200 _ _ _ _ _ _ (show ((k < j → (wp 276 87 [vr 226, vr 273, vl v, vu, vi k, vi j] [vr 299] (D, SS L 1 c2 c3 c4 c5 c6) Q)) ∧ (¬ (k < j) → (wp 276 109 [vr 226, vr 273, vl v, vu, vi k, vi j] [vr 299] (D, SS L 1 c2 c3 c4 c5 c6) Q))) from ⟨fun h5 => vc_wp [93] 200 _ _ _ _ _ _ (show wp 276 93 [vr 226, vr 273, vl v, vu, vi k, vi j] [vr 299, vi j, vr 299] (D, SS L 1 c2 c3 c4 c5 c6) Q from vc_wp [97] 200 _ _ _ _ _ _ (show wp 276 97 [vr 226, vr 273, vl v, vu, vi k, vi j] [vi (w32 (j - 1)), vr 299, vi j, vr 299] (D, SS L 1 c2 c3 c4 c5 c6) Q from w32_i (fun z2 : Int => wp 276 97 [vr 226, vr 273, vl v, vu, vi k, vi j] [vi z2, vr 299, vi j, vr 299] (D, SS L 1 c2 c3 c4 c5 c6) Q) ((H.1 h5)).1 (vc_wp [102] 200 _ _ _ _ _ _ (show (0 ≤ j - 1 ∧ j - 1 < 3079) ∧ ((0 ≤ j ∧ j < 3079) ∧ (wp 276 102 [vr 226, vr 273, vl v, vu, vi k, vi (w32 (j + (-1)))] [] (up D 299 j (D 299 (j - 1)), SS L 1 c2 c3 c4 c5 c6) Q)) from ⟨((H.1 h5)).2.1, ⟨((H.1 h5)).2.2.1, w32_i (fun z1 : Int => wp 276 102 [vr 226, vr 273, vl v, vu, vi k, vi z1] [] (up D 299 j (D 299 (j - 1)), SS L 1 c2 c3 c4 c5 c6) Q) (((H.1 h5)).2.2.2).1 (vc_wp [76] 200 _ _ _ _ _ _ (show wp 276 76 [vr 226, vr 273, vl v, vu, vi k, vi (j + (-1))] [] (up D 299 j (D 299 (j - 1)), SS L 1 c2 c3 c4 c5 c6) Q from (((H.1 h5)).2.2.2).2))⟩⟩)))), fun h6 => vc_wp [113] 200 _ _ _ _ _ _ (show wp 276 113 [vr 226, vr 273, vl v, vu, vi k, vi j] [vi (w32 (v)), vi k, vr 299] (D, SS L 1 c2 c3 c4 c5 c6) Q from w32_i (fun z4 : Int => wp 276 113 [vr 226, vr 273, vl v, vu, vi k, vi j] [vi z4, vi k, vr 299] (D, SS L 1 c2 c3 c4 c5 c6) Q) ((H.2 h6)).1 (vc_wp [121] 200 _ _ _ _ _ _ (show (0 ≤ k ∧ k < 3079) ∧ (wp 276 121 [vr 226, vr 273, vl v, vu, vi k, vi j] [vi (w32 ((D 273 7) + 1)), vr 273] (up D 299 k v, SS L 1 c2 c3 c4 c5 c6) Q) from ⟨((H.2 h6)).2.1, w32_i (fun z3 : Int => wp 276 121 [vr 226, vr 273, vl v, vu, vi k, vi j] [vi z3, vr 273] (up D 299 k v, SS L 1 c2 c3 c4 c5 c6) Q) (((H.2 h6)).2.2).1 (vc_wp [124] 200 _ _ _ _ _ _ (show wp 276 124 [vr 226, vr 273, vl v, vu, vi k, vi j] [] (up (up D 299 k v) 273 7 ((D 273 7) + 1), SS L 1 c2 c3 c4 c5 c6) Q from vc_wp [] 200 _ _ _ _ _ _ (show Q (.inl []) (up (up D 299 k v) 273 7 ((D 273 7) + 1), SS L 1 c2 c3 c4 c5 c6) from (((H.2 h6)).2.2).2)))⟩)))⟩)
theorem s276 {L c2 c3 c4 c5 c6 : Nat} {D : Dt} {Q : Out → Wd → Prop} {v : Int} (H : ∃ P : Int → Prop, (SL (D 299) (D 273 7) P ∧ D 273 7 < 3079) ∧ ∀ E, (FrT D E ∧ SL (E 299) (E 273 7) (fun x => P x ∨ (x = v ∧ (-2147483648 ≤ x ∧ x ≤ 2147483647))) ∧ E 273 7 ≤ D 273 7 + 1) → Q (.inl []) (E, SS L 1 c2 c3 c4 c5 c6)) : wp 276 0 [vr 226, vr 273, vl v, vu, vu, vu] [] (D, SS L 1 c2 c3 c4 c5 c6) Q := by
  obtain ⟨P, ⟨hS, hn⟩, H⟩ := H
  have n0 := hS.1
  have hsame : (∀ x, P x ↔ (P x ∨ (x = v ∧ (-2147483648 ≤ x ∧ x ≤ 2147483647)))) → Q (.inl []) (D, SS L 1 c2 c3 c4 c5 c6) := fun h => H D ⟨FrT.r D, hS.cg h, by omega⟩
  have h76 : (-2147483648 ≤ v ∧ v ≤ 2147483647) → ∀ k : Int, 0 ≤ k → k ≤ D 273 7 → (∀ i, 0 ≤ i → i < k → D 299 i < v) → (∀ i, k ≤ i → i < D 273 7 → v < D 299 i) → ∀ (M : Nat) (j : Int) (E : Dt), (j - k).toNat = M → k ≤ j → j ≤ D 273 7 → FrT D E → E 273 7 = D 273 7 → (∀ i, i < j → E 299 i = D 299 i) → (∀ i, j < i → i ≤ D 273 7 → E 299 i = D 299 (i - 1)) → wp 276 76 [vr 226, vr 273, vl v, vu, vi k, vi j] [] (E, SS L 1 c2 c3 c4 c5 c6) Q := by
    intro hv k k0 k1 hl hr M
    induction M with
    | zero =>
      intro j E e j0 j1 hf e7 g1 g3
      have ej : j = k := by omega
      subst ej
      refine r276_76 ⟨fun g => by omega, fun _ => ⟨hv, by omega, by rw [e7]; omega, H _ ⟨⟨fun b x y => ?_, fun i x => ?_⟩, ?_, ?_⟩⟩⟩
      · rw [ub_a x, ub_a y]; exact hf.1 b x y
      · rw [ub_n x, ub_a (by decide)]; exact hf.2 i x
      · have := hS.ins (g := up E 299 j v 299) k0 j1 hl hr (fun i hi => by rw [ub_n (by omega)]; exact g1 i hi) ub_s (fun i i0 i1 => by rw [ub_n (by omega)]; exact g3 i i0 i1)
        show SL (up E 299 j v 299) (E 273 7 + 1) _
        rw [e7]
        refine this.cg fun x => or_congr_right ⟨fun hx => ⟨hx, by omega⟩, fun hx => hx.1⟩
      · show E 273 7 + 1 ≤ _
        omega
    | succ M ih =>
      intro j E e j0 j1 hf e7 g1 g3
      refine r276_76 ⟨fun g => ⟨by omega, by omega, by omega, by omega, ih (j + -1) _ (by omega) (by omega) (by omega) ⟨fun b x y => ?_, fun i x => ?_⟩ ?_ (fun i hi => ?_) (fun i i0 i1 => ?_)⟩, fun g => by omega⟩
      · rw [ub_a y]; exact hf.1 b x y
      · rw [ub_a (by decide)]; exact hf.2 i x
      · rw [ub_a (by decide)]; exact e7
      · rw [ub_n (by omega)]; exact g1 i (by omega)
      · by_cases c : i = j
        · rw [c, ub_s]; exact g1 _ (by omega)
        · rw [ub_n c]; exact g3 i (by omega) i1
  have h23 : (-2147483648 ≤ v ∧ v ≤ 2147483647) → ∀ (M : Nat) (k : Int), k.toNat = M → 0 ≤ k → k ≤ D 273 7 → (∀ i, k ≤ i → i < D 273 7 → v < D 299 i) → wp 276 23 [vr 226, vr 273, vl v, vu, vi k, vu] [] (D, SS L 1 c2 c3 c4 c5 c6) Q := by
    intro hv M
    induction M with
    | zero =>
      intro k e k0 k1 hr
      refine r276_23 ⟨fun g => by omega, fun g => ⟨fun g => by omega, fun g => h76 hv k k0 k1 (fun i i0 i1 => by omega) hr _ _ D rfl k1 (Int.le_refl _) (FrT.r D) rfl (fun _ _ => rfl) (fun i i0 i1 => by omega)⟩⟩
    | succ M ih =>
      intro k e k0 k1 hr
      refine r276_23 ⟨fun g => ⟨by omega, by omega, fun g1 => ⟨by omega, ih _ (by omega) (by omega) (by omega) (fun i i0 i1 => ?_)⟩, fun g1 => ⟨fun _ => ⟨by omega, by omega, fun g2 => hsame fun x => ⟨Or.inl, fun hx => hx.elim id fun hy => ?_⟩, fun g2 => h76 hv k k0 k1 (fun i i0 i1 => ?_) hr _ _ D rfl k1 (Int.le_refl _) (FrT.r D) rfl (fun _ _ => rfl) (fun i i0 i1 => by omega)⟩, fun g => by omega⟩⟩, fun g => by omega⟩
      · by_cases c : k ≤ i
        · exact hr i c i1
        · rw [show i = k - 1 by omega]; exact g1
      · rw [hy.1]; exact (hS.2.2 v).mpr ⟨k - 1, by omega, by omega, g2⟩
      · by_cases c : i = k - 1
        · rw [c]; omega
        · have := hS.2.1 i (k - 1) i0 (by omega) (by omega)
          omega
  refine r276_0 ⟨fun g => hsame fun x => ⟨Or.inl, fun hx => hx.elim id fun hy => by omega⟩, fun g => ⟨fun g1 => hsame fun x => ⟨Or.inl, fun hx => hx.elim id fun hy => by omega⟩, fun g1 => h23 (by omega) _ _ rfl n0 (Int.le_refl _) (fun i i0 i1 => by omega)⟩⟩
theorem r275_0 {L c2 c3 c4 c5 c6 : Nat} {D : Dt} {Q : Out → Wd → Prop} {n : Int} (H : ((-9223372036854775808) ≤ n - 1 ∧ n - 1 ≤ 9223372036854775807) ∧ (wp 275 5 [vr 226, vr 273, vl n, vu, vl (n - 1), vu] [] (D, SS L 1 c2 c3 c4 c5 c6) Q)) : wp 275 0 [vr 226, vr 273, vl n, vu, vu, vu] [] (D, SS L 1 c2 c3 c4 c5 c6) Q := vc_wp [3] 200 _ _ _ _ _ _ (show wp 275 3 [vr 226, vr 273, vl n, vu, vu, vu] [vl (w64 (n - 1))] (D, SS L 1 c2 c3 c4 c5 c6) Q from w64_i (fun z1 : Int => wp 275 3 [vr 226, vr 273, vl n, vu, vu, vu] [vl z1] (D, SS L 1 c2 c3 c4 c5 c6) Q) (H).1 (vc_wp [5] 200 _ _ _ _ _ _ (show wp 275 5 [vr 226, vr 273, vl n, vu, vl (n - 1), vu] [] (D, SS L 1 c2 c3 c4 c5 c6) Q from (H).2)))
theorem r275_5 {L c2 c3 c4 c5 c6 : Nat} {D : Dt} {Q : Out → Wd → Prop} {n v : Int} (H : ((-9223372036854775808) ≤ n + 1 ∧ n + 1 ≤ 9223372036854775807) ∧ ((n + 1 < v → (Q (.inl []) (D, SS L 1 c2 c3 c4 c5 c6))) ∧ (¬ (n + 1 < v) → (∃ (P1 : Int → Prop), (SL (D 299) (D 273 7) P1 ∧ D 273 7 < 3079) ∧ ((∀ (E3 : Dt), (FrT D E3 ∧ SL (E3 299) (E3 273 7) (fun x => P1 x ∨ (x = v ∧ (-2147483648 ≤ x ∧ x ≤ 2147483647))) ∧ E3 273 7 ≤ D 273 7 + 1) → (((-9223372036854775808) ≤ v + 1 ∧ v + 1 ≤ 9223372036854775807) ∧ (wp 275 5 [vr 226, vr 273, vl n, vu, vl (v + 1), vu] [] (E3, SS L 1 c2 c3 c4 c5 c6) Q)))))))) : wp 275 5 [vr 226, vr 273, vl n, vu, vl v, vu] [] (D, SS L 1 c2 c3 c4 c5 c6) Q := vc_wp [10] 200 _ _ _ _ _ _ (show wp 275 10 [vr 226, vr 273, vl n, vu, vl v, vu] [vl (w64 (n + 1)), vl v] (D, SS L 1 c2 c3 c4 c5 c6) Q from w64_i (fun z8 : Int => wp 275 10 [vr 226, vr 273, vl n, vu, vl v, vu] [vl z8, vl v] (D, SS L 1 c2 c3 c4 c5 c6) Q) (H).1 (vc_wp [] 200 _ _ _ _ _ _ (show ((0 < lcmp v (n + 1) → (Q (.inl []) (D, SS L 1 c2 c3 c4 c5 c6))) ∧ (¬ (0 < lcmp v (n + 1)) → (wp 276 0 [vr 226, vr 273, vl v, vu, vu, vu] [] (D, SS L 1 c2 c3 c4 c5 c6) (aft wp 275 18 [vr 226, vr 273, vl n, vu, vl v, vu] [] Q)))) from ⟨fun h6 => ((H).2.1 ((lc_g).mp h6)), fun h7 => Exists.elim (((H).2.2 (mt (lc_g).mpr h7))) fun P1 x2 => s276 ⟨P1, x2.1, (fun E3 q4 => (show wp 275 21 [vr 226, vr 273, vl n, vu, vl v, vu] [] (E3, SS L 1 c2 c3 c4 c5 c6) Q from vc_wp [25] 200 _ _ _ _ _ _ (show wp 275 25 [vr 226, vr 273, vl n, vu, vl v, vu] [vl (w64 (v + 1))] (E3, SS L 1 c2 c3 c4 c5 c6) Q from w64_i (fun z5 : Int => wp 275 25 [vr 226, vr 273, vl n, vu, vl v, vu] [vl z5] (E3, SS L 1 c2 c3 c4 c5 c6) Q) ((x2.2 E3 q4)).1 (vc_wp [5] 200 _ _ _ _ _ _ (show wp 275 5 [vr 226, vr 273, vl n, vu, vl (v + 1), vu] [] (E3, SS L 1 c2 c3 c4 c5 c6) Q from ((x2.2 E3 q4)).2)))))⟩⟩)))
theorem s275 {L c2 c3 c4 c5 c6 : Nat} {D : Dt} {Q : Out → Wd → Prop} {n : Int} (H : ∃ P : Int → Prop, (SL (D 299) (D 273 7) P ∧ D 273 7 < 3077 ∧ (-2147483648 ≤ n ∧ n ≤ 2147483647)) ∧ ∀ E, (FrT D E ∧ SL (E 299) (E 273 7) (fun x => P x ∨ ((n - 1 ≤ x ∧ x ≤ n + 1) ∧ (-2147483648 ≤ x ∧ x ≤ 2147483647))) ∧ E 273 7 ≤ D 273 7 + 3) → Q (.inl []) (E, SS L 1 c2 c3 c4 c5 c6)) : wp 275 0 [vr 226, vr 273, vl n, vu, vu, vu] [] (D, SS L 1 c2 c3 c4 c5 c6) Q := by
  obtain ⟨P, ⟨hS, hn, hi⟩, H⟩ := H
  refine r275_0 ⟨by omega, r275_5 ⟨by omega, fun g => by omega, fun _ => ⟨P, ⟨hS, by omega⟩, fun E1 h1 => ⟨by omega, r275_5 ⟨by omega, fun g => by omega, fun _ => ⟨_, ⟨h1.2.1, by omega⟩, fun E2 h2 => ⟨by omega, r275_5 ⟨by omega, fun g => by omega, fun _ => ⟨_, ⟨h2.2.1, by omega⟩, fun E3 h3 => ⟨by omega, r275_5 ⟨by omega, fun _ => H E3 ⟨(h1.1.t h2.1).t h3.1, h3.2.1.cg fun x => ?_, by omega⟩, fun g => by omega⟩⟩⟩⟩⟩⟩⟩⟩⟩⟩⟩
  constructor
  · rintro (((hx | hx) | hx) | hx)
    · exact Or.inl hx
    · exact Or.inr (by omega)
    · exact Or.inr (by omega)
    · exact Or.inr (by omega)
  · rintro (hx | hx)
    · exact Or.inl (Or.inl (Or.inl hx))
    · by_cases c1 : x = n - 1
      · exact Or.inl (Or.inl (Or.inr (by omega)))
      · by_cases c2 : x = n
        · exact Or.inl (Or.inr (by omega))
        · exact Or.inr (by omega)
