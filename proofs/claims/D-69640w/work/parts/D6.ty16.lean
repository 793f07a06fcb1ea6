/-! types: the model's types, the whole -/
set_option maxRecDepth 100000
theorem r289_168 {L c2 c3 c4 c5 c6 : Nat} {D : Dt} {Q : Out → Wd → Prop} {b i : Int} (H : (0 ≤ b ∧ b < 48) ∧ ((i < D 286 b → ((0 ≤ i ∧ i < 1024) ∧ ((D 331 i = 0 → (wp 289 211 [vr 226, vr 273, vi b, vu, vu, vi i] [] (D, SS L 1 c2 c3 c4 c5 c6) Q)) ∧ (¬ (D 331 i = 0) → (∃ (xf1 : List Int × List Int × XB × XB × (Int → Int) × Nat), (MCt xf1.2.1 xf1.2.2.1 xf1.2.2.2.1 D ∧ PT xf1.1 xf1.2.1 xf1.2.2.1 xf1.2.2.2.1 ∧ (0 ≤ i ∧ i < (xf1.2.2.2.1 0).length) ∧ hgd xf1.2.2.1 xf1.2.2.2.1 i xf1.2.2.2.2.2 ∧ xf1.2.2.2.2.2 ≤ 8 ∧ D 292 i = xf1.2.2.2.2.2 ∧ ∀ k : Int, 0 ≤ k → k < 12 + xf1.2.2.2.2.2 → D 332 (i * 20 + k) = mT (xf1.2.2.2.2.1 k) ∧ tyS (8 + xf1.2.1.length) (xf1.2.2.2.2.1 k)) ∧ ((∀ (E3 : Dt), (FrU D E3 ∧ E3 331 = D 331 ∧ E3 332 = (D 332)) → ((rtF xf1.2.1 xf1.2.2.1 xf1.2.2.2.1 xf1.2.2.2.2.1 (12 + xf1.2.2.2.2.2) i → (wp 289 211 [vr 226, vr 273, vi b, vu, vu, vi i] [] (E3, SS L 1 c2 c3 c4 c5 c6) Q)) ∧ (¬ (rtF xf1.2.1 xf1.2.2.1 xf1.2.2.2.1 xf1.2.2.2.2.1 (12 + xf1.2.2.2.2.2) i) → ((0 ≤ i ∧ i < 1024) ∧ (Q (.inl [vi 0]) (up E3 226 12 (E3 329 i), SS L 1 c2 c3 c4 c5 c6)))))))))))) ∧ (¬ (i < D 286 b) → (Q (.inl [vi 1]) (D, SS L 1 c2 c3 c4 c5 c6))))) : wp 289 168 [vr 226, vr 273, vi b, vu, vu, vi i] [] (D, SS L 1 c2 c3 c4 c5 c6) Q := vc_wp [174] 200 _ _ _ _ _ _ (show wp 289 174 [vr 226, vr 273, vi b, vu, vu, vi i] [vr 286, vi i] (D, SS L 1 c2 c3 c4 c5 c6) Q from vc_wp [183] 200 _ _ _ _ _ _ (show (0 ≤ b ∧ b < 48) ∧ ((i < D 286 b → (wp 289 183 [vr 226, vr 273, vi b, vu, vu, vi i] [vr 331] (D, SS L 1 c2 c3 c4 c5 c6) Q)) ∧ (¬ (i < D 286 b) → (((0 : Int) ≤ 1 ∧ 1 ≤ (1 : Int)) ∧ (Q (.inl [vi 1]) (D, SS L 1 c2 c3 c4 c5 c6))))) from ⟨H.1, ⟨fun h11 => vc_wp [211] 200 _ _ _ _ _ _ (show (0 ≤ i ∧ i < 1024) ∧ ((D 331 i = 0 → (wp 289 211 [vr 226, vr 273, vi b, vu, vu, vi i] [] (D, SS L 1 c2 c3 c4 c5 c6) Q)) ∧ (¬ (D 331 i = 0) → (wp 299 0 [vr 226, vr 273, vi i, vu, vu, vu, vu, vu] [] (D, SS L 1 c2 c3 c4 c5 c6) (aft wp 289 193 [vr 226, vr 273, vi b, vu, vu, vi i] [] Q)))) from ⟨(H.2.1 h11).1, ⟨fun h9 => ((H.2.1 h11).2.1 h9), fun h10 => Exists.elim (((H.2.1 h11).2.2 h10)) fun xf1 x2 => s299 ⟨xf1, x2.1, (fun E3 q4 => (show wp 289 196 [vr 226, vr 273, vi b, vu, vu, vi i] [vi (ib (rtF xf1.2.1 xf1.2.2.1 xf1.2.2.2.1 xf1.2.2.2.2.1 (12 + xf1.2.2.2.2.2) i))] (E3, SS L 1 c2 c3 c4 c5 c6) Q from vc_wp [204, 211] 200 _ _ _ _ _ _ (show ((ib (rtF xf1.2.1 xf1.2.2.1 xf1.2.2.2.1 xf1.2.2.2.2.1 (12 + xf1.2.2.2.2.2) i) = 0 → (wp 289 204 [vr 226, vr 273, vi b, vu, vu, vi i] [vr 329, vr 226] (E3, SS L 1 c2 c3 c4 c5 c6) Q)) ∧ (¬ (ib (rtF xf1.2.1 xf1.2.2.1 xf1.2.2.2.1 xf1.2.2.2.2.1 (12 + xf1.2.2.2.2.2) i) = 0) → (wp 289 211 [vr 226, vr 273, vi b, vu, vu, vi i] [] (E3, SS L 1 c2 c3 c4 c5 c6) Q))) from ⟨fun h7 => vc_wp [] 200 _ _ _ _ _ _ (show (0 ≤ i ∧ i < 1024) ∧ (wp 256 0 [vr 226, vi (E3 329 i)] [] (E3, SS L 1 c2 c3 c4 c5 c6) (aft wp 289 207 [vr 226, vr 273, vi b, vu, vu, vi i] [] Q)) from ⟨((x2.2 E3 q4).2 ((ib_z).mp h7)).1, r256_0 (show wp 289 210 [vr 226, vr 273, vi b, vu, vu, vi i] [vi 0] (up E3 226 12 (E3 329 i), SS L 1 c2 c3 c4 c5 c6) Q from vc_wp [] 200 _ _ _ _ _ _ (show ((0 : Int) ≤ 0 ∧ 0 ≤ (1 : Int)) ∧ (Q (.inl [vi 0]) (up E3 226 12 (E3 329 i), SS L 1 c2 c3 c4 c5 c6)) from ⟨(by decide), ((x2.2 E3 q4).2 ((ib_z).mp h7)).2⟩))⟩), fun h8 => ((x2.2 E3 q4).1 (Classical.not_not.mp (mt (ib_z).mpr h8)))⟩)))⟩⟩⟩), fun h12 => ⟨(by decide), (H.2.2 h12)⟩⟩⟩))
theorem r289_211 {L c2 c3 c4 c5 c6 : Nat} {D : Dt} {Q : Out → Wd → Prop} {b i : Int} (H : ((-2147483648) ≤ i + 1 ∧ i + 1 ≤ 2147483647) ∧ (wp 289 168 [vr 226, vr 273, vi b, vu, vu, vi (i + 1)] [] (D, SS L 1 c2 c3 c4 c5 c6) Q)) : wp 289 211 [vr 226, vr 273, vi b, vu, vu, vi i] [] (D, SS L 1 c2 c3 c4 c5 c6) Q := vc_wp [214] 200 _ _ _ _ _ _ (show wp 289 214 [vr 226, vr 273, vi b, vu, vu, vi (w32 (i + 1))] [] (D, SS L 1 c2 c3 c4 c5 c6) Q from w32_i (fun z1 : Int => wp 289 214 [vr 226, vr 273, vi b, vu, vu, vi z1] [] (D, SS L 1 c2 c3 c4 c5 c6) Q) (H).1 (vc_wp [168] 200 _ _ _ _ _ _ (show wp 289 168 [vr 226, vr 273, vi b, vu, vu, vi (i + 1)] [] (D, SS L 1 c2 c3 c4 c5 c6) Q from (H).2)))
theorem s289 {L c2 c3 c4 c5 c6 : Nat} {D : Dt} {Q : Out → Wd → Prop} {b : Int} (H : ∃ x : List Int × List Int × XB × XB, (MCt x.2.1 x.2.2.1 x.2.2.2 D ∧ TC x.1 x.2.1 x.2.2.1 x.2.2.2 b ∧ (∀ i : Int, lf (x.2.2.2 11) b ≤ i → i < lf (x.2.2.2 12) b → D 292 i = htF x.2.2.1 x.2.2.2 b i)) ∧ (∀ E, (fsF (tyB x.2.1 x.2.2.1 x.2.2.2 b) (lf (x.2.2.2 11) b) (lf (x.2.2.2 12) b) < 0 ∧ FrU D E ∧ tyFin x.2.1 x.2.2.1 x.2.2.2 b (tyL x.2.1 x.2.2.1 x.2.2.2 b)) → Q (.inl [vi 1]) (E, SS L 1 c2 c3 c4 c5 c6)) ∧ (∀ E, (¬ fsF (tyB x.2.1 x.2.2.1 x.2.2.2 b) (lf (x.2.2.2 11) b) (lf (x.2.2.2 12) b) < 0 ∧ FrU D E) → Q (.inl [vi 0]) (up E 226 12 (lf (x.2.2.2 3) (fsF (tyB x.2.1 x.2.2.1 x.2.2.2 b) (lf (x.2.2.2 11) b) (lf (x.2.2.2 12) b))), SS L 1 c2 c3 c4 c5 c6))) : wp 289 0 [vr 226, vr 273, vi b, vu, vu, vu] [] (D, SS L 1 c2 c3 c4 c5 c6) Q := by
  obtain ⟨⟨ns, ab, X, Y⟩, ⟨hS, hC, h292⟩, Hk, Hz⟩ := H
  dsimp only at *
  have hr := hC.1.1.rg hC.2.1.1 hC.2.1.2
  have h48 := hC.1.1.2.2.1
  have b0 := hC.2.1.1
  have b1 := hC.2.1.2
  have l12 := hC.1.1.1.2.1.2
  refine l289 hS hC h292 (fun E0 f0 hfin hV hT0 => ?_)
  have hL : ∀ (M : Nat) (i : Int) (E : Dt), (lf (Y 12) b - i).toNat = M → lf (Y 11) b ≤ i → i ≤ lf (Y 12) b → FrU D E → TM X Y b (tyL ab X Y b) (E 331) (E 332) → fsF (tyB ab X Y b) (lf (Y 11) b) (lf (Y 12) b) = fsF (tyB ab X Y b) i (lf (Y 12) b) → wp 289 168 [vr 226, vr 273, vi b, vu, vu, vi i] [] (E, SS L 1 c2 c3 c4 c5 c6) Q := by
    intro M
    induction M with
    | zero =>
      intro i E e i0 i1 f hT eq
      have q11 : E 286 b = lf (Y 12) b := by rw [f.1 286 (by decide) (by decide)]; exact hS.1.2.1.2 b b0 (by omega)
      refine r289_168 ⟨by omega, fun x => by omega, fun _ => Hk E ⟨?_, f, hfin⟩⟩
      rw [eq, fs_n (by omega)]; decide
    | succ M ih =>
      intro i E e i0 i1 f hT eq
      have i2 : i < lf (Y 12) b := by omega
      have q11 : E 286 b = lf (Y 12) b := by rw [f.1 286 (by decide) (by decide)]; exact hS.1.2.1.2 b b0 (by omega)
      have q17 : E 292 i = htF X Y b i := by rw [f.1 292 (by decide) (by decide)]; exact h292 i i0 i2
      have hb := ht_b (X := X) (Y := Y) (b := b) (i := i)
      have hTi := hT i i0 i2
      have hnx : ∀ E', FrU D E' → E' 331 = E 331 → E' 332 = E 332 → ¬ tyB ab X Y b i → wp 289 211 [vr 226, vr 273, vi b, vu, vu, vi i] [] (E', SS L 1 c2 c3 c4 c5 c6) Q := fun E' f' e' e2 hn => r289_211 ⟨by omega, ih (i + 1) E' (by omega) (by omega) (by omega) f' (by rw [e', e2]; exact hT) (eq.trans (fs_s (P := tyB ab X Y b) i2 hn))⟩
      refine r289_168 ⟨by omega, fun _ => ⟨by omega, fun g => ?_, fun g => ?_⟩, fun x => by omega⟩
      · have hT0 : tyL ab X Y b i 0 < 0 := Classical.byContradiction fun y => by have := (hTi.2 y).1; omega
        exact hnx E f rfl rfl (fun x => x.1 hT0)
      · have hT0 : ¬ tyL ab X Y b i 0 < 0 := fun y => g (hTi.1 y)
        have hq := TV.c hC hV i0 i2 hT0
        have hn := TC.n hC i0 i2 hq.1
        have eh : (((htF X Y b i).toNat : Nat) : Int) = htF X Y b i := by omega
        refine ⟨(ns, ab, X, Y, tyL ab X Y b i, (htF X Y b i).toNat), ⟨hS.f f, hC.1, ⟨by omega, by dsimp only; omega⟩, hn.1.1, by dsimp only; omega, ?_, ?_⟩, fun E3 x => ?_⟩
        · dsimp only; rw [eh]; exact q17
        · dsimp only; rw [eh]; exact fun k k0 k1 => ⟨(hTi.2 hT0).2 k k0 k1, hq.2 k k0 k1⟩
        · dsimp only at x ⊢
          rw [eh]
          refine ⟨fun y => hnx E3 (f.t x.1) x.2.1 x.2.2 (fun z => z.2 y), fun y => ⟨by omega, ?_⟩⟩
          have e5 : fsF (tyB ab X Y b) (lf (Y 11) b) (lf (Y 12) b) = i := eq.trans (fs_y (P := tyB ab X Y b) i2 ⟨hT0, y⟩)
          have q29 : E3 329 i = lf (Y 3) i := by rw [(f.t x.1).1 329 (by decide) (by decide)]; exact (hS.1.v hC.1.1 (i := i) (by omega) (by omega)).2.2.1
          rw [e5] at Hz
          rw [q29]
          exact Hz _ ⟨by omega, f.t x.1⟩
  exact hL _ _ E0 rfl (Int.le_refl _) (by omega) f0 hT0 rfl
