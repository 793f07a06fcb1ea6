/-! SafeCode's check, the whole -/
set_option maxRecDepth 100000
/-- what is wrong with the types of an instruction -/
def tyB (ab : List Int) (X Y : XB) (b i : Int) : Prop := ¬ tyL ab X Y b i 0 < 0 ∧ ¬ rtF ab X Y (tyL ab X Y b i) (12 + htF X Y b i) i
theorem r99_315 {L c4 c5 c6 : Nat} {D : Dt} {Q : Out → Wd → Prop} {b i : Int} (H : (0 ≤ b ∧ b < 48) ∧ ((i < D 211 b → (((-2147483648) ≤ i * 20 ∧ i * 20 ≤ 2147483647) ∧ ((0 ≤ i * 20 ∧ i * 20 < 20480) ∧ ((D 90 (i * 20) < 0 → (wp 99 379 [vr 87, vi b, vu, vu, vi i, vu] [] (D, SS L 1 2 2 c4 c5 c6) Q)) ∧ (¬ (D 90 (i * 20) < 0) → ((0 ≤ i ∧ i < 1024 ∧ -1 ≤ D 217 i ∧ D 217 i ≤ 8) ∧ ((∀ (z2 : Int → Int), (∀ k : Int, 0 ≤ k → k < 20 → z2 k = D 90 (i * 20 + k)) → (∃ (xr4 : List Int × List Int × XB × XB × (Int → Int) × Nat), (TN xr4.1 xr4.2.1 xr4.2.2.1 xr4.2.2.2.1 xr4.2.2.2.2.1 xr4.2.2.2.2.2 (up (sp D 91 z2) 87 6 (12 + D 217 i)) ∧ (0 ≤ i ∧ i < (xr4.2.2.2.1 0).length) ∧ hgd xr4.2.2.1 xr4.2.2.2.1 i xr4.2.2.2.2.2) ∧ ((((rtF xr4.2.1 xr4.2.2.1 xr4.2.2.2.1 xr4.2.2.2.2.1 (12 + xr4.2.2.2.2.2) i → (wp 99 379 [vr 87, vi b, vu, vu, vi i, vu] [] (up (sp D 91 z2) 87 6 (12 + D 217 i), SS L 1 2 2 c4 c5 c6) Q)) ∧ (¬ (rtF xr4.2.1 xr4.2.2.1 xr4.2.2.2.1 xr4.2.2.2.2.1 (12 + xr4.2.2.2.2.2) i) → ((0 ≤ i ∧ i < 1024) ∧ (Q (.inr 52) (up (up (up (sp D 91 z2) 87 6 (12 + D 217 i)) 51 1 4) 51 2 (D 215 i), SS L 1 2 2 c4 c5 c6)))))))))))))))) ∧ (¬ (i < D 211 b) → (Q (.inl []) (D, SS L 1 2 2 c4 c5 c6))))) : wp 99 315 [vr 87, vi b, vu, vu, vi i, vu] [] (D, SS L 1 2 2 c4 c5 c6) Q := vc_wp [321] 200 _ _ _ _ _ _ (show wp 99 321 [vr 87, vi b, vu, vu, vi i, vu] [vr 197, vi i] (D, SS L 1 2 2 c4 c5 c6) Q from vc_wp [324] 200 _ _ _ _ _ _ (show wp 99 324 [vr 87, vi b, vu, vu, vi i, vu] [vr 211, vi i] (D, SS L 1 2 2 c4 c5 c6) Q from vc_wp [333] 200 _ _ _ _ _ _ (show (0 ≤ b ∧ b < 48) ∧ ((i < D 211 b → (wp 99 333 [vr 87, vi b, vu, vu, vi i, vu] [vr 90] (D, SS L 1 2 2 c4 c5 c6) Q)) ∧ (¬ (i < D 211 b) → (Q (.inl []) (D, SS L 1 2 2 c4 c5 c6)))) from ⟨H.1, ⟨fun h14 => vc_wp [338] 200 _ _ _ _ _ _ (show wp 99 338 [vr 87, vi b, vu, vu, vi i, vu] [vi (w32 (i * 20)), vr 90] (D, SS L 1 2 2 c4 c5 c6) Q from w32_i (fun z13 : Int => wp 99 338 [vr 87, vi b, vu, vu, vi i, vu] [vi z13, vr 90] (D, SS L 1 2 2 c4 c5 c6) Q) ((H.2.1 h14)).1 (vc_wp [379] 200 _ _ _ _ _ _ (show (0 ≤ i * 20 ∧ i * 20 < 20480) ∧ ((D 90 (i * 20) < 0 → (wp 99 379 [vr 87, vi b, vu, vu, vi i, vu] [] (D, SS L 1 2 2 c4 c5 c6) Q)) ∧ (¬ (D 90 (i * 20) < 0) → (wp 102 0 [vr 87, vi i, vu] [] (D, SS L 1 2 2 c4 c5 c6) (aft wp 99 348 [vr 87, vi b, vu, vu, vi i, vu] [] Q)))) from ⟨((H.2.1 h14)).2.1, ⟨fun h11 => (((H.2.1 h14)).2.2.1 h11), fun h12 => s102 ⟨(((H.2.1 h14)).2.2.2 h12).1, (fun z2 q3 => (show wp 99 351 [vr 87, vi b, vu, vu, vi i, vu] [] (up (sp D 91 z2) 87 6 (12 + D 217 i), SS L 1 2 2 c4 c5 c6) Q from vc_wp [] 200 _ _ _ _ _ _ (show wp 106 0 [vr 87, vi i, vu, vu] [] (up (sp D 91 z2) 87 6 (12 + D 217 i), SS L 1 2 2 c4 c5 c6) (aft wp 99 354 [vr 87, vi b, vu, vu, vi i, vu] [] Q) from Exists.elim (((((H.2.1 h14)).2.2.2 h12).2 z2 q3)) fun xr4 x5 => s106 ⟨xr4, x5.1, (show wp 99 357 [vr 87, vi b, vu, vu, vi i, vu] [vi (ib (rtF xr4.2.1 xr4.2.2.1 xr4.2.2.2.1 xr4.2.2.2.2.1 (12 + xr4.2.2.2.2.2) i))] (up (sp D 91 z2) 87 6 (12 + D 217 i), SS L 1 2 2 c4 c5 c6) Q from vc_wp [364, 379] 200 _ _ _ _ _ _ (show ((ib (rtF xr4.2.1 xr4.2.2.1 xr4.2.2.2.1 xr4.2.2.2.2.1 (12 + xr4.2.2.2.2.2) i) = 0 → (wp 99 364 [vr 87, vi b, vu, vu, vi i, vu] [vr 51] (up (sp D 91 z2) 87 6 (12 + D 217 i), SS L 1 2 2 c4 c5 c6) Q)) ∧ (¬ (ib (rtF xr4.2.1 xr4.2.2.1 xr4.2.2.2.1 xr4.2.2.2.2.1 (12 + xr4.2.2.2.2.2) i) = 0) → (wp 99 379 [vr 87, vi b, vu, vu, vi i, vu] [] (up (sp D 91 z2) 87 6 (12 + D 217 i), SS L 1 2 2 c4 c5 c6) Q))) from ⟨fun h9 => vc_wp [369] 200 _ _ _ _ _ _ (show wp 99 369 [vr 87, vi b, vu, vu, vi i, vu] [vr 197, vi 4, vr 51] (up (sp D 91 z2) 87 6 (12 + D 217 i), SS L 1 2 2 c4 c5 c6) Q from vc_wp [372] 200 _ _ _ _ _ _ (show wp 99 372 [vr 87, vi b, vu, vu, vi i, vu] [vr 215, vi 4, vr 51] (up (sp D 91 z2) 87 6 (12 + D 217 i), SS L 1 2 2 c4 c5 c6) Q from vc_wp [] 200 _ _ _ _ _ _ (show (0 ≤ i ∧ i < 1024) ∧ (wp 28 0 [vr 51, vi 4, vi (D 215 i)] [] (up (sp D 91 z2) 87 6 (12 + D 217 i), SS L 1 2 2 c4 c5 c6) (aft wp 99 375 [vr 87, vi b, vu, vu, vi i, vu] [] Q)) from ⟨(x5.2.2 ((ib_z).mp h9)).1, r28_0 (show wp 99 378 [vr 87, vi b, vu, vu, vi i, vu] [vr 52] (up (up (up (sp D 91 z2) 87 6 (12 + D 217 i)) 51 1 4) 51 2 (D 215 i), SS L 1 2 2 c4 c5 c6) Q from vc_wp [] 200 _ _ _ _ _ _ (show Q (.inr 52) (up (up (up (sp D 91 z2) 87 6 (12 + D 217 i)) 51 1 4) 51 2 (D 215 i), SS L 1 2 2 c4 c5 c6) from (x5.2.2 ((ib_z).mp h9)).2))⟩))), fun h10 => (x5.2.1 (Classical.not_not.mp (mt (ib_z).mpr h10)))⟩))⟩)))⟩⟩⟩))), fun h15 => (H.2.2 h15)⟩⟩)))
theorem r99_379 {L c4 c5 c6 : Nat} {D : Dt} {Q : Out → Wd → Prop} {b i : Int} (H : ((-2147483648) ≤ i + 1 ∧ i + 1 ≤ 2147483647) ∧ (wp 99 315 [vr 87, vi b, vu, vu, vi (i + 1), vu] [] (D, SS L 1 2 2 c4 c5 c6) Q)) : wp 99 379 [vr 87, vi b, vu, vu, vi i, vu] [] (D, SS L 1 2 2 c4 c5 c6) Q := vc_wp [382] 200 _ _ _ _ _ _ (show wp 99 382 [vr 87, vi b, vu, vu, vi (w32 (i + 1)), vu] [] (D, SS L 1 2 2 c4 c5 c6) Q from w32_i (fun z1 : Int => wp 99 382 [vr 87, vi b, vu, vu, vi z1, vu] [] (D, SS L 1 2 2 c4 c5 c6) Q) (H).1 (vc_wp [315] 200 _ _ _ _ _ _ (show wp 99 315 [vr 87, vi b, vu, vu, vi (i + 1), vu] [] (D, SS L 1 2 2 c4 c5 c6) Q from (H).2)))
theorem s99 {L c4 c5 c6 : Nat} {D : Dt} {Q : Out → Wd → Prop} {b ca ce : Int} (H : ∃ x : List Int × List Int × XB × XB, (SCt x.2.1 x.2.2.1 x.2.2.2 D ∧ TC x.1 x.2.1 x.2.2.1 x.2.2.2 b ∧ CaR x.2.2.2 b ca ce ∧ (∀ i : Int, lf (x.2.2.2 11) b ≤ i → i < lf (x.2.2.2 12) b → D 217 i = htF x.2.2.1 x.2.2.2 b i)) ∧ (∀ E, (fsF (tyB x.2.1 x.2.2.1 x.2.2.2 b) (lf (x.2.2.2 11) b) (lf (x.2.2.2 12) b) < 0 ∧ FrE D E ∧ tyFin x.2.1 x.2.2.1 x.2.2.2 b (tyL x.2.1 x.2.2.1 x.2.2.2 b)) → Q (.inl []) (E, SS L 1 2 2 c4 c5 c6)) ∧ (∀ E, (¬ fsF (tyB x.2.1 x.2.2.1 x.2.2.2 b) (lf (x.2.2.2 11) b) (lf (x.2.2.2 12) b) < 0 ∧ FrE D E) → Q (.inr 52) (up (up E 51 1 4) 51 2 (lf (x.2.2.2 3) (fsF (tyB x.2.1 x.2.2.1 x.2.2.2 b) (lf (x.2.2.2 11) b) (lf (x.2.2.2 12) b))), SS L 1 2 2 c4 c5 c6))) : wp 99 0 [vr 87, vi b, vi ca, vi ce, vu, vu] [] (D, SS L 1 2 2 c4 c5 c6) Q := by
  obtain ⟨⟨ns, ab, X, Y⟩, ⟨hS, hC, hca, h217⟩, Hk, Hz⟩ := H
  dsimp only at *
  have hr := hC.1.1.rg hC.2.1.1 hC.2.1.2
  have h48 := hC.1.1.2.2.1
  have b0 := hC.2.1.1
  have b1 := hC.2.1.2
  have l12 := hC.1.1.1.2.1.2
  refine l99 hS hC hca h217 (fun E0 f0 hfin hV hT0 => ?_)
  have hL : ∀ (M : Nat) (i : Int) (E : Dt), (lf (Y 12) b - i).toNat = M → lf (Y 11) b ≤ i → i ≤ lf (Y 12) b → FrE D E → TR (lf (Y 11) b) (lf (Y 12) b) (tyL ab X Y b) (E 90) → fsF (tyB ab X Y b) (lf (Y 11) b) (lf (Y 12) b) = fsF (tyB ab X Y b) i (lf (Y 12) b) → wp 99 315 [vr 87, vi b, vu, vu, vi i, vu] [] (E, SS L 1 2 2 c4 c5 c6) Q := by
    intro M
    induction M with
    | zero =>
      intro i E e i0 i1 f hT eq
      have q11 : E 211 b = lf (Y 12) b := by rw [f.1 211 (by decide) (by decide) (by decide)]; exact hS.1.2.1.2 b b0 (by omega)
      refine r99_315 ⟨by omega, fun x => by omega, fun _ => Hk E ⟨?_, f, hfin⟩⟩
      rw [eq, fs_n (by omega)]; decide
    | succ M ih =>
      intro i E e i0 i1 f hT eq
      have i2 : i < lf (Y 12) b := by omega
      have q11 : E 211 b = lf (Y 12) b := by rw [f.1 211 (by decide) (by decide) (by decide)]; exact hS.1.2.1.2 b b0 (by omega)
      have q17 : E 217 i = htF X Y b i := by rw [f.1 217 (by decide) (by decide) (by decide)]; exact h217 i i0 i2
      have q15 : E 215 i = lf (Y 3) i := by rw [f.1 215 (by decide) (by decide) (by decide)]; exact hS.1.1.2.2.2.2.1 i (by omega) (by have := hC.1.1.1.1.1.2.2.1; omega)
      have hb := ht_b (X := X) (Y := Y) (b := b) (i := i)
      have e90 : E 90 (i * 20) = tyL ab X Y b i 0 := by
        have := hT i 0 i0 i2 (by decide) (by decide)
        rw [show i * 20 + 0 = i * 20 by omega] at this
        exact this
      have hnx : ∀ E', FrE D E' → E' 90 = E 90 → ¬ tyB ab X Y b i → wp 99 379 [vr 87, vi b, vu, vu, vi i, vu] [] (E', SS L 1 2 2 c4 c5 c6) Q := fun E' f' e' hn => r99_379 ⟨by omega, ih (i + 1) E' (by omega) (by omega) (by omega) f' (by rw [e']; exact hT) (eq.trans (fs_s (P := tyB ab X Y b) i2 hn))⟩
      refine r99_315 ⟨by omega, fun _ => ⟨by omega, by omega, ?_⟩, fun x => by omega⟩
      rw [e90, q17, q15]
      refine ⟨fun g => hnx E f rfl (fun x => x.1 g), fun g => ⟨by omega, fun z hz => ?_⟩⟩
      have hq := TV.c hC hV i0 i2 g
      have hn := TC.n hC i0 i2 hq.1
      have eh : (((htF X Y b i).toNat : Nat) : Int) = htF X Y b i := by omega
      have f2 : FrE D (up (sp E 91 z) 87 6 (12 + htF X Y b i)) := (f.s (Or.inr rfl)).u (Or.inr (Or.inr ⟨rfl, Or.inl rfl⟩))
      have e902 : up (sp E 91 z) 87 6 (12 + htF X Y b i) 90 = E 90 := by rw [ub_a (by decide), sp_a (by decide)]
      refine ⟨(ns, ab, X, Y, tyL ab X Y b i, (htF X Y b i).toNat), ⟨⟨hS.p f2.p, hC.1, by dsimp only; omega, ?_, fun k k0 k1 => ?_, ?_⟩, ⟨by omega, by dsimp only; omega⟩, hn.1.1⟩, ?_⟩
      · rw [ub_s]; dsimp only; rw [eh]
      · rw [ub_a (by decide), sp_s, hz k k0 k1]; exact hT i k i0 i2 k0 k1
      · dsimp only; rw [eh]; exact hq.2
      · dsimp only
        rw [eh]
        refine ⟨fun y => hnx _ f2 e902 (fun x => x.2 y), fun y => ⟨by omega, ?_⟩⟩
        have e5 : fsF (tyB ab X Y b) (lf (Y 11) b) (lf (Y 12) b) = i := eq.trans (fs_y (P := tyB ab X Y b) i2 ⟨g, y⟩)
        rw [e5] at Hz
        exact Hz _ ⟨by omega, f2⟩
  exact hL _ _ E0 rfl (Int.le_refl _) (by omega) f0 hT0 rfl
/-- a body's fault of heights or types -/
noncomputable def bfa (ab : List Int) (X Y : XB) (b : Int) : PR := cit (fsF (htB X Y b) (lf (Y 11) b) (lf (Y 12) b) < 0) (cit (fsF (tyB ab X Y b) (lf (Y 11) b) (lf (Y 12) b) < 0) (true, 0) (false, lf (Y 3) (fsF (tyB ab X Y b) (lf (Y 11) b) (lf (Y 12) b)))) (false, lf (Y 3) (fsF (htB X Y b) (lf (Y 11) b) (lf (Y 12) b)))
noncomputable def chR (ab : List Int) (X Y : XB) : Nat → Int → PR
  | 0, _ => (true, 0)
  | n + 1, b => cit ((bfa ab X Y b).1 = true) (chR ab X Y n (b + 1)) (bfa ab X Y b)
/-- all that is known of a checked body -/
def BOk (ab : List Int) (X Y : XB) (b : Int) : Prop := fsF (htB X Y b) (lf (Y 11) b) (lf (Y 12) b) < 0 ∧ fsF (tyB ab X Y b) (lf (Y 11) b) (lf (Y 12) b) < 0 ∧ tyFin ab X Y b (tyL ab X Y b)
theorem ht_no {X Y : XB} {b : Int} (h0 : 0 ≤ lf (Y 11) b) (h : fsF (htB X Y b) (lf (Y 11) b) (lf (Y 12) b) < 0) : ∀ i : Int, lf (Y 11) b ≤ i → i < lf (Y 12) b → ¬ htB X Y b i := fun i i0 i1 => fs_no (P := htB X Y b) (k := lf (Y 11) b) (n := lf (Y 12) b) h0 h i i0 i1
theorem r94_0 {L c3 c4 c5 c6 : Nat} {D : Dt} {Q : Out → Wd → Prop} (H : wp 94 9 [vr 87, vr 197, vi 0, vi 0, vu] [] (D, SS L 1 2 2 c4 c5 c6) Q) : wp 94 0 [vr 87, vr 197, vu, vu, vu] [] (D, SS L 1 2 c3 c4 c5 c6) Q := vc_wp [5] 200 _ _ _ _ _ _ (show wp 94 5 [vr 87, vr 197, vu, vu, vu] [] (D, urf (SS L 1 2 c3 c4 c5 c6).1 87 1 197, (SS L 1 2 c3 c4 c5 c6).2) Q from sx_32 (fun S => wp 94 5 [vr 87, vr 197, vu, vu, vu] [] (D, S) Q) (vc_wp [9] 200 _ _ _ _ _ _ (show wp 94 9 [vr 87, vr 197, vi 0, vi 0, vu] [] (D, SS L 1 2 2 c4 c5 c6) Q from H)))
theorem r94_9 {L c4 c5 c6 : Nat} {D : Dt} {Q : Out → Wd → Prop} {c b : Int} (H : ((b < D 197 7 → (wp 94 23 [vr 87, vr 197, vi c, vi b, vi c] [] (D, SS L 1 2 2 c4 c5 c6) Q)) ∧ (¬ (b < D 197 7) → (Q (.inl []) (D, SS L 1 2 2 c4 c5 c6))))) : wp 94 9 [vr 87, vr 197, vi c, vi b, vu] [] (D, SS L 1 2 2 c4 c5 c6) Q := vc_wp [14] 200 _ _ _ _ _ _ (show wp 94 14 [vr 87, vr 197, vi c, vi b, vu] [vr 197, vi b] (D, SS L 1 2 2 c4 c5 c6) Q from vc_wp [23] 200 _ _ _ _ _ _ (show ((b < D 197 7 → (wp 94 23 [vr 87, vr 197, vi c, vi b, vi c] [] (D, SS L 1 2 2 c4 c5 c6) Q)) ∧ (¬ (b < D 197 7) → (Q (.inl []) (D, SS L 1 2 2 c4 c5 c6)))) from ⟨fun h1 => (H.1 h1), fun h2 => (H.2 h2)⟩))
theorem r94_23 {L c4 c5 c6 : Nat} {D : Dt} {Q : Out → Wd → Prop} {c b be : Int} (H : ((c < D 197 26 → ((0 ≤ c ∧ c < 64) ∧ ((0 ≤ D 219 c ∧ D 219 c < 1024) ∧ ((D 216 (D 219 c) = b → (((-2147483648) ≤ c + 1 ∧ c + 1 ≤ 2147483647) ∧ (wp 94 23 [vr 87, vr 197, vi (c + 1), vi b, vi be] [] (D, SS L 1 2 2 c4 c5 c6) Q))) ∧ (¬ (D 216 (D 219 c) = b) → (wp 94 61 [vr 87, vr 197, vi c, vi b, vi be] [] (D, SS L 1 2 2 c4 c5 c6) Q)))))) ∧ (¬ (c < D 197 26) → (wp 94 61 [vr 87, vr 197, vi c, vi b, vi be] [] (D, SS L 1 2 2 c4 c5 c6) Q)))) : wp 94 23 [vr 87, vr 197, vi c, vi b, vi be] [] (D, SS L 1 2 2 c4 c5 c6) Q := vc_wp [28] 200 _ _ _ _ _ _ (show wp 94 28 [vr 87, vr 197, vi c, vi b, vi be] [vr 197, vi c] (D, SS L 1 2 2 c4 c5 c6) Q from vc_wp [38, 61] 200 _ _ _ _ _ _ (show ((c < D 197 26 → (wp 94 38 [vr 87, vr 197, vi c, vi b, vi be] [vr 197] (D, SS L 1 2 2 c4 c5 c6) Q)) ∧ (¬ (c < D 197 26) → (wp 94 61 [vr 87, vr 197, vi c, vi b, vi be] [] (D, SS L 1 2 2 c4 c5 c6) Q))) from ⟨fun h4 => vc_wp [41] 200 _ _ _ _ _ _ (show wp 94 41 [vr 87, vr 197, vi c, vi b, vi be] [vr 216] (D, SS L 1 2 2 c4 c5 c6) Q from vc_wp [45] 200 _ _ _ _ _ _ (show wp 94 45 [vr 87, vr 197, vi c, vi b, vi be] [vr 197, vr 216] (D, SS L 1 2 2 c4 c5 c6) Q from vc_wp [48] 200 _ _ _ _ _ _ (show wp 94 48 [vr 87, vr 197, vi c, vi b, vi be] [vr 219, vr 216] (D, SS L 1 2 2 c4 c5 c6) Q from vc_wp [58, 61] 200 _ _ _ _ _ _ (show (0 ≤ c ∧ c < 64) ∧ ((0 ≤ D 219 c ∧ D 219 c < 1024) ∧ ((D 216 (D 219 c) = b → (wp 94 58 [vr 87, vr 197, vi (w32 (c + 1)), vi b, vi be] [] (D, SS L 1 2 2 c4 c5 c6) Q)) ∧ (¬ (D 216 (D 219 c) = b) → (wp 94 61 [vr 87, vr 197, vi c, vi b, vi be] [] (D, SS L 1 2 2 c4 c5 c6) Q)))) from ⟨(H.1 h4).1, ⟨(H.1 h4).2.1, ⟨fun h2 => w32_i (fun z1 : Int => wp 94 58 [vr 87, vr 197, vi z1, vi b, vi be] [] (D, SS L 1 2 2 c4 c5 c6) Q) (((H.1 h4).2.2.1 h2)).1 (vc_wp [23] 200 _ _ _ _ _ _ (show wp 94 23 [vr 87, vr 197, vi (c + 1), vi b, vi be] [] (D, SS L 1 2 2 c4 c5 c6) Q from (((H.1 h4).2.2.1 h2)).2)), fun h3 => ((H.1 h4).2.2.2 h3)⟩⟩⟩)))), fun h5 => (H.2 h5)⟩))
theorem r94_61 {L c4 c5 c6 : Nat} {D : Dt} {Q : Out → Wd → Prop} {c b be : Int} (H : ∃ (xk1 : List Int × List Int × XB × XB), (SCk xk1.2.2.1 xk1.2.2.2 D ∧ PH xk1.1 xk1.2.1 xk1.2.2.1 xk1.2.2.2 ∧ (0 ≤ b ∧ b < (xk1.2.2.1 4).length) ∧ CaR xk1.2.2.2 b be c) ∧ ((∀ (E3 : Dt), ((fsF (htB xk1.2.2.1 xk1.2.2.2 b) (lf (xk1.2.2.2 11) b) (lf (xk1.2.2.2 12) b)) < 0 ∧ FrP D E3 ∧ (∀ i : Int, lf (xk1.2.2.2 11) b ≤ i → i < lf (xk1.2.2.2 12) b → E3 217 i = htF xk1.2.2.1 xk1.2.2.2 b i) ∧ (∀ i : Int, ¬ (lf (xk1.2.2.2 11) b ≤ i ∧ i < lf (xk1.2.2.2 12) b) → E3 217 i = D 217 i)) → (∃ (xk5 : List Int × List Int × XB × XB), (SCt xk5.2.1 xk5.2.2.1 xk5.2.2.2 E3 ∧ TC xk5.1 xk5.2.1 xk5.2.2.1 xk5.2.2.2 b ∧ CaR xk5.2.2.2 b be c ∧ (∀ i : Int, lf (xk5.2.2.2 11) b ≤ i → i < lf (xk5.2.2.2 12) b → E3 217 i = htF xk5.2.2.1 xk5.2.2.2 b i)) ∧ ((∀ (E7 : Dt), ((fsF (tyB xk5.2.1 xk5.2.2.1 xk5.2.2.2 b) (lf (xk5.2.2.2 11) b) (lf (xk5.2.2.2 12) b)) < 0 ∧ FrE E3 E7 ∧ tyFin xk5.2.1 xk5.2.2.1 xk5.2.2.2 b (tyL xk5.2.1 xk5.2.2.1 xk5.2.2.2 b)) → (((-2147483648) ≤ b + 1 ∧ b + 1 ≤ 2147483647) ∧ (wp 94 9 [vr 87, vr 197, vi c, vi (b + 1), vu] [] (E7, SS L 1 2 2 c4 c5 c6) Q))) ∧ (∀ (E10 : Dt), (¬ (fsF (tyB xk5.2.1 xk5.2.2.1 xk5.2.2.2 b) (lf (xk5.2.2.2 11) b) (lf (xk5.2.2.2 12) b)) < 0 ∧ FrE E3 E10) → (Q (.inr 52) (up (up E10 51 1 4) 51 2 (lf (xk5.2.2.2 3) (fsF (tyB xk5.2.1 xk5.2.2.1 xk5.2.2.2 b) (lf (xk5.2.2.2 11) b) (lf (xk5.2.2.2 12) b))), SS L 1 2 2 c4 c5 c6)))))) ∧ (∀ (E12 : Dt), (¬ (fsF (htB xk1.2.2.1 xk1.2.2.2 b) (lf (xk1.2.2.2 11) b) (lf (xk1.2.2.2 12) b)) < 0 ∧ FrP D E12) → (Q (.inr 52) (up (up E12 51 1 4) 51 2 (lf (xk1.2.2.2 3) (fsF (htB xk1.2.2.1 xk1.2.2.2 b) (lf (xk1.2.2.2 11) b) (lf (xk1.2.2.2 12) b))), SS L 1 2 2 c4 c5 c6))))) : wp 94 61 [vr 87, vr 197, vi c, vi b, vi be] [] (D, SS L 1 2 2 c4 c5 c6) Q := vc_wp [] 200 _ _ _ _ _ _ (show wp 95 0 [vr 87, vi b, vi be, vi c, vu, vu, vu] [] (D, SS L 1 2 2 c4 c5 c6) (aft wp 94 66 [vr 87, vr 197, vi c, vi b, vi be] [] Q) from Exists.elim (H) fun xk1 x2 => s95 ⟨xk1, x2.1, (fun E3 q4 => (show wp 94 69 [vr 87, vr 197, vi c, vi b, vi be] [] (E3, SS L 1 2 2 c4 c5 c6) Q from vc_wp [] 200 _ _ _ _ _ _ (show wp 99 0 [vr 87, vi b, vi be, vi c, vu, vu] [] (E3, SS L 1 2 2 c4 c5 c6) (aft wp 94 74 [vr 87, vr 197, vi c, vi b, vi be] [] Q) from Exists.elim ((x2.2.1 E3 q4)) fun xk5 x6 => s99 ⟨xk5, x6.1, (fun E7 q8 => (show wp 94 77 [vr 87, vr 197, vi c, vi b, vi be] [] (E7, SS L 1 2 2 c4 c5 c6) Q from vc_wp [80] 200 _ _ _ _ _ _ (show wp 94 80 [vr 87, vr 197, vi c, vi (w32 (b + 1)), vi be] [] (E7, SS L 1 2 2 c4 c5 c6) Q from w32_i (fun z9 : Int => wp 94 80 [vr 87, vr 197, vi c, vi z9, vi be] [] (E7, SS L 1 2 2 c4 c5 c6) Q) ((x6.2.1 E7 q8)).1 (vc_wp [9] 200 _ _ _ _ _ _ (show wp 94 9 [vr 87, vr 197, vi c, vi (b + 1), vi be] [] (E7, SS L 1 2 2 c4 c5 c6) Q from wp_d (Lle.k rfl (Lle.k rfl (Lle.k rfl (Lle.k rfl (Lle.v rfl (Lle.nil)))))) (((x6.2.1 E7 q8)).2)))))), (fun E10 q11 => (show Q (.inr 52) (up (up E10 51 1 4) 51 2 (lf (xk5.2.2.2 3) (fsF (tyB xk5.2.1 xk5.2.2.1 xk5.2.2.2 b) (lf (xk5.2.2.2 11) b) (lf (xk5.2.2.2 12) b))), SS L 1 2 2 c4 c5 c6) from (x6.2.2 E10 q11)))⟩))), (fun E12 q13 => (show Q (.inr 52) (up (up E12 51 1 4) 51 2 (lf (xk1.2.2.2 3) (fsF (htB xk1.2.2.1 xk1.2.2.2 b) (lf (xk1.2.2.2 11) b) (lf (xk1.2.2.2 12) b))), SS L 1 2 2 c4 c5 c6) from (x2.2.2 E12 q13)))⟩)
theorem s94 {L c3 c4 c5 c6 : Nat} {D : Dt} {Q : Out → Wd → Prop} (H : ∃ x : List Int × List Int × XB × XB, (SCt x.2.1 x.2.2.1 x.2.2.2 D ∧ PT x.1 x.2.1 x.2.2.1 x.2.2.2) ∧ (∀ E, ((chR x.2.1 x.2.2.1 x.2.2.2 (x.2.2.1 4).length 0).1 = true ∧ FrP D E ∧ (∀ b : Int, 0 ≤ b → b < (x.2.2.1 4).length → BOk x.2.1 x.2.2.1 x.2.2.2 b ∧ ∀ i : Int, lf (x.2.2.2 11) b ≤ i → i < lf (x.2.2.2 12) b → E 217 i = htF x.2.2.1 x.2.2.2 b i)) → Q (.inl []) (E, SS L 1 2 2 c4 c5 c6)) ∧ (∀ E, (¬ (chR x.2.1 x.2.2.1 x.2.2.2 (x.2.2.1 4).length 0).1 = true ∧ FrP D E) → Q (.inr 52) (up (up E 51 1 4) 51 2 (chR x.2.1 x.2.2.1 x.2.2.2 (x.2.2.1 4).length 0).2, SS L 1 2 2 c4 c5 c6))) : wp 94 0 [vr 87, vr 197, vu, vu, vu] [] (D, SS L 1 2 c3 c4 c5 c6) Q := by
  obtain ⟨⟨ns, ab, X, Y⟩, ⟨hS, hP⟩, Hk, Hz⟩ := H
  dsimp only at *
  have h48 := hP.1.2.2.1
  have h64 := hP.1.1.1.2.2.2.2
  have hl6 := hP.1.1.1.2.1
  have hcat : ∀ k : Int, 0 ≤ k → k < (Y 6).length → (0 ≤ lf (Y 6) k ∧ lf (Y 6) k < (Y 0).length) ∧ lf (Y 4) (lf (Y 6) k) = lf (Y 10) k := fun k k0 k1 => by
    have h1 := hP.1.1.2.2.2.1 k k0 k1
    have h2 := hP.1.1.2.2.2.2.2 _ h1.1.1 h1.1.2
    have h3 := h1.2.1
    have h4 := h1.2.2.1
    have h5 := h1.2.2.2.1
    exact ⟨by omega, h2.2.2 _ h3 (by omega)⟩
  have hsort := hP.1.1.2.2.2.2.1
  have hB : ∀ (M : Nat) (b : Nat) (c : Int) (E : Dt), (X 4).length - b = M → b ≤ (X 4).length → (0 ≤ c ∧ c ≤ (Y 6).length) → (∀ k : Int, 0 ≤ k → k < (Y 6).length → (k < c ↔ lf (Y 10) k < b)) → FrP D E → (∀ q : Int, 0 ≤ q → q < b → BOk ab X Y q ∧ ∀ i : Int, lf (Y 11) q ≤ i → i < lf (Y 12) q → E 217 i = htF X Y q i) → chR ab X Y (X 4).length 0 = chR ab X Y M b → wp 94 9 [vr 87, vr 197, vi c, vi b, vu] [] (E, SS L 1 2 2 c4 c5 c6) Q := by
    intro M
    induction M with
    | zero =>
      intro b c E e hb hc hcb f hq er
      have h7 : E 197 7 = (X 4).length := by rw [f.1 197 (by decide) (by decide)]; exact hS.1.2.2.2.2
      refine r94_9 ⟨fun g => by omega, fun _ => Hk E ⟨by rw [er]; rfl, f, fun q q0 q1 => hq q q0 (by omega)⟩⟩
    | succ M ih =>
      intro b c E e hb hc hcb f hq er
      have h7 : E 197 7 = (X 4).length := by rw [f.1 197 (by decide) (by decide)]; exact hS.1.2.2.2.2
      have e26 : E 197 26 = (Y 6).length := by rw [f.1 197 (by decide) (by decide)]; exact hS.1.1.1.2.2
      have hbb : (0 : Int) ≤ b ∧ (b : Int) < (X 4).length := by omega
      have hrg := hP.1.rg hbb.1 hbb.2
      have hSE := hS.p f
      have er : chR ab X Y (X 4).length 0 = cit ((bfa ab X Y b).1 = true) (chR ab X Y M ((b : Int) + 1)) (bfa ab X Y b) := er
      -- behind the catches
      have h61 : ∀ ce : Int, CaR Y b c ce → (∀ k : Int, 0 ≤ k → k < (Y 6).length → (k < ce ↔ lf (Y 10) k < (b : Int) + 1)) → wp 94 61 [vr 87, vr 197, vi ce, vi b, vi c] [] (E, SS L 1 2 2 c4 c5 c6) Q := by
        intro ce hca hce
        refine r94_61 ⟨(ns, ab, X, Y), ⟨hSE.1, hP.1, hbb, hca⟩, fun E2 x => ?_, fun E2 x => ?_⟩
        · dsimp only at x
          have hC : TC ns ab X Y b := ⟨hP, hbb, ht_no hrg.1 x.1⟩
          refine ⟨(ns, ab, X, Y), ⟨hSE.p x.2.1, hC, hca, x.2.2.1⟩, fun E3 y => ⟨by omega, ?_⟩, fun E3 y => ?_⟩
          · dsimp only at y
            rw [show bfa ab X Y b = (true, 0) from (cit_t x.1).trans (cit_t y.1), cit_t rfl] at er
            have := ih (b + 1) ce E3 (by omega) (by omega) ⟨by have := hca.1; omega, hca.1.2.2⟩ (by rw [show ((b + 1 : Nat) : Int) = (b : Int) + 1 by omega]; exact hce) ((f.t x.2.1).t y.2.1.p) (fun q q0 q1 => ?_) (by rw [show ((b + 1 : Nat) : Int) = (b : Int) + 1 by omega]; exact er)
            · rw [show ((b + 1 : Nat) : Int) = (b : Int) + 1 by omega] at this
              exact this
            · have e3 : ∀ i, E3 217 i = E2 217 i := fun i => congrFun (y.2.1.1 217 (by decide) (by decide) (by decide)) i
              by_cases eq : q = b
              · rw [eq]
                exact ⟨⟨x.1, y.1, y.2.2⟩, fun i i0 i1 => (e3 i).trans (x.2.2.1 i i0 i1)⟩
              · have hqq := hq q q0 (by omega)
                refine ⟨hqq.1, fun i i0 i1 => (e3 i).trans ((x.2.2.2 i ?_).trans (hqq.2 i i0 i1))⟩
                intro hin
                have h1 := (hP.1.1.2.2.2.2.2 q q0 (by omega)).2.2 i i0 i1
                have h2 := (hP.1.1.2.2.2.2.2 b hbb.1 hbb.2).2.2 i hin.1 hin.2
                omega
          · dsimp only at y
            rw [show bfa ab X Y b = _ from (cit_t x.1).trans (cit_f y.1), cit_f (fun h => by cases h)] at er
            have := Hz E3 ⟨by rw [er]; exact (fun h => by cases h), (f.t x.2.1).t y.2.p⟩
            rw [er] at this
            exact this
        · dsimp only at x
          rw [show bfa ab X Y b = _ from cit_f x.1, cit_f (fun h => by cases h)] at er
          have := Hz E2 ⟨by rw [er]; exact (fun h => by cases h), f.t x.2⟩
          rw [er] at this
          exact this
      have h23 : ∀ (N : Nat) (k : Int), ((Y 6).length - k).toNat = N → c ≤ k → k ≤ (Y 6).length → (∀ q : Int, c ≤ q → q < k → lf (Y 10) q = b) → wp 94 23 [vr 87, vr 197, vi k, vi b, vi c] [] (E, SS L 1 2 2 c4 c5 c6) Q := by
        intro N
        have hend : ∀ k : Int, c ≤ k → k ≤ (Y 6).length → (∀ q : Int, c ≤ q → q < k → lf (Y 10) q = b) → (k < (Y 6).length → ¬ lf (Y 10) k = b) → CaR Y b c k ∧ ∀ q : Int, 0 ≤ q → q < (Y 6).length → (q < k ↔ lf (Y 10) q < (b : Int) + 1) := fun k k0 k1 hk hne => by
          have hbig : ∀ q : Int, k ≤ q → q < (Y 6).length → (b : Int) < lf (Y 10) q := fun q q0 q1 => by
            have hkn := hne (by omega)
            have hck := (hcb k (by omega) (by omega))
            have h1 : (b : Int) < lf (Y 10) k := by
              have : ¬ lf (Y 10) k < b := fun y => by have := hck.mpr y; omega
              omega
            by_cases eq : q = k
            · rw [eq]; exact h1
            · have := hsort k q (by omega) (by omega) q1
              omega
          refine ⟨⟨⟨hc.1, k0, k1⟩, fun q q0 q1 => ⟨fun y => ?_, fun y => hk q y.1 y.2⟩⟩, fun q q0 q1 => ⟨fun y => ?_, fun y => ?_⟩⟩
          · refine ⟨?_, ?_⟩
            · have := hcb q q0 q1
              by_cases z : c ≤ q
              · exact z
              · have := this.mp (by omega); omega
            · by_cases z : q < k
              · exact z
              · have := hbig q (by omega) q1; omega
          · by_cases z : q < c
            · have := (hcb q q0 q1).mp z; omega
            · have := hk q (by omega) y; omega
          · by_cases z : q < k
            · exact z
            · have := hbig q (by omega) q1; omega
        induction N with
        | zero =>
          intro k en k0 k1 hk
          obtain ⟨h1, h2⟩ := hend k k0 k1 hk (fun y => by omega)
          exact r94_23 ⟨fun g => by omega, fun _ => h61 k h1 h2⟩
        | succ N ihN =>
          intro k en k0 k1 hk
          have hkc := hcat k (by omega) (by omega)
          have hr10 := hP.1.1.1.2.2.1
          have e219 : E 219 k = lf (Y 6) k := by rw [f.1 219 (by decide) (by decide)]; exact hS.1.1.2.2.2.2.2.2.2.1 k (by omega) (by omega)
          have e216 : E 216 (lf (Y 6) k) = lf (Y 4) (lf (Y 6) k) := by rw [f.1 216 (by decide) (by decide)]; exact hS.1.1.2.2.2.2.2.1 _ hkc.1.1 (by have := hP.1.1.1.1.2.2.2; omega)
          refine r94_23 ⟨fun _ => ?_, fun g => by omega⟩
          rw [e219, e216, hkc.2]
          refine ⟨by omega, by omega, fun g => ⟨by omega, ihN (k + 1) (by omega) (by omega) (by omega) (fun q q0 q1 => ?_)⟩, fun g => ?_⟩
          · by_cases eq : q = k
            · rw [eq]; exact g
            · exact hk q q0 (by omega)
          · obtain ⟨h1, h2⟩ := hend k k0 k1 hk (fun _ => g)
            exact h61 k h1 h2
      exact r94_9 ⟨fun _ => h23 _ c rfl (Int.le_refl _) hc.2 (fun q q0 q1 => by omega), fun g => by omega⟩
  have := hB _ 0 0 D rfl (by omega) ⟨Int.le_refl _, by omega⟩ (fun k k0 k1 => by
    have := (hP.1.1.2.2.2.1 k k0 k1).1.1
    constructor
    · intro y; omega
    · intro y
      have y : lf (Y 10) k < ((0 : Nat) : Int) := y
      omega) (FrP.r D) (fun q q0 q1 => by
    have q1 : q < ((0 : Nat) : Int) := q1
    omega) rfl
  exact r94_0 this
