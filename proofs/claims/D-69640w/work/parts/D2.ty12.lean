/-! types: the model's typesOn -/
set_option maxRecDepth 100000
theorem TyG.o {f e : Int} {T0 T T' : TyT} {mo m : Int} (h : TyG f e T0 0 T mo) (h2 : TyG f e T 0 T' m) : ∀ m' : Int, (m = 0 → m' = mo) → (¬ m = 0 → m' = 1) → TyG f e T0 0 T' m' := by
  intro m' e1 e2
  refine ⟨fun i k i0 i1 k0 k1 => Nat.le_trans (h.1 i k i0 i1 k0 k1) (h2.1 i k i0 i1 k0 k1), ?_⟩
  rcases h2.2 with ⟨b1, b2⟩ | ⟨b1, i, k, b2, b3⟩
  · rw [e1 b1]
    rcases h.2 with ⟨a1, a2⟩ | ⟨a1, i, k, a2, a3⟩
    · exact Or.inl ⟨a1, fun i k i0 i1 k0 k1 => (b2 i k i0 i1 k0 k1).trans (a2 i k i0 i1 k0 k1)⟩
    · refine Or.inr ⟨a1, i, k, a2, ?_⟩
      rw [b2 i k a2.1 a2.2.1 a2.2.2.1 a2.2.2.2]; exact a3
  · rw [e2 (by omega)]
    exact Or.inr ⟨rfl, i, k, b2, Nat.lt_of_le_of_lt (h.1 i k b2.1 b2.2.1 b2.2.2.1 b2.2.2.2) b3⟩
theorem r290_0 {L c2 c3 c4 c5 c6 : Nat} {D : Dt} {Q : Out → Wd → Prop} {i : Int} (H : wp 290 5 [vr 226, vr 273, vi i, vi 0, vi 0] [] (D, SS L 1 c2 c3 c4 c5 c6) Q) : wp 290 0 [vr 226, vr 273, vi i, vu, vu] [] (D, SS L 1 c2 c3 c4 c5 c6) Q := vc_wp [5] 200 _ _ _ _ _ _ (show wp 290 5 [vr 226, vr 273, vi i, vi 0, vi 0] [] (D, SS L 1 c2 c3 c4 c5 c6) Q from H)
theorem r290_5 {L c2 c3 c4 c5 c6 : Nat} {D : Dt} {Q : Out → Wd → Prop} {i mo kc : Int} (H : ((kc < D 273 5 → ((0 ≤ kc ∧ kc < 64 ∧ 0 ≤ i ∧ i < 1024) ∧ ((((D 294 kc = D 291 i ∧ D 295 kc ≤ i ∧ i < D 296 kc → ((0 ≤ i ∧ i < 1024 ∧ -1 ≤ D 292 i ∧ D 292 i ≤ 8) ∧ ((∀ (z4 : Int → Int), (∀ k : Int, 0 ≤ k → k < 20 → z4 k = D 332 (i * 20 + k)) → ((0 ≤ kc ∧ kc < 64) ∧ (((-2147483648) ≤ 8 + (D 298 kc) ∧ 8 + (D 298 kc) ≤ 2147483647) ∧ ((0 ≤ kc ∧ kc < 64) ∧ (∃ (xz6 : List Int × List Int × XB × XB × Int × TyT × (Int → Int)), (ABp (D 274) xz6.2.1 ∧ TC xz6.1 xz6.2.1 xz6.2.2.1 xz6.2.2.2.1 xz6.2.2.2.2.1 ∧ TV xz6.2.1 xz6.2.2.1 xz6.2.2.2.1 xz6.2.2.2.2.1 xz6.2.2.2.2.2.1 ∧ TM xz6.2.2.1 xz6.2.2.2.1 xz6.2.2.2.2.1 xz6.2.2.2.2.2.1 (D 331) (D 332) ∧ (lf (xz6.2.2.2.1 11) xz6.2.2.2.2.1 ≤ (D 297 kc) ∧ (D 297 kc) < lf (xz6.2.2.2.1 12) xz6.2.2.2.2.1) ∧ D 292 (D 297 kc) = htF xz6.2.2.1 xz6.2.2.2.1 xz6.2.2.2.2.1 (D 297 kc) ∧ 0 ≤ htF xz6.2.2.1 xz6.2.2.2.1 xz6.2.2.2.2.1 (D 297 kc) ∧ (∀ k : Int, 0 ≤ k → k < 12 + htF xz6.2.2.1 xz6.2.2.2.1 xz6.2.2.2.2.1 (D 297 kc) → (up (up (sp D 333 z4) 226 25 (12 + D 292 i)) 333 12 (8 + (D 298 kc))) 333 k = mT (xz6.2.2.2.2.2.2 k) ∧ tyS (8 + xz6.2.1.length) (xz6.2.2.2.2.2.2 k))) ∧ ((∀ (E8 : Dt) (m9 : Int), ((m9 = 0 ∨ m9 = 1) ∧ FrS (up (up (sp D 333 z4) 226 25 (12 + D 292 i)) 333 12 (8 + (D 298 kc))) E8 ∧ TM xz6.2.2.1 xz6.2.2.2.1 xz6.2.2.2.2.1 (jnT xz6.2.1 xz6.2.2.2.2.2.1 (D 297 kc) xz6.2.2.2.2.2.2 (12 + htF xz6.2.2.1 xz6.2.2.2.1 xz6.2.2.2.2.1 (D 297 kc))) (E8 331) (E8 332) ∧ TyG (lf (xz6.2.2.2.1 11) xz6.2.2.2.2.1) (lf (xz6.2.2.2.1 12) xz6.2.2.2.2.1) xz6.2.2.2.2.2.1 0 (jnT xz6.2.1 xz6.2.2.2.2.2.1 (D 297 kc) xz6.2.2.2.2.2.2 (12 + htF xz6.2.2.1 xz6.2.2.2.1 xz6.2.2.2.2.1 (D 297 kc))) m9) → ((m9 = 0 → ((mo = 0 → (wp 290 75 [vr 226, vr 273, vi i, vi 0, vi kc] [] (E8, SS L 1 c2 c3 c4 c5 c6) Q)) ∧ (¬ (mo = 0) → (wp 290 69 [vr 226, vr 273, vi i, vu, vi kc] [] (E8, SS L 1 c2 c3 c4 c5 c6) Q)))) ∧ (¬ (m9 = 0) → (wp 290 69 [vr 226, vr 273, vi i, vu, vi kc] [] (E8, SS L 1 c2 c3 c4 c5 c6) Q))))))))))))) ∧ (¬ (D 294 kc = D 291 i ∧ D 295 kc ≤ i ∧ i < D 296 kc) → (wp 290 75 [vr 226, vr 273, vi i, vi mo, vi kc] [] (D, SS L 1 c2 c3 c4 c5 c6) Q))))))) ∧ (¬ (kc < D 273 5) → ((0 ≤ i ∧ i < 1024 ∧ -1 ≤ D 292 i ∧ D 292 i ≤ 8) ∧ ((∀ (z19 : Int → Int), (∀ k : Int, 0 ≤ k → k < 20 → z19 k = D 332 (i * 20 + k)) → ((0 ≤ i ∧ i < 1024) ∧ ((D 288 i = 33 → (((-2147483648) ≤ (12 + D 292 i) - 2 ∧ (12 + D 292 i) - 2 ≤ 2147483647) ∧ ((0 ≤ (12 + D 292 i) - 2 ∧ (12 + D 292 i) - 2 < 24) ∧ ((z19 ((12 + D 292 i) - 2) = 1 → (((0 : Int) ≤ mo ∧ mo ≤ (1 : Int)) ∧ (Q (.inl [vi mo]) (up (sp D 333 z19) 226 25 (12 + D 292 i), SS L 1 c2 c3 c4 c5 c6)))) ∧ (¬ (z19 ((12 + D 292 i) - 2) = 1) → (wp 290 119 [vr 226, vr 273, vi i, vi mo, vi (D 288 i)] [] (up (sp D 333 z19) 226 25 (12 + D 292 i), SS L 1 c2 c3 c4 c5 c6) Q)))))) ∧ (¬ (D 288 i = 33) → (wp 290 119 [vr 226, vr 273, vi i, vi mo, vi (D 288 i)] [] (up (sp D 333 z19) 226 25 (12 + D 292 i), SS L 1 c2 c3 c4 c5 c6) Q)))))))))) : wp 290 5 [vr 226, vr 273, vi i, vi mo, vi kc] [] (D, SS L 1 c2 c3 c4 c5 c6) Q := vc_wp [] 200 _ _ _ _ _ _ (show ((kc < D 273 5 → (wp 288 0 [vr 273, vi kc, vi i] [] (D, SS L 1 c2 c3 c4 c5 c6) (aft wp 290 18 [vr 226, vr 273, vi i, vi mo, vi kc] [] Q))) ∧ (¬ (kc < D 273 5) → (wp 291 0 [vr 226, vr 273, vi i, vu] [] (D, SS L 1 c2 c3 c4 c5 c6) (aft wp 290 84 [vr 226, vr 273, vi i, vi mo, vi kc] [] Q)))) from ⟨fun h26 => s288 ⟨(H.1 h26).1, (show wp 290 21 [vr 226, vr 273, vi i, vi mo, vi kc] [vi (ib (D 294 kc = D 291 i ∧ D 295 kc ≤ i ∧ i < D 296 kc))] (D, SS L 1 c2 c3 c4 c5 c6) Q from vc_wp [75] 200 _ _ _ _ _ _ (show ((ib (D 294 kc = D 291 i ∧ D 295 kc ≤ i ∧ i < D 296 kc) = 0 → (wp 290 75 [vr 226, vr 273, vi i, vi mo, vi kc] [] (D, SS L 1 c2 c3 c4 c5 c6) Q)) ∧ (¬ (ib (D 294 kc = D 291 i ∧ D 295 kc ≤ i ∧ i < D 296 kc) = 0) → (wp 291 0 [vr 226, vr 273, vi i, vu] [] (D, SS L 1 c2 c3 c4 c5 c6) (aft wp 290 30 [vr 226, vr 273, vi i, vi mo, vi kc] [] Q)))) from ⟨fun h16 => ((H.1 h26).2.2 ((ib_z).mp h16)), fun h17 => s291 ⟨((H.1 h26).2.1 (Classical.not_not.mp (mt (ib_z).mpr h17))).1, (fun z4 q5 => (show wp 290 33 [vr 226, vr 273, vi i, vi mo, vi kc] [] (up (sp D 333 z4) 226 25 (12 + D 292 i), SS L 1 c2 c3 c4 c5 c6) Q from vc_wp [37] 200 _ _ _ _ _ _ (show wp 290 37 [vr 226, vr 273, vi i, vi mo, vi kc] [vr 333] (up (sp D 333 z4) 226 25 (12 + D 292 i), SS L 1 c2 c3 c4 c5 c6) Q from vc_wp [45] 200 _ _ _ _ _ _ (show wp 290 45 [vr 226, vr 273, vi i, vi mo, vi kc] [vr 298, vi 8, vi 12, vr 333] (up (sp D 333 z4) 226 25 (12 + D 292 i), SS L 1 c2 c3 c4 c5 c6) Q from vc_wp [49] 200 _ _ _ _ _ _ (show (0 ≤ kc ∧ kc < 64) ∧ (wp 290 49 [vr 226, vr 273, vi i, vi mo, vi kc] [vi (w32 (8 + (D 298 kc))), vi 12, vr 333] (up (sp D 333 z4) 226 25 (12 + D 292 i), SS L 1 c2 c3 c4 c5 c6) Q) from ⟨(((H.1 h26).2.1 (Classical.not_not.mp (mt (ib_z).mpr h17))).2 z4 q5).1, w32_i (fun z15 : Int => wp 290 49 [vr 226, vr 273, vi i, vi mo, vi kc] [vi z15, vi 12, vr 333] (up (sp D 333 z4) 226 25 (12 + D 292 i), SS L 1 c2 c3 c4 c5 c6) Q) ((((H.1 h26).2.1 (Classical.not_not.mp (mt (ib_z).mpr h17))).2 z4 q5).2).1 (vc_wp [56] 200 _ _ _ _ _ _ (show ((0 : Int) ≤ 12 ∧ (12 : Int) < 24) ∧ (wp 290 56 [vr 226, vr 273, vi i, vi mo, vi kc] [vr 297, vr 273, vr 226] (up (up (sp D 333 z4) 226 25 (12 + D 292 i)) 333 12 (8 + (D 298 kc)), SS L 1 c2 c3 c4 c5 c6) Q) from ⟨(by decide), vc_wp [] 200 _ _ _ _ _ _ (show (0 ≤ kc ∧ kc < 64) ∧ (wp 292 0 [vr 226, vr 273, vi (D 297 kc), vu, vu, vu, vu] [] (up (up (sp D 333 z4) 226 25 (12 + D 292 i)) 333 12 (8 + (D 298 kc)), SS L 1 c2 c3 c4 c5 c6) (aft wp 290 59 [vr 226, vr 273, vi i, vi mo, vi kc] [] Q)) from ⟨((((H.1 h26).2.1 (Classical.not_not.mp (mt (ib_z).mpr h17))).2 z4 q5).2).2.1, Exists.elim (((((H.1 h26).2.1 (Classical.not_not.mp (mt (ib_z).mpr h17))).2 z4 q5).2).2.2) fun xz6 x7 => s292 ⟨xz6, x7.1, (fun E8 m9 q10 => (show wp 290 62 [vr 226, vr 273, vi i, vi mo, vi kc] [vi m9] (E8, SS L 1 c2 c3 c4 c5 c6) Q from vc_wp [69, 75] 200 _ _ _ _ _ _ (show ((m9 = 0 → ((mo = 0 → (wp 290 75 [vr 226, vr 273, vi i, vi 0, vi kc] [] (E8, SS L 1 c2 c3 c4 c5 c6) Q)) ∧ (¬ (mo = 0) → (wp 290 69 [vr 226, vr 273, vi i, vi mo, vi kc] [] (E8, SS L 1 c2 c3 c4 c5 c6) Q)))) ∧ (¬ (m9 = 0) → (wp 290 69 [vr 226, vr 273, vi i, vi mo, vi kc] [] (E8, SS L 1 c2 c3 c4 c5 c6) Q))) from ⟨fun h13 => ⟨fun h11 => (((x7.2 E8 m9 q10).1 h13).1 h11), fun h12 => wp_d (Lle.k rfl (Lle.k rfl (Lle.k rfl (Lle.v rfl (Lle.k rfl (Lle.nil)))))) ((((x7.2 E8 m9 q10).1 h13).2 h12))⟩, fun h14 => wp_d (Lle.k rfl (Lle.k rfl (Lle.k rfl (Lle.v rfl (Lle.k rfl (Lle.nil)))))) (((x7.2 E8 m9 q10).2 h14))⟩)))⟩⟩)⟩))⟩)))))⟩⟩))⟩, fun h27 => s291 ⟨(H.2 h27).1, (fun z19 q20 => (show wp 290 87 [vr 226, vr 273, vi i, vi mo, vi kc] [] (up (sp D 333 z19) 226 25 (12 + D 292 i), SS L 1 c2 c3 c4 c5 c6) Q from vc_wp [91] 200 _ _ _ _ _ _ (show wp 290 91 [vr 226, vr 273, vi i, vi mo, vi kc] [vr 288] (up (sp D 333 z19) 226 25 (12 + D 292 i), SS L 1 c2 c3 c4 c5 c6) Q from vc_wp [106, 119] 200 _ _ _ _ _ _ (show (0 ≤ i ∧ i < 1024) ∧ ((D 288 i = 33 → (wp 290 106 [vr 226, vr 273, vi i, vi mo, vi (D 288 i)] [vr 333] (up (sp D 333 z19) 226 25 (12 + D 292 i), SS L 1 c2 c3 c4 c5 c6) Q)) ∧ (¬ (D 288 i = 33) → (wp 290 119 [vr 226, vr 273, vi i, vi mo, vi (D 288 i)] [] (up (sp D 333 z19) 226 25 (12 + D 292 i), SS L 1 c2 c3 c4 c5 c6) Q))) from ⟨((H.2 h27).2 z19 q20).1, ⟨fun h24 => vc_wp [112] 200 _ _ _ _ _ _ (show wp 290 112 [vr 226, vr 273, vi i, vi mo, vi (D 288 i)] [vi (w32 ((12 + D 292 i) - 2)), vr 333] (up (sp D 333 z19) 226 25 (12 + D 292 i), SS L 1 c2 c3 c4 c5 c6) Q from w32_i (fun z23 : Int => wp 290 112 [vr 226, vr 273, vi i, vi mo, vi (D 288 i)] [vi z23, vr 333] (up (sp D 333 z19) 226 25 (12 + D 292 i), SS L 1 c2 c3 c4 c5 c6) Q) ((((H.2 h27).2 z19 q20).2.1 h24)).1 (vc_wp [119] 200 _ _ _ _ _ _ (show (0 ≤ (12 + D 292 i) - 2 ∧ (12 + D 292 i) - 2 < 24) ∧ ((z19 ((12 + D 292 i) - 2) = 1 → (((0 : Int) ≤ mo ∧ mo ≤ (1 : Int)) ∧ (Q (.inl [vi mo]) (up (sp D 333 z19) 226 25 (12 + D 292 i), SS L 1 c2 c3 c4 c5 c6)))) ∧ (¬ (z19 ((12 + D 292 i) - 2) = 1) → (wp 290 119 [vr 226, vr 273, vi i, vi mo, vi (D 288 i)] [] (up (sp D 333 z19) 226 25 (12 + D 292 i), SS L 1 c2 c3 c4 c5 c6) Q))) from ⟨((((H.2 h27).2 z19 q20).2.1 h24)).2.1, ⟨fun h21 => ⟨(((((H.2 h27).2 z19 q20).2.1 h24)).2.2.1 h21).1, (((((H.2 h27).2 z19 q20).2.1 h24)).2.2.1 h21).2⟩, fun h22 => (((((H.2 h27).2 z19 q20).2.1 h24)).2.2.2 h22)⟩⟩))), fun h25 => (((H.2 h27).2 z19 q20).2.2 h25)⟩⟩))))⟩⟩)
theorem r290_69 {L c2 c3 c4 c5 c6 : Nat} {D : Dt} {Q : Out → Wd → Prop} {i kc : Int} (H : wp 290 75 [vr 226, vr 273, vi i, vi 1, vi kc] [] (D, SS L 1 c2 c3 c4 c5 c6) Q) : wp 290 69 [vr 226, vr 273, vi i, vu, vi kc] [] (D, SS L 1 c2 c3 c4 c5 c6) Q := vc_wp [75] 200 _ _ _ _ _ _ (show wp 290 75 [vr 226, vr 273, vi i, vi 1, vi kc] [] (D, SS L 1 c2 c3 c4 c5 c6) Q from H)
theorem r290_75 {L c2 c3 c4 c5 c6 : Nat} {D : Dt} {Q : Out → Wd → Prop} {i mo kc : Int} (H : ((-2147483648) ≤ kc + 1 ∧ kc + 1 ≤ 2147483647) ∧ (wp 290 5 [vr 226, vr 273, vi i, vi mo, vi (kc + 1)] [] (D, SS L 1 c2 c3 c4 c5 c6) Q)) : wp 290 75 [vr 226, vr 273, vi i, vi mo, vi kc] [] (D, SS L 1 c2 c3 c4 c5 c6) Q := vc_wp [78] 200 _ _ _ _ _ _ (show wp 290 78 [vr 226, vr 273, vi i, vi mo, vi (w32 (kc + 1))] [] (D, SS L 1 c2 c3 c4 c5 c6) Q from w32_i (fun z1 : Int => wp 290 78 [vr 226, vr 273, vi i, vi mo, vi z1] [] (D, SS L 1 c2 c3 c4 c5 c6) Q) (H).1 (vc_wp [5] 200 _ _ _ _ _ _ (show wp 290 5 [vr 226, vr 273, vi i, vi mo, vi (kc + 1)] [] (D, SS L 1 c2 c3 c4 c5 c6) Q from (H).2)))
theorem r290_119 {L c2 c3 c4 c5 c6 : Nat} {D : Dt} {Q : Out → Wd → Prop} {i mo kc : Int} (H : ∃ (xb1 : List Int × List Int × XB × XB × (Int → Int) × Nat), (MCt xb1.2.1 xb1.2.2.1 xb1.2.2.2.1 D ∧ PT xb1.1 xb1.2.1 xb1.2.2.1 xb1.2.2.2.1 ∧ (0 ≤ i ∧ i < (xb1.2.2.2.1 0).length) ∧ hgd xb1.2.2.1 xb1.2.2.2.1 i xb1.2.2.2.2.2 ∧ xb1.2.2.2.2.2 ≤ 8 ∧ D 226 25 = 12 + xb1.2.2.2.2.2 ∧ (∀ k : Int, 0 ≤ k → k < 12 + xb1.2.2.2.2.2 → D 333 k = mT (xb1.2.2.2.2.1 k) ∧ tyS (8 + xb1.2.1.length) (xb1.2.2.2.2.1 k))) ∧ ((∀ (E3 : Dt), (FrU D E3 ∧ E3 331 = D 331 ∧ E3 332 = D 332 ∧ E3 226 25 = 12 + hth xb1.2.2.1 xb1.2.2.2.1 i xb1.2.2.2.2.2 ∧ ∀ k : Int, 0 ≤ k → k < 12 + hth xb1.2.2.1 xb1.2.2.2.1 i xb1.2.2.2.2.2 → E3 333 k = mT (acW xb1.2.2.1 xb1.2.2.2.1 xb1.2.2.2.2.1 (12 + xb1.2.2.2.2.2) i k)) → ((goOn kc → (((-2147483648) ≤ i + 1 ∧ i + 1 ≤ 2147483647) ∧ (∃ (xz7 : List Int × List Int × XB × XB × Int × TyT × (Int → Int)), (ABp (E3 274) xz7.2.1 ∧ TC xz7.1 xz7.2.1 xz7.2.2.1 xz7.2.2.2.1 xz7.2.2.2.2.1 ∧ TV xz7.2.1 xz7.2.2.1 xz7.2.2.2.1 xz7.2.2.2.2.1 xz7.2.2.2.2.2.1 ∧ TM xz7.2.2.1 xz7.2.2.2.1 xz7.2.2.2.2.1 xz7.2.2.2.2.2.1 (E3 331) (E3 332) ∧ (lf (xz7.2.2.2.1 11) xz7.2.2.2.2.1 ≤ (i + 1) ∧ (i + 1) < lf (xz7.2.2.2.1 12) xz7.2.2.2.2.1) ∧ E3 292 (i + 1) = htF xz7.2.2.1 xz7.2.2.2.1 xz7.2.2.2.2.1 (i + 1) ∧ 0 ≤ htF xz7.2.2.1 xz7.2.2.2.1 xz7.2.2.2.2.1 (i + 1) ∧ (∀ k : Int, 0 ≤ k → k < 12 + htF xz7.2.2.1 xz7.2.2.2.1 xz7.2.2.2.2.1 (i + 1) → E3 333 k = mT (xz7.2.2.2.2.2.2 k) ∧ tyS (8 + xz7.2.1.length) (xz7.2.2.2.2.2.2 k))) ∧ ((∀ (E9 : Dt) (m10 : Int), ((m10 = 0 ∨ m10 = 1) ∧ FrS E3 E9 ∧ TM xz7.2.2.1 xz7.2.2.2.1 xz7.2.2.2.2.1 (jnT xz7.2.1 xz7.2.2.2.2.2.1 (i + 1) xz7.2.2.2.2.2.2 (12 + htF xz7.2.2.1 xz7.2.2.2.1 xz7.2.2.2.2.1 (i + 1))) (E9 331) (E9 332) ∧ TyG (lf (xz7.2.2.2.1 11) xz7.2.2.2.2.1) (lf (xz7.2.2.2.1 12) xz7.2.2.2.2.1) xz7.2.2.2.2.2.1 0 (jnT xz7.2.1 xz7.2.2.2.2.2.1 (i + 1) xz7.2.2.2.2.2.2 (12 + htF xz7.2.2.1 xz7.2.2.2.1 xz7.2.2.2.2.1 (i + 1))) m10) → ((m10 = 0 → ((mo = 0 → (wp 290 154 [vr 226, vr 273, vi i, vi 0, vi kc] [] (E9, SS L 1 c2 c3 c4 c5 c6) Q)) ∧ (¬ (mo = 0) → (wp 290 154 [vr 226, vr 273, vi i, vi 1, vi kc] [] (E9, SS L 1 c2 c3 c4 c5 c6) Q)))) ∧ (¬ (m10 = 0) → (wp 290 154 [vr 226, vr 273, vi i, vi 1, vi kc] [] (E9, SS L 1 c2 c3 c4 c5 c6) Q)))))))) ∧ (¬ (goOn kc) → (wp 290 154 [vr 226, vr 273, vi i, vi mo, vi kc] [] (E3, SS L 1 c2 c3 c4 c5 c6) Q)))))) : wp 290 119 [vr 226, vr 273, vi i, vi mo, vi kc] [] (D, SS L 1 c2 c3 c4 c5 c6) Q := vc_wp [] 200 _ _ _ _ _ _ (show wp 296 0 [vr 226, vr 273, vi i, vu, vu, vu, vu] [] (D, SS L 1 c2 c3 c4 c5 c6) (aft wp 290 122 [vr 226, vr 273, vi i, vi mo, vi kc] [] Q) from Exists.elim (H) fun xb1 x2 => s296 ⟨xb1, x2.1, (fun E3 q4 => (show wp 290 125 [vr 226, vr 273, vi i, vi mo, vi kc] [] (E3, SS L 1 c2 c3 c4 c5 c6) Q from vc_wp [] 200 _ _ _ _ _ _ (show wp 285 0 [vi kc] [] (E3, SS L 1 c2 c3 c4 c5 c6) (aft wp 290 127 [vr 226, vr 273, vi i, vi mo, vi kc] [] Q) from s285 (show wp 290 130 [vr 226, vr 273, vi i, vi mo, vi kc] [vi (ib (goOn kc))] (E3, SS L 1 c2 c3 c4 c5 c6) Q from vc_wp [138, 154] 200 _ _ _ _ _ _ (show ((ib (goOn kc) = 0 → (wp 290 154 [vr 226, vr 273, vi i, vi mo, vi kc] [] (E3, SS L 1 c2 c3 c4 c5 c6) Q)) ∧ (¬ (ib (goOn kc) = 0) → (wp 290 138 [vr 226, vr 273, vi i, vi mo, vi kc] [vi (w32 (i + 1)), vr 273, vr 226] (E3, SS L 1 c2 c3 c4 c5 c6) Q))) from ⟨fun h17 => ((x2.2 E3 q4).2 ((ib_z).mp h17)), fun h18 => w32_i (fun z16 : Int => wp 290 138 [vr 226, vr 273, vi i, vi mo, vi kc] [vi z16, vr 273, vr 226] (E3, SS L 1 c2 c3 c4 c5 c6) Q) (((x2.2 E3 q4).1 (Classical.not_not.mp (mt (ib_z).mpr h18)))).1 (vc_wp [] 200 _ _ _ _ _ _ (show wp 292 0 [vr 226, vr 273, vi (i + 1), vu, vu, vu, vu] [] (E3, SS L 1 c2 c3 c4 c5 c6) (aft wp 290 138 [vr 226, vr 273, vi i, vi mo, vi kc] [] Q) from Exists.elim ((((x2.2 E3 q4).1 (Classical.not_not.mp (mt (ib_z).mpr h18)))).2) fun xz7 x8 => s292 ⟨xz7, x8.1, (fun E9 m10 q11 => (show wp 290 141 [vr 226, vr 273, vi i, vi mo, vi kc] [vi m10] (E9, SS L 1 c2 c3 c4 c5 c6) Q from vc_wp [154] 200 _ _ _ _ _ _ (show ((m10 = 0 → ((mo = 0 → (wp 290 154 [vr 226, vr 273, vi i, vi 0, vi kc] [] (E9, SS L 1 c2 c3 c4 c5 c6) Q)) ∧ (¬ (mo = 0) → (wp 290 154 [vr 226, vr 273, vi i, vi 1, vi kc] [] (E9, SS L 1 c2 c3 c4 c5 c6) Q)))) ∧ (¬ (m10 = 0) → (wp 290 154 [vr 226, vr 273, vi i, vi 1, vi kc] [] (E9, SS L 1 c2 c3 c4 c5 c6) Q))) from ⟨fun h14 => ⟨fun h12 => (((x8.2 E9 m10 q11).1 h14).1 h12), fun h13 => (((x8.2 E9 m10 q11).1 h14).2 h13)⟩, fun h15 => ((x8.2 E9 m10 q11).2 h15)⟩)))⟩))⟩)))))⟩)
theorem r290_154 {L c2 c3 c4 c5 c6 : Nat} {D : Dt} {Q : Out → Wd → Prop} {i mo kc : Int} (H : ((isJ kc → ((0 ≤ i ∧ i < 1024) ∧ (∃ (xz3 : List Int × List Int × XB × XB × Int × TyT × (Int → Int)), (ABp (D 274) xz3.2.1 ∧ TC xz3.1 xz3.2.1 xz3.2.2.1 xz3.2.2.2.1 xz3.2.2.2.2.1 ∧ TV xz3.2.1 xz3.2.2.1 xz3.2.2.2.1 xz3.2.2.2.2.1 xz3.2.2.2.2.2.1 ∧ TM xz3.2.2.1 xz3.2.2.2.1 xz3.2.2.2.2.1 xz3.2.2.2.2.2.1 (D 331) (D 332) ∧ (lf (xz3.2.2.2.1 11) xz3.2.2.2.2.1 ≤ (D 289 i) ∧ (D 289 i) < lf (xz3.2.2.2.1 12) xz3.2.2.2.2.1) ∧ D 292 (D 289 i) = htF xz3.2.2.1 xz3.2.2.2.1 xz3.2.2.2.2.1 (D 289 i) ∧ 0 ≤ htF xz3.2.2.1 xz3.2.2.2.1 xz3.2.2.2.2.1 (D 289 i) ∧ (∀ k : Int, 0 ≤ k → k < 12 + htF xz3.2.2.1 xz3.2.2.2.1 xz3.2.2.2.2.1 (D 289 i) → D 333 k = mT (xz3.2.2.2.2.2.2 k) ∧ tyS (8 + xz3.2.1.length) (xz3.2.2.2.2.2.2 k))) ∧ ((∀ (E5 : Dt) (m6 : Int), ((m6 = 0 ∨ m6 = 1) ∧ FrS D E5 ∧ TM xz3.2.2.1 xz3.2.2.2.1 xz3.2.2.2.2.1 (jnT xz3.2.1 xz3.2.2.2.2.2.1 (D 289 i) xz3.2.2.2.2.2.2 (12 + htF xz3.2.2.1 xz3.2.2.2.1 xz3.2.2.2.2.1 (D 289 i))) (E5 331) (E5 332) ∧ TyG (lf (xz3.2.2.2.1 11) xz3.2.2.2.2.1) (lf (xz3.2.2.2.1 12) xz3.2.2.2.2.1) xz3.2.2.2.2.2.1 0 (jnT xz3.2.1 xz3.2.2.2.2.2.1 (D 289 i) xz3.2.2.2.2.2.2 (12 + htF xz3.2.2.1 xz3.2.2.2.1 xz3.2.2.2.2.1 (D 289 i))) m6) → ((m6 = 0 → ((mo = 0 → (wp 290 186 [vr 226, vr 273, vu, vi 0, vu] [] (E5, SS L 1 c2 c3 c4 c5 c6) Q)) ∧ (¬ (mo = 0) → (wp 290 186 [vr 226, vr 273, vu, vi 1, vu] [] (E5, SS L 1 c2 c3 c4 c5 c6) Q)))) ∧ (¬ (m6 = 0) → (wp 290 186 [vr 226, vr 273, vu, vi 1, vu] [] (E5, SS L 1 c2 c3 c4 c5 c6) Q)))))))) ∧ (¬ (isJ kc) → (wp 290 186 [vr 226, vr 273, vu, vi mo, vu] [] (D, SS L 1 c2 c3 c4 c5 c6) Q)))) : wp 290 154 [vr 226, vr 273, vi i, vi mo, vi kc] [] (D, SS L 1 c2 c3 c4 c5 c6) Q := vc_wp [] 200 _ _ _ _ _ _ (show wp 287 0 [vi kc] [] (D, SS L 1 c2 c3 c4 c5 c6) (aft wp 290 156 [vr 226, vr 273, vi i, vi mo, vi kc] [] Q) from s287 (show wp 290 159 [vr 226, vr 273, vi i, vi mo, vi kc] [vi (ib (isJ kc))] (D, SS L 1 c2 c3 c4 c5 c6) Q from vc_wp [168, 186] 200 _ _ _ _ _ _ (show ((ib (isJ kc) = 0 → (wp 290 186 [vr 226, vr 273, vi i, vi mo, vi kc] [] (D, SS L 1 c2 c3 c4 c5 c6) Q)) ∧ (¬ (ib (isJ kc) = 0) → (wp 290 168 [vr 226, vr 273, vi i, vi mo, vi kc] [vr 289, vr 273, vr 226] (D, SS L 1 c2 c3 c4 c5 c6) Q))) from ⟨fun h12 => wp_d (Lle.k rfl (Lle.k rfl (Lle.v rfl (Lle.k rfl (Lle.v rfl (Lle.nil)))))) ((H.2 ((ib_z).mp h12))), fun h13 => vc_wp [] 200 _ _ _ _ _ _ (show (0 ≤ i ∧ i < 1024) ∧ (wp 292 0 [vr 226, vr 273, vi (D 289 i), vu, vu, vu, vu] [] (D, SS L 1 c2 c3 c4 c5 c6) (aft wp 290 170 [vr 226, vr 273, vi i, vi mo, vi kc] [] Q)) from ⟨(H.1 (Classical.not_not.mp (mt (ib_z).mpr h13))).1, Exists.elim ((H.1 (Classical.not_not.mp (mt (ib_z).mpr h13))).2) fun xz3 x4 => s292 ⟨xz3, x4.1, (fun E5 m6 q7 => (show wp 290 173 [vr 226, vr 273, vi i, vi mo, vi kc] [vi m6] (E5, SS L 1 c2 c3 c4 c5 c6) Q from vc_wp [186] 200 _ _ _ _ _ _ (show ((m6 = 0 → ((mo = 0 → (wp 290 186 [vr 226, vr 273, vi i, vi 0, vi kc] [] (E5, SS L 1 c2 c3 c4 c5 c6) Q)) ∧ (¬ (mo = 0) → (wp 290 186 [vr 226, vr 273, vi i, vi 1, vi kc] [] (E5, SS L 1 c2 c3 c4 c5 c6) Q)))) ∧ (¬ (m6 = 0) → (wp 290 186 [vr 226, vr 273, vi i, vi 1, vi kc] [] (E5, SS L 1 c2 c3 c4 c5 c6) Q))) from ⟨fun h10 => ⟨fun h8 => wp_d (Lle.k rfl (Lle.k rfl (Lle.v rfl (Lle.k rfl (Lle.v rfl (Lle.nil)))))) ((((x4.2 E5 m6 q7).1 h10).1 h8)), fun h9 => wp_d (Lle.k rfl (Lle.k rfl (Lle.v rfl (Lle.k rfl (Lle.v rfl (Lle.nil)))))) ((((x4.2 E5 m6 q7).1 h10).2 h9))⟩, fun h11 => wp_d (Lle.k rfl (Lle.k rfl (Lle.v rfl (Lle.k rfl (Lle.v rfl (Lle.nil)))))) (((x4.2 E5 m6 q7).2 h11))⟩)))⟩⟩)⟩)))
theorem r290_186 {L c2 c3 c4 c5 c6 : Nat} {D : Dt} {Q : Out → Wd → Prop} {mo : Int} (H : ((0 : Int) ≤ mo ∧ mo ≤ (1 : Int)) ∧ (Q (.inl [vi mo]) (D, SS L 1 c2 c3 c4 c5 c6))) : wp 290 186 [vr 226, vr 273, vu, vi mo, vu] [] (D, SS L 1 c2 c3 c4 c5 c6) Q := vc_wp [] 200 _ _ _ _ _ _ (show ((0 : Int) ≤ mo ∧ mo ≤ (1 : Int)) ∧ (Q (.inl [vi mo]) (D, SS L 1 c2 c3 c4 c5 c6)) from ⟨H.1, H.2⟩)
theorem s290 {L c2 c3 c4 c5 c6 : Nat} {D : Dt} {Q : Out → Wd → Prop} {i : Int} (H : ∃ x : List Int × List Int × XB × XB × Int × TyT, (MCt x.2.1 x.2.2.1 x.2.2.2.1 D ∧ TC x.1 x.2.1 x.2.2.1 x.2.2.2.1 x.2.2.2.2.1 ∧ TV x.2.1 x.2.2.1 x.2.2.2.1 x.2.2.2.2.1 x.2.2.2.2.2 ∧ TM x.2.2.1 x.2.2.2.1 x.2.2.2.2.1 x.2.2.2.2.2 (D 331) (D 332) ∧ (lf (x.2.2.2.1 11) x.2.2.2.2.1 ≤ i ∧ i < lf (x.2.2.2.1 12) x.2.2.2.2.1) ∧ ¬ x.2.2.2.2.2 i 0 < 0 ∧ (∀ j : Int, lf (x.2.2.2.1 11) x.2.2.2.2.1 ≤ j → j < lf (x.2.2.2.1 12) x.2.2.2.2.1 → D 292 j = htF x.2.2.1 x.2.2.2.1 x.2.2.2.2.1 j)) ∧ ∀ (E : Dt) (m : Int), ((m = 0 ∨ m = 1) ∧ FrU D E ∧ TM x.2.2.1 x.2.2.2.1 x.2.2.2.2.1 (stT x.2.1 x.2.2.1 x.2.2.2.1 x.2.2.2.2.1 x.2.2.2.2.2 i) (E 331) (E 332) ∧ TyG (lf (x.2.2.2.1 11) x.2.2.2.2.1) (lf (x.2.2.2.1 12) x.2.2.2.2.1) x.2.2.2.2.2 0 (stT x.2.1 x.2.2.1 x.2.2.2.1 x.2.2.2.2.1 x.2.2.2.2.2 i) m) → Q (.inl [vi m]) (E, SS L 1 c2 c3 c4 c5 c6)) : wp 290 0 [vr 226, vr 273, vi i, vu, vu] [] (D, SS L 1 c2 c3 c4 c5 c6) Q := by
  obtain ⟨⟨ns, ab, X, Y, b, T⟩, ⟨hS, hC, hV, hM, ⟨i0, i1⟩, hi0, h292⟩, H⟩ := H
  dsimp only at *
  have hr := hC.1.1.rg hC.2.1.1 hC.2.1.2
  have h64 := hC.1.1.1.1.2.2.2.2
  have hl6 := hC.1.1.1.1.2.1
  have hal := hC.1.2.1.2.1
  have hln := hC.1.2.1.2.2
  have ic : 0 ≤ i ∧ i < 1024 := by omega
  have hb := ht_b (X := X) (Y := Y) (b := b) (i := i)
  have eb4 : lf (Y 4) i = b := (hC.1.1.1.2.2.2.2.2 b hC.2.1.1 hC.2.1.2).2.2 i i0 i1
  obtain ⟨e288, e291, _, e289⟩ := hS.1.v hC.1.1 (i := i) (by omega) (by omega)
  have q292 : ∀ E, FrU D E → ∀ j : Int, lf (Y 11) b ≤ j → j < lf (Y 12) b → E 292 j = htF X Y b j := fun E f j j0 j1 => by rw [f.1 292 (by decide) (by decide)]; exact h292 j j0 j1
  have hcA := ca_a hC i0 i1 (Y 6).length 0 T (Int.le_refl _) (by omega) hV hi0
  have hc1 : TV ab X Y b (caA ab Y b i T) := hcA.1
  have hc2 : ¬ caA ab Y b i T i 0 < 0 := hcA.2.1
  have es : stT ab X Y b T i = _ := cit_f hi0
  have hq := TV.c hC hc1 i0 i1 hc2
  have hn := TC.n hC i0 i1 hq.1
  have eh : (((htF X Y b i).toNat : Nat) : Int) = htF X Y b i := by omega
  have hw := acW_s hC.1 (i := i) (w := caA ab Y b i T i) (h := (htF X Y b i).toNat) (by omega) (by omega) hn.1.1 (by omega) (by rw [eh]; exact hq.2)
  rw [eh] at hw
  have h186 : ∀ (E : Dt) (m : Int), (m = 0 ∨ m = 1) → FrU D E → TM X Y b (stT ab X Y b T i) (E 331) (E 332) → TyG (lf (Y 11) b) (lf (Y 12) b) T 0 (stT ab X Y b T i) m → wp 290 186 [vr 226, vr 273, vu, vi m, vu] [] (E, SS L 1 c2 c3 c4 c5 c6) Q := fun E m hm q1 q2 q3 => r290_186 ⟨by omega, H E m ⟨hm, q1, q2, q3⟩⟩
  -- behind the catches
  have hfin : ∀ (E1 : Dt) (mo : Int), (mo = 0 ∨ mo = 1) → FrU D E1 → TM X Y b (caA ab Y b i T) (E1 331) (E1 332) → TyG (lf (Y 11) b) (lf (Y 12) b) T 0 (caA ab Y b i T) mo → wp 290 5 [vr 226, vr 273, vi i, vi mo, vi (Y 6).length] [] (E1, SS L 1 c2 c3 c4 c5 c6) Q := by
    intro E1 mo hmo f1 hM1 hG1
    have qh := q292 E1 f1 i i0 i1
    have q5 : E1 273 5 = (Y 6).length := by rw [f1.1 273 (by decide) (by decide)]; exact hS.1.1.1.2.2
    have q288 : E1 288 i = lf (Y 0) i := by rw [f1.1 288 (by decide) (by decide)]; exact e288
    have hM1i := (hM1 i i0 i1).2 hc2
    have h119 : ¬ (lf (Y 0) i = 33 ∧ caA ab Y b i T i (12 + htF X Y b i - 2) = 1) → ∀ z : Int → Int, (∀ k : Int, 0 ≤ k → k < 20 → z k = E1 332 (i * 20 + k)) → wp 290 119 [vr 226, vr 273, vi i, vi mo, vi (lf (Y 0) i)] [] (up (sp E1 333 z) 226 25 (12 + htF X Y b i), SS L 1 c2 c3 c4 c5 c6) Q := by
      intro g1 z hz
      rw [cit_f g1] at es
      have f2 : FrU D (up (sp E1 333 z) 226 25 (12 + htF X Y b i)) := (f1.s ⟨by decide, by decide⟩).u (Or.inr ⟨rfl, rfl⟩)
      refine r290_119 ⟨(ns, ab, X, Y, caA ab Y b i T i, (htF X Y b i).toNat), ⟨hS.f f2, hC.1, ⟨by omega, by dsimp only; omega⟩, hn.1.1, by dsimp only; omega, ?_, fun k k0 k1 => ⟨?_, ?_⟩⟩, fun E3 x => ?_⟩
      · rw [ub_s]; dsimp only; rw [eh]
      · dsimp only at k1
        rw [eh] at k1
        rw [ub_a (by decide), sp_s, hz k k0 (by omega)]; exact hM1i.2 k k0 k1
      · dsimp only at k1
        rw [eh] at k1
        exact hq.2 k k0 k1
      · dsimp only at x
        rw [eh] at x
        obtain ⟨x1, x31, x32, x25, x3⟩ := x
        have f3 : FrU D E3 := f2.t x1
        have hM3 : TM X Y b (caA ab Y b i T) (E3 331) (E3 332) := by
          rw [x31, x32, ub_a (by decide), ub_a (by decide), sp_a (by decide), sp_a (by decide)]; exact hM1
        have h154 : ∀ (E4 : Dt) (T4 : TyT) (m4 : Int), (m4 = 0 ∨ m4 = 1) → FrU D E4 → E4 333 = E3 333 → T4 = cit (goOn (lf (Y 0) i)) (jnT ab (caA ab Y b i T) (i + 1) (acW X Y (caA ab Y b i T i) (12 + htF X Y b i) i) (12 + hth X Y i (htF X Y b i).toNat)) (caA ab Y b i T) → TV ab X Y b T4 → TM X Y b T4 (E4 331) (E4 332) → TyG (lf (Y 11) b) (lf (Y 12) b) T 0 T4 m4 → wp 290 154 [vr 226, vr 273, vi i, vi m4, vi (lf (Y 0) i)] [] (E4, SS L 1 c2 c3 c4 c5 c6) Q := by
          intro E4 T4 m4 hm4 f4 y333 eT4 v4 hM4 hG4
          refine r290_154 ⟨fun g3 => ⟨ic, ?_⟩, fun g3 => ?_⟩
          · have hj := hn.2.2.1 g3
            have e289' : E4 289 i = lf (Y 1) i := by rw [f4.1 289 (by decide) (by decide)]; exact e289 (Or.inl g3)
            rw [e289']
            refine ⟨(ns, ab, X, Y, b, T4, acW X Y (caA ab Y b i T i) (12 + htF X Y b i) i), ⟨(hS.f f4).2.1, hC, v4, hM4, hj.1, q292 E4 f4 _ hj.1.1 hj.1.2, by dsimp only; omega, fun k k0 k1 => ?_⟩, fun E5 m6 x5 => ?_⟩
            · dsimp only at k1 ⊢
              rw [hj.2] at k1
              rw [y333]
              exact ⟨x3 k k0 k1, hw k k0 k1⟩
            · dsimp only at x5
              rw [hj.2] at x5
              obtain ⟨y0, y1, y2, y3⟩ := x5
              have e2 : stT ab X Y b T i = jnT ab T4 (lf (Y 1) i) (acW X Y (caA ab Y b i T i) (12 + htF X Y b i) i) (12 + hth X Y i (htF X Y b i).toNat) := by
                rw [es]
                unfold gnT
                rw [cit_t g3, eT4]
              rw [← e2] at y2 y3
              have f5 := f4.t y1.u
              refine ⟨fun u => ⟨fun u1 => ?_, fun u1 => ?_⟩, fun u => ?_⟩
              · exact h186 E5 0 (Or.inl rfl) f5 y2 (hG4.o y3 0 (fun _ => u1.symm) (fun c => absurd u c))
              · exact h186 E5 1 (Or.inr rfl) f5 y2 (hG4.o y3 1 (fun _ => by omega) (fun c => absurd u c))
              · exact h186 E5 1 (Or.inr rfl) f5 y2 (hG4.o y3 1 (fun c => absurd c u) (fun _ => rfl))
          · have e2 : stT ab X Y b T i = T4 := by
              rw [es]
              unfold gnT
              rw [cit_f g3, eT4]
            exact h186 E4 m4 hm4 f4 (by rw [e2]; exact hM4) (by rw [e2]; exact hG4)
        refine ⟨fun g2 => ⟨by omega, ?_⟩, fun g2 => h154 E3 _ mo hmo f3 rfl (cit_f g2).symm hc1 hM3 hG1⟩
        have hj := hn.2.1 g2
        refine ⟨(ns, ab, X, Y, b, caA ab Y b i T, acW X Y (caA ab Y b i T i) (12 + htF X Y b i) i), ⟨(hS.f f3).2.1, hC, hc1, hM3, ⟨by dsimp only; omega, hj.1⟩, q292 E3 f3 _ (by omega) hj.1, by dsimp only; omega, fun k k0 k1 => ?_⟩, fun E5 m6 x5 => ?_⟩
        · dsimp only at k1 ⊢
          rw [hj.2] at k1
          exact ⟨x3 k k0 k1, hw k k0 k1⟩
        · dsimp only at x5
          rw [hj.2] at x5
          obtain ⟨y0, y1, y2, y3⟩ := x5
          have f5 := f3.t y1.u
          have v5 : TV ab X Y b (jnT ab (caA ab Y b i T) (i + 1) (acW X Y (caA ab Y b i T i) (12 + htF X Y b i) i) (12 + hth X Y i (htF X Y b i).toNat)) := by
            have := TV.j hC hc1 (j := i + 1) (by omega) hj.1 (by rw [hj.2]; omega) (w := acW X Y (caA ab Y b i T i) (12 + htF X Y b i) i) (fun k k0 k1 => hw k k0 (by rw [hj.2] at k1; exact k1))
            rw [hj.2] at this
            exact this
          have y333 : E5 333 = E3 333 := y1 333 (by decide)
          refine ⟨fun u => ⟨fun u1 => ?_, fun u1 => ?_⟩, fun u => ?_⟩
          · exact h154 E5 _ 0 (Or.inl rfl) f5 y333 (cit_t g2).symm v5 y2 (hG1.o y3 0 (fun _ => u1.symm) (fun c => absurd u c))
          · exact h154 E5 _ 1 (Or.inr rfl) f5 y333 (cit_t g2).symm v5 y2 (hG1.o y3 1 (fun _ => by omega) (fun c => absurd u c))
          · exact h154 E5 _ 1 (Or.inr rfl) f5 y333 (cit_t g2).symm v5 y2 (hG1.o y3 1 (fun c => absurd c u) (fun _ => rfl))
    refine r290_5 ⟨fun x => by omega, fun _ => ⟨by rw [qh]; omega, fun z hz => ⟨ic, ?_⟩⟩⟩
    rw [qh, q288]
    refine ⟨fun g33 => ⟨by omega, ?_⟩, fun g33 => h119 (fun x => g33 x.1) z hz⟩
    have htk : tkF X Y i = 2 := by unfold tkF; rw [g33]; rfl
    have hd1 := hn.1.1.1
    rw [eh, htk] at hd1
    have ez : z (12 + htF X Y b i - 2) = mT (caA ab Y b i T i (12 + htF X Y b i - 2)) := by
      rw [hz _ (by omega) (by omega)]; exact hM1i.2 _ (by omega) (by omega)
    have e1 : mT (caA ab Y b i T i (12 + htF X Y b i - 2)) = 1 ↔ caA ab Y b i T i (12 + htF X Y b i - 2) = 1 := (mT_v (n := 8 + ab.length) (by omega) (hq.2 _ (by omega) (by omega))).2.1
    refine ⟨by omega, ?_⟩
    rw [ez]
    refine ⟨fun g1 => ⟨by omega, ?_⟩, fun g1 => h119 (fun x => g1 (e1.mpr x.2)) z hz⟩
    rw [cit_t ⟨g33, e1.mp g1⟩] at es
    refine H _ mo ⟨hmo, (f1.s ⟨by decide, by decide⟩).u (Or.inr ⟨rfl, rfl⟩), ?_, by rw [es]; exact hG1⟩
    rw [es, ub_a (by decide), ub_a (by decide), sp_a (by decide), sp_a (by decide)]; exact hM1
  -- the catches
  have h5 : ∀ (M : Nat) (c mo : Int) (E1 : Dt), ((Y 6).length - c).toNat = M → 0 ≤ c → c ≤ (Y 6).length → (mo = 0 ∨ mo = 1) → FrU D E1 → TM X Y b (caT ab Y b i c.toNat 0 T) (E1 331) (E1 332) → TyG (lf (Y 11) b) (lf (Y 12) b) T 0 (caT ab Y b i c.toNat 0 T) mo → wp 290 5 [vr 226, vr 273, vi i, vi mo, vi c] [] (E1, SS L 1 c2 c3 c4 c5 c6) Q := by
    intro M
    induction M with
    | zero =>
      intro c mo E1 e k0 k1 hmo f1 hM1 hG1
      have ec : c = (Y 6).length := by omega
      rw [ec] at hM1 hG1 ⊢
      rw [Int.toNat_natCast] at hM1 hG1
      exact hfin E1 mo hmo f1 hM1 hG1
    | succ M ih =>
      intro c mo E1 e k0 k1 hmo f1 hM1 hG1
      have cl2 : c < (Y 6).length := by omega
      have qh := q292 E1 f1 i i0 i1
      have q5 : E1 273 5 = (Y 6).length := by rw [f1.1 273 (by decide) (by decide)]; exact hS.1.1.1.2.2
      have q291 : E1 291 i = b := by rw [f1.1 291 (by decide) (by decide), e291]; exact eb4
      have q294 : E1 294 c = lf (Y 10) c := by rw [f1.1 294 (by decide) (by decide)]; exact hS.1.1.2.2.2.2.2.2.2.2.2.2 c k0 (by omega)
      have q295 : E1 295 c = lf (Y 6) c := by rw [f1.1 295 (by decide) (by decide)]; exact hS.1.1.2.2.2.2.2.2.1 c k0 cl2
      have q296 : E1 296 c = lf (Y 7) c := by rw [f1.1 296 (by decide) (by decide)]; exact hS.1.1.2.2.2.2.2.2.2.1 c k0 (by omega)
      have q297 : E1 297 c = lf (Y 8) c := by rw [f1.1 297 (by decide) (by decide)]; exact hS.1.1.2.2.2.2.2.2.2.2.1 c k0 (by omega)
      have q298 : E1 298 c = lf (Y 9) c := by rw [f1.1 298 (by decide) (by decide)]; exact hS.1.1.2.2.2.2.2.2.2.2.2.1 c k0 (by omega)
      have hv1 := ca_a hC i0 i1 c.toNat 0 T (Int.le_refl _) (by omega) hV hi0
      have enx : caT ab Y b i (c + 1).toNat 0 T = cit (cov Y b c i) (jnT ab (caT ab Y b i c.toNat 0 T) (lf (Y 8) c) (sl (caT ab Y b i c.toNat 0 T i) 12 (16 + lf (Y 9) c)) 13) (caT ab Y b i c.toNat 0 T) := by
        rw [show (c + 1).toNat = c.toNat + 1 by omega, caT_a, show (0 : Int) + ((c.toNat : Nat) : Int) = c by omega]
        rfl
      refine r290_5 ⟨fun _ => ?_, fun x => by omega⟩
      rw [q291, q294, q295, q296, q297, q298, qh]
      refine ⟨by omega, fun gc => ⟨by omega, fun z hz => ⟨by omega, ?_⟩⟩, fun gc => ?_⟩
      · have hcl := (hC.1.1.1.2.2.2.1 c k0 cl2).2.2.2.2.2.1
        have hvi := TV.c hC hv1.1 i0 i1 hv1.2.1
        have hnn := (TC.n hC i0 i1 hvi.1).2.2.2 c k0 cl2 gc
        have hcw := ca_w hC hv1.1 (k := c) i0 i1 hv1.2.1 k0 cl2
        rw [cit_t (show cov Y b c i from gc)] at enx
        refine ⟨by omega, by omega, (ns, ab, X, Y, b, caT ab Y b i c.toNat 0 T, sl (caT ab Y b i c.toNat 0 T i) 12 (16 + lf (Y 9) c)), ⟨(hS.f f1).2.1, hC, hv1.1, hM1, hnn.1, q292 E1 f1 _ hnn.1.1 hnn.1.2, by dsimp only; omega, fun k z0 z1 => ?_⟩, fun E8 m9 x => ?_⟩
        · dsimp only at z1 ⊢
          rw [hnn.2] at z1
          refine ⟨?_, hcw k z0 (by omega)⟩
          by_cases ek : k = 12
          · rw [ek, ub_s, sl_s, mT_c (by omega) (by omega)]
          · rw [ub_n ek, sl_n ek, ub_a (by decide), sp_s, hz k z0 (by omega)]
            exact ((hM1 i i0 i1).2 hv1.2.1).2 k z0 (by omega)
        · dsimp only at x
          rw [hnn.2, show (12 : Int) + 1 = 13 from rfl, ← enx] at x
          obtain ⟨y0, y1, y2, y3⟩ := x
          have f8 : FrU D E8 := (((f1.s (a := 333) ⟨by decide, by decide⟩).u (Or.inr ⟨rfl, rfl⟩)).u (Or.inl ⟨by decide, by decide⟩)).t y1.u
          have hnx : ∀ m' : Int, (m' = 0 ∨ m' = 1) → (m9 = 0 → m' = mo) → (¬ m9 = 0 → m' = 1) → wp 290 75 [vr 226, vr 273, vi i, vi m', vi c] [] (E8, SS L 1 c2 c3 c4 c5 c6) Q := fun m' h1 h2 h3 => r290_75 ⟨by omega, ih (c + 1) m' E8 (by omega) (by omega) (by omega) h1 f8 y2 (hG1.o y3 m' h2 h3)⟩
          refine ⟨fun u => ⟨fun u1 => hnx 0 (Or.inl rfl) (fun _ => u1.symm) (fun c => absurd u c), fun u1 => r290_69 (hnx 1 (Or.inr rfl) (fun _ => by omega) (fun c => absurd u c))⟩, fun u => r290_69 (hnx 1 (Or.inr rfl) (fun c => absurd c u) (fun _ => rfl))⟩
      · rw [cit_f (show ¬ cov Y b c i from gc)] at enx
        exact r290_75 ⟨by omega, ih (c + 1) mo E1 (by omega) (by omega) (by omega) hmo f1 (by rw [enx]; exact hM1) (by rw [enx]; exact hG1)⟩
  exact r290_0 (h5 _ 0 0 D rfl (Int.le_refl _) (by omega) (Or.inl rfl) (FrU.r D) hM TyG.r)
