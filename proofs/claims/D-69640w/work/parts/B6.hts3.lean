/-! heights: SafeCode's -/
set_option maxRecDepth 100000
theorem r97_0 {L c4 c5 c6 : Nat} {D : Dt} {Q : Out → Wd → Prop} {i h : Int} (H : ∃ (xt1 : List Int × List Int × XB × XB), (SCk xt1.2.2.1 xt1.2.2.2 D ∧ PH xt1.1 xt1.2.1 xt1.2.2.1 xt1.2.2.2 ∧ 0 ≤ i ∧ i < (xt1.2.2.2 0).length) ∧ ((((-2147483648) ≤ h - (tkF xt1.2.2.1 xt1.2.2.2 i) ∧ h - (tkF xt1.2.2.1 xt1.2.2.2 i) ≤ 2147483647) ∧ (∃ (xt4 : List Int × List Int × XB × XB), (SCk xt4.2.2.1 xt4.2.2.2 D ∧ PH xt4.1 xt4.2.1 xt4.2.2.1 xt4.2.2.2 ∧ 0 ≤ i ∧ i < (xt4.2.2.2 0).length) ∧ ((((-2147483648) ≤ (h - (tkF xt1.2.2.1 xt1.2.2.2 i)) + (lvF xt4.2.2.1 xt4.2.2.2 i) ∧ (h - (tkF xt1.2.2.1 xt1.2.2.2 i)) + (lvF xt4.2.2.1 xt4.2.2.2 i) ≤ 2147483647) ∧ (∃ (xt7 : List Int × List Int × XB × XB), (SCk xt7.2.2.1 xt7.2.2.2 D ∧ PH xt7.1 xt7.2.1 xt7.2.2.1 xt7.2.2.2 ∧ 0 ≤ i ∧ i < (xt7.2.2.2 0).length) ∧ ((((h < tkF xt7.2.2.1 xt7.2.2.2 i → (wp 97 38 [vr 87, vi i, vu, vu] [] (D, SS L 1 2 2 c4 c5 c6) Q)) ∧ (¬ (h < tkF xt7.2.2.1 xt7.2.2.2 i) → ((8 < (h - (tkF xt1.2.2.1 xt1.2.2.2 i)) + (lvF xt4.2.2.1 xt4.2.2.2 i) → (wp 97 38 [vr 87, vi i, vu, vu] [] (D, SS L 1 2 2 c4 c5 c6) Q)) ∧ (¬ (8 < (h - (tkF xt1.2.2.1 xt1.2.2.2 i)) + (lvF xt4.2.2.1 xt4.2.2.2 i)) → ((0 ≤ i ∧ i < 1024) ∧ ((((goOn (D 212 i) → (((-2147483648) ≤ i + 1 ∧ i + 1 ≤ 2147483647) ∧ (∃ (xh12 : (Int → Nat → Prop) × Int × Int × (Int → Nat)), (HR xh12.2.1 xh12.2.2.1 xh12.2.2.2 (D 88) ∧ 0 ≤ xh12.2.1 ∧ xh12.2.2.1 ≤ 1024 ∧ xh12.2.1 ≤ (i + 1) ∧ (i + 1) < xh12.2.2.1 ∧ 0 ≤ ((h - (tkF xt1.2.2.1 xt1.2.2.2 i)) + (lvF xt4.2.2.1 xt4.2.2.2 i)) ∧ ((h - (tkF xt1.2.2.1 xt1.2.2.2 i)) + (lvF xt4.2.2.1 xt4.2.2.2 i)) ≤ 8 ∧ xh12.1 (i + 1) (((h - (tkF xt1.2.2.1 xt1.2.2.2 i)) + (lvF xt4.2.2.1 xt4.2.2.2 i))).toNat) ∧ ((∀ (E14 : Dt) (G15 : Int → Nat), (FrH D E14 ∧ E14 89 = D 89 ∧ HR xh12.2.1 xh12.2.2.1 G15 (E14 88) ∧ RS xh12.1 xh12.2.1 xh12.2.2.1 xh12.2.2.2 (D 87 7) G15 (E14 87 7) ∧ (G15 (i + 1)).testBit (((h - (tkF xt1.2.2.1 xt1.2.2.2 i)) + (lvF xt4.2.2.1 xt4.2.2.2 i))).toNat = true) → (wp 97 66 [vr 87, vi i, vu, vi ((h - (tkF xt1.2.2.1 xt1.2.2.2 i)) + (lvF xt4.2.2.1 xt4.2.2.2 i))] [] (E14, SS L 1 2 2 c4 c5 c6) Q)))))) ∧ (¬ (goOn (D 212 i)) → (wp 97 66 [vr 87, vi i, vu, vi ((h - (tkF xt1.2.2.1 xt1.2.2.2 i)) + (lvF xt4.2.2.1 xt4.2.2.2 i))] [] (D, SS L 1 2 2 c4 c5 c6) Q))))))))))))))))))) : wp 97 0 [vr 87, vi i, vi h, vu] [] (D, SS L 1 2 2 c4 c5 c6) Q := vc_wp [5] 200 _ _ _ _ _ _ (show wp 97 5 [vr 87, vi i, vi h, vu] [vr 197, vi h] (D, SS L 1 2 2 c4 c5 c6) Q from vc_wp [] 200 _ _ _ _ _ _ (show wp 218 0 [vr 197, vi i, vu, vu] [] (D, SS L 1 2 2 c4 c5 c6) (aft wp 97 6 [vr 87, vi i, vi h, vu] [vi h] Q) from Exists.elim (H) fun xt1 x2 => s218 ⟨xt1, x2.1, (show wp 97 9 [vr 87, vi i, vi h, vu] [vi (tkF xt1.2.2.1 xt1.2.2.2 i), vi h] (D, SS L 1 2 2 c4 c5 c6) Q from vc_wp [10] 200 _ _ _ _ _ _ (show wp 97 10 [vr 87, vi i, vi h, vu] [vi (w32 (h - (tkF xt1.2.2.1 xt1.2.2.2 i)))] (D, SS L 1 2 2 c4 c5 c6) Q from w32_i (fun z25 : Int => wp 97 10 [vr 87, vi i, vi h, vu] [vi z25] (D, SS L 1 2 2 c4 c5 c6) Q) (x2.2).1 (vc_wp [14] 200 _ _ _ _ _ _ (show wp 97 14 [vr 87, vi i, vi h, vu] [vr 197, vi (h - (tkF xt1.2.2.1 xt1.2.2.2 i))] (D, SS L 1 2 2 c4 c5 c6) Q from vc_wp [] 200 _ _ _ _ _ _ (show wp 219 0 [vr 197, vi i, vu, vu] [] (D, SS L 1 2 2 c4 c5 c6) (aft wp 97 15 [vr 87, vi i, vi h, vu] [vi (h - (tkF xt1.2.2.1 xt1.2.2.2 i))] Q) from Exists.elim ((x2.2).2) fun xt4 x5 => s219 ⟨xt4, x5.1, (show wp 97 18 [vr 87, vi i, vi h, vu] [vi (lvF xt4.2.2.1 xt4.2.2.2 i), vi (h - (tkF xt1.2.2.1 xt1.2.2.2 i))] (D, SS L 1 2 2 c4 c5 c6) Q from vc_wp [19] 200 _ _ _ _ _ _ (show wp 97 19 [vr 87, vi i, vi h, vu] [vi (w32 ((h - (tkF xt1.2.2.1 xt1.2.2.2 i)) + (lvF xt4.2.2.1 xt4.2.2.2 i)))] (D, SS L 1 2 2 c4 c5 c6) Q from w32_i (fun z24 : Int => wp 97 19 [vr 87, vi i, vi h, vu] [vi z24] (D, SS L 1 2 2 c4 c5 c6) Q) (x5.2).1 (vc_wp [25] 200 _ _ _ _ _ _ (show wp 97 25 [vr 87, vi i, vi h, vi ((h - (tkF xt1.2.2.1 xt1.2.2.2 i)) + (lvF xt4.2.2.1 xt4.2.2.2 i))] [vr 197, vi h] (D, SS L 1 2 2 c4 c5 c6) Q from vc_wp [] 200 _ _ _ _ _ _ (show wp 218 0 [vr 197, vi i, vu, vu] [] (D, SS L 1 2 2 c4 c5 c6) (aft wp 97 26 [vr 87, vi i, vi h, vi ((h - (tkF xt1.2.2.1 xt1.2.2.2 i)) + (lvF xt4.2.2.1 xt4.2.2.2 i))] [vi h] Q) from Exists.elim ((x5.2).2) fun xt7 x8 => s218 ⟨xt7, x8.1, (show wp 97 29 [vr 87, vi i, vi h, vi ((h - (tkF xt1.2.2.1 xt1.2.2.2 i)) + (lvF xt4.2.2.1 xt4.2.2.2 i))] [vi (tkF xt7.2.2.1 xt7.2.2.2 i), vi h] (D, SS L 1 2 2 c4 c5 c6) Q from vc_wp [38, 51] 200 _ _ _ _ _ _ (show ((h < tkF xt7.2.2.1 xt7.2.2.2 i → (wp 97 38 [vr 87, vi i, vi h, vi ((h - (tkF xt1.2.2.1 xt1.2.2.2 i)) + (lvF xt4.2.2.1 xt4.2.2.2 i))] [] (D, SS L 1 2 2 c4 c5 c6) Q)) ∧ (¬ (h < tkF xt7.2.2.1 xt7.2.2.2 i) → ((8 < (h - (tkF xt1.2.2.1 xt1.2.2.2 i)) + (lvF xt4.2.2.1 xt4.2.2.2 i) → (wp 97 38 [vr 87, vi i, vi h, vi ((h - (tkF xt1.2.2.1 xt1.2.2.2 i)) + (lvF xt4.2.2.1 xt4.2.2.2 i))] [] (D, SS L 1 2 2 c4 c5 c6) Q)) ∧ (¬ (8 < (h - (tkF xt1.2.2.1 xt1.2.2.2 i)) + (lvF xt4.2.2.1 xt4.2.2.2 i)) → (wp 97 51 [vr 87, vi i, vi h, vi ((h - (tkF xt1.2.2.1 xt1.2.2.2 i)) + (lvF xt4.2.2.1 xt4.2.2.2 i))] [vr 197] (D, SS L 1 2 2 c4 c5 c6) Q))))) from ⟨fun h22 => wp_d (Lle.k rfl (Lle.k rfl (Lle.v rfl (Lle.v rfl (Lle.nil))))) ((x8.2.1 h22)), fun h23 => ⟨fun h20 => wp_d (Lle.k rfl (Lle.k rfl (Lle.v rfl (Lle.v rfl (Lle.nil))))) (((x8.2.2 h23).1 h20)), fun h21 => vc_wp [] 200 _ _ _ _ _ _ (show wp 217 0 [vr 197, vi i] [] (D, SS L 1 2 2 c4 c5 c6) (aft wp 97 52 [vr 87, vi i, vi h, vi ((h - (tkF xt1.2.2.1 xt1.2.2.2 i)) + (lvF xt4.2.2.1 xt4.2.2.2 i))] [] Q) from s217 ⟨((x8.2.2 h23).2 h21).1, (show wp 97 55 [vr 87, vi i, vi h, vi ((h - (tkF xt1.2.2.1 xt1.2.2.2 i)) + (lvF xt4.2.2.1 xt4.2.2.2 i))] [vi (ib (goOn (D 212 i)))] (D, SS L 1 2 2 c4 c5 c6) Q from vc_wp [62, 66] 200 _ _ _ _ _ _ (show ((ib (goOn (D 212 i)) = 0 → (wp 97 66 [vr 87, vi i, vi h, vi ((h - (tkF xt1.2.2.1 xt1.2.2.2 i)) + (lvF xt4.2.2.1 xt4.2.2.2 i))] [] (D, SS L 1 2 2 c4 c5 c6) Q)) ∧ (¬ (ib (goOn (D 212 i)) = 0) → (wp 97 62 [vr 87, vi i, vi h, vi ((h - (tkF xt1.2.2.1 xt1.2.2.2 i)) + (lvF xt4.2.2.1 xt4.2.2.2 i))] [vi (w32 (i + 1)), vr 87] (D, SS L 1 2 2 c4 c5 c6) Q))) from ⟨fun h18 => wp_d (Lle.k rfl (Lle.k rfl (Lle.v rfl (Lle.k rfl (Lle.nil))))) ((((x8.2.2 h23).2 h21).2.2 ((ib_z).mp h18))), fun h19 => w32_i (fun z17 : Int => wp 97 62 [vr 87, vi i, vi h, vi ((h - (tkF xt1.2.2.1 xt1.2.2.2 i)) + (lvF xt4.2.2.1 xt4.2.2.2 i))] [vi z17, vr 87] (D, SS L 1 2 2 c4 c5 c6) Q) ((((x8.2.2 h23).2 h21).2.1 (Classical.not_not.mp (mt (ib_z).mpr h19)))).1 (vc_wp [] 200 _ _ _ _ _ _ (show wp 96 0 [vr 87, vi (i + 1), vi ((h - (tkF xt1.2.2.1 xt1.2.2.2 i)) + (lvF xt4.2.2.1 xt4.2.2.2 i))] [] (D, SS L 1 2 2 c4 c5 c6) (aft wp 97 63 [vr 87, vi i, vi h, vi ((h - (tkF xt1.2.2.1 xt1.2.2.2 i)) + (lvF xt4.2.2.1 xt4.2.2.2 i))] [] Q) from Exists.elim (((((x8.2.2 h23).2 h21).2.1 (Classical.not_not.mp (mt (ib_z).mpr h19)))).2) fun xh12 x13 => s96 ⟨xh12, x13.1, (fun E14 G15 q16 => (show wp 97 66 [vr 87, vi i, vi h, vi ((h - (tkF xt1.2.2.1 xt1.2.2.2 i)) + (lvF xt4.2.2.1 xt4.2.2.2 i))] [] (E14, SS L 1 2 2 c4 c5 c6) Q from wp_d (Lle.k rfl (Lle.k rfl (Lle.v rfl (Lle.k rfl (Lle.nil))))) ((x13.2 E14 G15 q16))))⟩))⟩))⟩)⟩⟩))⟩)))))⟩)))))⟩))
theorem r97_38 {L c4 c5 c6 : Nat} {D : Dt} {Q : Out → Wd → Prop} {i : Int} (H : (0 ≤ i ∧ i < 1024) ∧ (Q (.inl [vi 0]) (up D 89 i 1, SS L 1 2 2 c4 c5 c6))) : wp 97 38 [vr 87, vi i, vu, vu] [] (D, SS L 1 2 2 c4 c5 c6) Q := vc_wp [42] 200 _ _ _ _ _ _ (show wp 97 42 [vr 87, vi i, vu, vu] [vr 89] (D, SS L 1 2 2 c4 c5 c6) Q from vc_wp [] 200 _ _ _ _ _ _ (show ((0 : Int) ≤ 1 ∧ 1 ≤ (1 : Int)) ∧ ((0 ≤ i ∧ i < 1024) ∧ (((0 : Int) ≤ 0 ∧ 0 ≤ (1 : Int)) ∧ (Q (.inl [vi 0]) (up D 89 i 1, SS L 1 2 2 c4 c5 c6)))) from ⟨(by decide), ⟨H.1, ⟨(by decide), H.2⟩⟩⟩))
theorem r97_66 {L c4 c5 c6 : Nat} {D : Dt} {Q : Out → Wd → Prop} {i th : Int} (H : (0 ≤ i ∧ i < 1024) ∧ ((((isJ (D 212 i) → ((0 ≤ i ∧ i < 1024) ∧ (∃ (xh3 : (Int → Nat → Prop) × Int × Int × (Int → Nat)), (HR xh3.2.1 xh3.2.2.1 xh3.2.2.2 (D 88) ∧ 0 ≤ xh3.2.1 ∧ xh3.2.2.1 ≤ 1024 ∧ xh3.2.1 ≤ (D 213 i) ∧ (D 213 i) < xh3.2.2.1 ∧ 0 ≤ th ∧ th ≤ 8 ∧ xh3.1 (D 213 i) (th).toNat) ∧ ((∀ (E5 : Dt) (G6 : Int → Nat), (FrH D E5 ∧ E5 89 = D 89 ∧ HR xh3.2.1 xh3.2.2.1 G6 (E5 88) ∧ RS xh3.1 xh3.2.1 xh3.2.2.1 xh3.2.2.2 (D 87 7) G6 (E5 87 7) ∧ (G6 (D 213 i)).testBit (th).toNat = true) → (Q (.inl [vi 1]) (E5, SS L 1 2 2 c4 c5 c6))))))) ∧ (¬ (isJ (D 212 i)) → (Q (.inl [vi 1]) (D, SS L 1 2 2 c4 c5 c6))))))) : wp 97 66 [vr 87, vi i, vu, vi th] [] (D, SS L 1 2 2 c4 c5 c6) Q := vc_wp [70] 200 _ _ _ _ _ _ (show wp 97 70 [vr 87, vi i, vu, vi th] [vr 197] (D, SS L 1 2 2 c4 c5 c6) Q from vc_wp [] 200 _ _ _ _ _ _ (show wp 220 0 [vr 197, vi i] [] (D, SS L 1 2 2 c4 c5 c6) (aft wp 97 71 [vr 87, vi i, vu, vi th] [] Q) from s220 ⟨H.1, (show wp 97 74 [vr 87, vi i, vu, vi th] [vi (ib (isJ (D 212 i)))] (D, SS L 1 2 2 c4 c5 c6) Q from vc_wp [82] 200 _ _ _ _ _ _ (show ((ib (isJ (D 212 i)) = 0 → (((0 : Int) ≤ 1 ∧ 1 ≤ (1 : Int)) ∧ (Q (.inl [vi 1]) (D, SS L 1 2 2 c4 c5 c6)))) ∧ (¬ (ib (isJ (D 212 i)) = 0) → (wp 97 82 [vr 87, vi i, vu, vi th] [vr 197, vr 87] (D, SS L 1 2 2 c4 c5 c6) Q))) from ⟨fun h8 => ⟨(by decide), (H.2.2 ((ib_z).mp h8))⟩, fun h9 => vc_wp [85] 200 _ _ _ _ _ _ (show wp 97 85 [vr 87, vi i, vu, vi th] [vr 213, vr 87] (D, SS L 1 2 2 c4 c5 c6) Q from vc_wp [] 200 _ _ _ _ _ _ (show (0 ≤ i ∧ i < 1024) ∧ (wp 96 0 [vr 87, vi (D 213 i), vi th] [] (D, SS L 1 2 2 c4 c5 c6) (aft wp 97 88 [vr 87, vi i, vu, vi th] [] Q)) from ⟨(H.2.1 (Classical.not_not.mp (mt (ib_z).mpr h9))).1, Exists.elim ((H.2.1 (Classical.not_not.mp (mt (ib_z).mpr h9))).2) fun xh3 x4 => s96 ⟨xh3, x4.1, (fun E5 G6 q7 => (show wp 97 91 [vr 87, vi i, vu, vi th] [] (E5, SS L 1 2 2 c4 c5 c6) Q from vc_wp [] 200 _ _ _ _ _ _ (show ((0 : Int) ≤ 1 ∧ 1 ≤ (1 : Int)) ∧ (Q (.inl [vi 1]) (E5, SS L 1 2 2 c4 c5 c6)) from ⟨(by decide), (x4.2 E5 G6 q7)⟩)))⟩⟩))⟩))⟩))
theorem s97 {L c4 c5 c6 : Nat} {D : Dt} {Q : Out → Wd → Prop} {i h : Int} (H : ∃ x : List Int × List Int × XB × XB × Int × (Int → Nat), (SCk x.2.2.1 x.2.2.2.1 D ∧ PH x.1 x.2.1 x.2.2.1 x.2.2.2.1 ∧ (0 ≤ x.2.2.2.2.1 ∧ x.2.2.2.2.1 < (x.2.2.1 4).length) ∧ HR (lf (x.2.2.2.1 11) x.2.2.2.2.1) (lf (x.2.2.2.1 12) x.2.2.2.2.1) x.2.2.2.2.2 (D 88) ∧ (lf (x.2.2.2.1 11) x.2.2.2.2.1 ≤ i ∧ i < lf (x.2.2.2.1 12) x.2.2.2.2.1) ∧ (0 ≤ h ∧ h ≤ 8) ∧ Rch x.2.2.1 x.2.2.2.1 x.2.2.2.2.1 i h.toNat) ∧ (¬ hgd x.2.2.1 x.2.2.2.1 i h.toNat → Q (.inl [vi 0]) (up D 89 i 1, SS L 1 2 2 c4 c5 c6)) ∧ (∀ (E : Dt) (G : Int → Nat), (hgd x.2.2.1 x.2.2.2.1 i h.toNat ∧ FrH D E ∧ E 89 = D 89 ∧ HR (lf (x.2.2.2.1 11) x.2.2.2.2.1) (lf (x.2.2.2.1 12) x.2.2.2.2.1) G (E 88) ∧ RS (Rch x.2.2.1 x.2.2.2.1 x.2.2.2.2.1) (lf (x.2.2.2.1 11) x.2.2.2.2.1) (lf (x.2.2.2.1 12) x.2.2.2.2.1) x.2.2.2.2.2 (D 87 7) G (E 87 7) ∧ (goOn (lf (x.2.2.2.1 0) i) → (G (i + 1)).testBit (hth x.2.2.1 x.2.2.2.1 i h.toNat) = true) ∧ (isJ (lf (x.2.2.2.1 0) i) → (G (lf (x.2.2.2.1 1) i)).testBit (hth x.2.2.1 x.2.2.2.1 i h.toNat) = true)) → Q (.inl [vi 1]) (E, SS L 1 2 2 c4 c5 c6))) : wp 97 0 [vr 87, vi i, vi h, vu] [] (D, SS L 1 2 2 c4 c5 c6) Q := by
  obtain ⟨⟨ns, ab, X, Y, b, Hh⟩, ⟨hS, hP, ⟨b0, b1⟩, hH, ⟨i0, i1⟩, ⟨h0, h8⟩, hR⟩, Hb, Hg⟩ := H
  dsimp only at *
  have hg := hP.rg b0 b1
  have htk := hP.tk (i := i) (by omega) (by omega)
  have hlv := PH.lv (X := X) (Y := Y) (i := i)
  have e0 : D 212 i = lf (Y 0) i := hS.1.2.1 i (by omega) (by omega)
  have e1 : D 213 i = lf (Y 1) i := hS.1.2.2.1 i (by omega) (by have := hP.1.1.1.1; omega)
  have hb : 0 ≤ i ∧ i < 1024 := by omega
  have hin : SCk X Y D ∧ PH ns ab X Y ∧ 0 ≤ i ∧ i < (Y 0).length := ⟨hS, hP, by omega, by omega⟩
  have ehd : hgd X Y i h.toNat ↔ (tkF X Y i ≤ h ∧ h - tkF X Y i + lvF X Y i ≤ 8) := by
    unfold hgd
    rw [show ((h.toNat : Nat) : Int) = h by omega]
  have eth : hth X Y i h.toNat = (h - tkF X Y i + lvF X Y i).toNat := by
    unfold hth
    rw [show ((h.toNat : Nat) : Int) = h by omega]
  have h38 : ¬ hgd X Y i h.toNat → wp 97 38 [vr 87, vi i, vu, vu] [] (D, SS L 1 2 2 c4 c5 c6) Q := fun x => r97_38 ⟨hb, Hb x⟩
  have h66 : hgd X Y i h.toNat → ∀ (E : Dt) (G : Int → Nat), FrH D E → E 89 = D 89 → HR (lf (Y 11) b) (lf (Y 12) b) G (E 88) → RS (Rch X Y b) (lf (Y 11) b) (lf (Y 12) b) Hh (D 87 7) G (E 87 7) → (goOn (lf (Y 0) i) → (G (i + 1)).testBit (hth X Y i h.toNat) = true) → wp 97 66 [vr 87, vi i, vu, vi (h - tkF X Y i + lvF X Y i)] [] (E, SS L 1 2 2 c4 c5 c6) Q := by
    intro hd E G f f9 hG hRS hgo
    have hd' := ehd.mp hd
    have e0' : E 212 i = lf (Y 0) i := by rw [f.1 212 (by decide) (by decide) (by decide)]; exact e0
    have e1' : E 213 i = lf (Y 1) i := by rw [f.1 213 (by decide) (by decide) (by decide)]; exact e1
    refine r97_66 ?_
    rw [e0', e1']
    refine ⟨hb, fun g => ⟨hb, (Rch X Y b, lf (Y 11) b, lf (Y 12) b, G), ⟨hG, by dsimp only; omega, by dsimp only; omega, (hP.jm b0 b1 i0 i1 g).1, (hP.jm b0 b1 i0 i1 g).2, by omega, by omega, ?_⟩, fun E2 G2 x => ?_⟩, fun g => ?_⟩
    · dsimp only
      rw [← eth]
      exact (rch_c i h.toNat i0 i1 hR hd).2.1 g
    · dsimp only at x
      obtain ⟨x1, x2, x3, x4, x5⟩ := x
      refine Hg E2 G2 ⟨hd, f.t x1, x2.trans f9, x3, hRS.t x4, fun y => ?_, fun _ => ?_⟩
      · have hn := hP.go b0 b1 i0 i1 y
        exact (x4.1 (i + 1) (by omega) hn).2 _ (hgo y)
      · rw [eth]; exact x5
    · exact Hg E G ⟨hd, f, f9, hG, hRS, hgo, fun y => absurd y g⟩
  refine r97_0 ⟨(ns, ab, X, Y), hin, ?_⟩
  dsimp only
  refine ⟨by omega, (ns, ab, X, Y), hin, ?_⟩
  dsimp only
  refine ⟨by omega, (ns, ab, X, Y), hin, fun g => h38 fun x => ?_, fun g => ⟨fun g1 => h38 fun x => ?_, fun g1 => ⟨hb, ?_⟩⟩⟩
  · have := ehd.mp x
    dsimp only at g
    omega
  · have := ehd.mp x
    omega
  · dsimp only at g
    have hd : hgd X Y i h.toNat := ehd.mpr (by omega)
    rw [e0]
    refine ⟨fun g2 => ⟨by omega, (Rch X Y b, lf (Y 11) b, lf (Y 12) b, Hh), ⟨hH, by dsimp only; omega, by dsimp only; omega, by dsimp only; omega, hP.go b0 b1 i0 i1 g2, by omega, by omega, ?_⟩, fun E2 G2 x => ?_⟩, fun g2 => h66 hd D Hh (FrH.r D) rfl hH RS.r (fun y => absurd y g2)⟩
    · dsimp only
      rw [← eth]
      exact (rch_c i h.toNat i0 i1 hR hd).1 g2
    · dsimp only at x
      obtain ⟨x1, x2, x3, x4, x5⟩ := x
      exact h66 hd E2 G2 x1 x2 x3 x4 (fun _ => by rw [eth]; exact x5)
/-- a measure of heights -/
def msr (H : Int → Nat) (f : Int) : Nat → Nat
  | 0 => 0
  | n + 1 => msr H f n + H (f + n)
theorem msr_le {H H' : Int → Nat} {f : Int} : ∀ n : Nat, (∀ j : Int, f ≤ j → j < f + n → H j ≤ H' j) → msr H f n ≤ msr H' f n
  | 0, _ => Nat.le_refl _
  | n + 1, h => Nat.add_le_add (msr_le n fun j j0 j1 => h j j0 (by omega)) (h (f + n) (by omega) (by omega))
theorem msr_lt {H H' : Int → Nat} {f : Int} : ∀ n : Nat, (∀ j : Int, f ≤ j → j < f + n → H j ≤ H' j) → (∃ j : Int, f ≤ j ∧ j < f + n ∧ H j < H' j) → msr H f n < msr H' f n
  | 0, _, ⟨j, j0, j1, _⟩ => by omega
  | n + 1, h, ⟨j, j0, j1, hj⟩ => by
    show msr H f n + H (f + n) < msr H' f n + H' (f + n)
    by_cases e : j = f + n
    · have h1 := msr_le n fun j j0 j1 => h j j0 (by omega)
      rw [e] at hj
      omega
    · have h1 := msr_lt n (fun j j0 j1 => h j j0 (by omega)) ⟨j, j0, by omega, hj⟩
      have h2 := h (f + n) (by omega) (by omega)
      omega
theorem msr_b {H : Int → Nat} {f : Int} : ∀ n : Nat, (∀ j : Int, f ≤ j → j < f + n → H j < 512) → msr H f n ≤ 511 * n
  | 0, _ => Nat.le_refl _
  | n + 1, h => by
    have h1 := msr_b n fun j j0 j1 => h j j0 (by omega)
    have h2 := h (f + n) (by omega) (by omega)
    show msr H f n + H (f + n) ≤ _
    omega
/-- what follows for heights at (j, g) when nothing more comes -/
def CLz (X Y : XB) (b : Int) (H : Int → Nat) (z : Int → Int) (j : Int) (g : Nat) : Prop := (H j).testBit g = true → (hgd X Y j g → (goOn (lf (Y 0) j) → (H (j + 1)).testBit (hth X Y j g) = true) ∧ (isJ (lf (Y 0) j) → (H (lf (Y 1) j)).testBit (hth X Y j g) = true) ∧ ∀ k : Int, 0 ≤ k → k < (Y 6).length → cov Y b k j → (H (lf (Y 8) k)).testBit 1 = true) ∧ (¬ hgd X Y j g → z j = 1)
/-- along a sweep that began with H0 -/
def SWv (X Y : XB) (b : Int) (H0 H : Int → Nat) (D : Dt) : Prop := HR (lf (Y 11) b) (lf (Y 12) b) H (D 88) ∧ (∀ (j : Int) (g : Nat), lf (Y 11) b ≤ j → j < lf (Y 12) b → (H j).testBit g = true → Rch X Y b j g) ∧ (∀ j : Int, lf (Y 11) b ≤ j → j < lf (Y 12) b → D 89 j = 0 ∨ (D 89 j = 1 ∧ ∃ g : Nat, Rch X Y b j g ∧ ¬ hgd X Y j g)) ∧ RS (Rch X Y b) (lf (Y 11) b) (lf (Y 12) b) H0 0 H (D 87 7) ∧ (H (lf (Y 11) b)).testBit 0 = true
theorem SWv.s {ns ab : List Int} {X Y : XB} {b : Int} {H0 H G : Int → Nat} {D E : Dt} (hP : PH ns ab X Y) (b0 : 0 ≤ b) (b1 : b < (X 4).length) (h : SWv X Y b H0 H D) (h9 : E 89 = D 89) (hG : HR (lf (Y 11) b) (lf (Y 12) b) G (E 88)) (hR : RS (Rch X Y b) (lf (Y 11) b) (lf (Y 12) b) H (D 87 7) G (E 87 7)) : SWv X Y b H0 G E := by
  have hg := hP.rg b0 b1
  refine ⟨hG, fun j g j0 j1 x => (hR.2.1 j g j0 j1 x).elim (h.2.1 j g j0 j1) id, fun j j0 j1 => by rw [h9]; exact h.2.2.1 j j0 j1, h.2.2.2.1.t hR, (hR.1 _ (Int.le_refl _) (by omega)).2 _ h.2.2.2.2⟩
theorem CLz.m {ns ab : List Int} {X Y : XB} {b : Int} {H G : Int → Nat} {z z' : Int → Int} {j : Int} {g : Nat} (hP : PH ns ab X Y) (b0 : 0 ≤ b) (b1 : b < (X 4).length) (j0 : lf (Y 11) b ≤ j) (j1 : j < lf (Y 12) b) (h : CLz X Y b H z j g) (hs : ∀ i : Int, lf (Y 11) b ≤ i → i < lf (Y 12) b → G i = H i) (hz : ∀ i, z i = 1 → z' i = 1) : CLz X Y b G z' j g := by
  intro hb
  rw [hs j j0 j1] at hb
  obtain ⟨h1, h2⟩ := h hb
  refine ⟨fun hd => ⟨fun y => ?_, fun y => ?_, fun k k0 k1 hk => ?_⟩, fun hd => hz _ (h2 hd)⟩
  · rw [hs _ (by omega) (hP.go b0 b1 j0 j1 y)]; exact (h1 hd).1 y
  · rw [hs _ (hP.jm b0 b1 j0 j1 y).1 (hP.jm b0 b1 j0 j1 y).2]; exact (h1 hd).2.1 y
  · rw [hs _ (hP.ca k0 k1 hk.1).1 (hP.ca k0 k1 hk.1).2]; exact (h1 hd).2.2 k k0 k1 hk
theorem rs_same {R : Int → Nat → Prop} {f e : Int} {H H' : Int → Nat} {m m' : Int} (h : RS R f e H m H' m') (h0 : m' = 0) : m = 0 ∧ ∀ j : Int, f ≤ j → j < e → H' j = H j := by
  rcases h.2.2 with x | x
  · exact ⟨by omega, x.2⟩
  · omega
/-- the catches of a body -/
def CaR (Y : XB) (b ca ce : Int) : Prop := (0 ≤ ca ∧ ca ≤ ce ∧ ce ≤ (Y 6).length) ∧ ∀ k : Int, 0 ≤ k → k < (Y 6).length → (lf (Y 10) k = b ↔ (ca ≤ k ∧ k < ce))
/-- at the end, heights are all that comes -/
theorem hts_all {ns ab : List Int} {X Y : XB} {b : Int} {H : Int → Nat} {z : Int → Int} (hP : PH ns ab X Y) (b0 : 0 ≤ b) (b1 : b < (X 4).length) (h512 : ∀ i : Int, lf (Y 11) b ≤ i → i < lf (Y 12) b → H i < 512) (h0 : (H (lf (Y 11) b)).testBit 0 = true) (hc : ∀ (j : Int) (g : Nat), lf (Y 11) b ≤ j → j < lf (Y 12) b → g < 9 → CLz X Y b H z j g) {i : Int} {n : Nat} (hr : Rch X Y b i n) : (H i).testBit n = true := by
  have hg := hP.rg b0 b1
  have := hr (fun i n => (lf (Y 11) b ≤ i ∧ i < lf (Y 12) b) ∧ (H i).testBit n = true) ⟨⟨Int.le_refl _, by omega⟩, h0⟩ (fun i n i0 i1 hp hd => ?_)
  · exact this.2
  · have h9 := tb_lt (h512 i i0 i1) hp.2
    have := (hc i n i0 i1 h9 hp.2).1 hd
    refine ⟨fun g => ⟨⟨by omega, hP.go b0 b1 i0 i1 g⟩, this.1 g⟩, fun g => ⟨hP.jm b0 b1 i0 i1 g, this.2.1 g⟩, fun k k0 k1 hk => ⟨hP.ca k0 k1 hk.1, this.2.2 k k0 k1 hk⟩⟩
