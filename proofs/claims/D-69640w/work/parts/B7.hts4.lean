/-! heights: SafeCode's, the whole of a body -/
set_option maxRecDepth 100000
theorem r95_0 {L c4 c5 c6 : Nat} {D : Dt} {Q : Out → Wd → Prop} {b ca ce : Int} (H : (0 ≤ b ∧ b < 48) ∧ (wp 95 11 [vr 87, vi b, vi ca, vi ce, vi (D 210 b), vu, vu] [] (D, SS L 1 2 2 c4 c5 c6) Q)) : wp 95 0 [vr 87, vi b, vi ca, vi ce, vu, vu, vu] [] (D, SS L 1 2 2 c4 c5 c6) Q := vc_wp [4] 200 _ _ _ _ _ _ (show wp 95 4 [vr 87, vi b, vi ca, vi ce, vu, vu, vu] [vr 197] (D, SS L 1 2 2 c4 c5 c6) Q from vc_wp [7] 200 _ _ _ _ _ _ (show wp 95 7 [vr 87, vi b, vi ca, vi ce, vu, vu, vu] [vr 210] (D, SS L 1 2 2 c4 c5 c6) Q from vc_wp [11] 200 _ _ _ _ _ _ (show (0 ≤ b ∧ b < 48) ∧ (wp 95 11 [vr 87, vi b, vi ca, vi ce, vi (D 210 b), vu, vu] [] (D, SS L 1 2 2 c4 c5 c6) Q) from ⟨H.1, H.2⟩)))
theorem r95_11 {L c4 c5 c6 : Nat} {D : Dt} {Q : Out → Wd → Prop} {b ca ce i : Int} (H : (0 ≤ b ∧ b < 48) ∧ ((i < D 211 b → ((0 ≤ i ∧ i < 1024) ∧ ((0 ≤ i ∧ i < 1024) ∧ (((-2147483648) ≤ i + 1 ∧ i + 1 ≤ 2147483647) ∧ (wp 95 11 [vr 87, vi b, vi ca, vi ce, vi (i + 1), vu, vu] [] (up (up D 88 i 0) 89 i 0, SS L 1 2 2 c4 c5 c6) Q))))) ∧ (¬ (i < D 211 b) → ((0 ≤ b ∧ b < 48) ∧ (∃ (xh2 : (Int → Nat → Prop) × Int × Int × (Int → Nat)), (HR xh2.2.1 xh2.2.2.1 xh2.2.2.2 (D 88) ∧ 0 ≤ xh2.2.1 ∧ xh2.2.2.1 ≤ 1024 ∧ xh2.2.1 ≤ (D 210 b) ∧ (D 210 b) < xh2.2.2.1 ∧ 0 ≤ (0 : Int) ∧ (0 : Int) ≤ 8 ∧ xh2.1 (D 210 b) ((0 : Int)).toNat) ∧ ((∀ (E4 : Dt) (G5 : Int → Nat), (FrH D E4 ∧ E4 89 = D 89 ∧ HR xh2.2.1 xh2.2.2.1 G5 (E4 88) ∧ RS xh2.1 xh2.2.1 xh2.2.2.1 xh2.2.2.2 (D 87 7) G5 (E4 87 7) ∧ (G5 (D 210 b)).testBit ((0 : Int)).toNat = true) → (wp 95 61 [vr 87, vi b, vi ca, vi ce, vu, vu, vu] [] (E4, SS L 1 2 2 c4 c5 c6) Q)))))))) : wp 95 11 [vr 87, vi b, vi ca, vi ce, vi i, vu, vu] [] (D, SS L 1 2 2 c4 c5 c6) Q := vc_wp [17] 200 _ _ _ _ _ _ (show wp 95 17 [vr 87, vi b, vi ca, vi ce, vi i, vu, vu] [vr 197, vi i] (D, SS L 1 2 2 c4 c5 c6) Q from vc_wp [20] 200 _ _ _ _ _ _ (show wp 95 20 [vr 87, vi b, vi ca, vi ce, vi i, vu, vu] [vr 211, vi i] (D, SS L 1 2 2 c4 c5 c6) Q from vc_wp [29, 52] 200 _ _ _ _ _ _ (show (0 ≤ b ∧ b < 48) ∧ ((i < D 211 b → (wp 95 29 [vr 87, vi b, vi ca, vi ce, vi i, vu, vu] [vr 88] (D, SS L 1 2 2 c4 c5 c6) Q)) ∧ (¬ (i < D 211 b) → (wp 95 52 [vr 87, vi b, vi ca, vi ce, vi i, vu, vu] [vr 197, vr 87] (D, SS L 1 2 2 c4 c5 c6) Q))) from ⟨H.1, ⟨fun h7 => vc_wp [37] 200 _ _ _ _ _ _ (show (0 ≤ i ∧ i < 1024) ∧ (wp 95 37 [vr 87, vi b, vi ca, vi ce, vi i, vu, vu] [vr 89] (up D 88 i 0, SS L 1 2 2 c4 c5 c6) Q) from ⟨(H.2.1 h7).1, vc_wp [44] 200 _ _ _ _ _ _ (show ((0 : Int) ≤ 0 ∧ 0 ≤ (1 : Int)) ∧ ((0 ≤ i ∧ i < 1024) ∧ (wp 95 44 [vr 87, vi b, vi ca, vi ce, vi (w32 (i + 1)), vu, vu] [] (up (up D 88 i 0) 89 i 0, SS L 1 2 2 c4 c5 c6) Q)) from ⟨(by decide), ⟨(H.2.1 h7).2.1, w32_i (fun z1 : Int => wp 95 44 [vr 87, vi b, vi ca, vi ce, vi z1, vu, vu] [] (up (up D 88 i 0) 89 i 0, SS L 1 2 2 c4 c5 c6) Q) ((H.2.1 h7).2.2).1 (vc_wp [11] 200 _ _ _ _ _ _ (show wp 95 11 [vr 87, vi b, vi ca, vi ce, vi (i + 1), vu, vu] [] (up (up D 88 i 0) 89 i 0, SS L 1 2 2 c4 c5 c6) Q from ((H.2.1 h7).2.2).2))⟩⟩)⟩), fun h8 => vc_wp [55] 200 _ _ _ _ _ _ (show wp 95 55 [vr 87, vi b, vi ca, vi ce, vi i, vu, vu] [vr 210, vr 87] (D, SS L 1 2 2 c4 c5 c6) Q from vc_wp [] 200 _ _ _ _ _ _ (show (0 ≤ b ∧ b < 48) ∧ (wp 96 0 [vr 87, vi (D 210 b), vi 0] [] (D, SS L 1 2 2 c4 c5 c6) (aft wp 95 58 [vr 87, vi b, vi ca, vi ce, vi i, vu, vu] [] Q)) from ⟨(H.2.2 h8).1, Exists.elim ((H.2.2 h8).2) fun xh2 x3 => s96 ⟨xh2, x3.1, (fun E4 G5 q6 => (show wp 95 61 [vr 87, vi b, vi ca, vi ce, vi i, vu, vu] [] (E4, SS L 1 2 2 c4 c5 c6) Q from wp_d (Lle.k rfl (Lle.k rfl (Lle.k rfl (Lle.k rfl (Lle.v rfl (Lle.k rfl (Lle.k rfl (Lle.nil)))))))) ((x3.2 E4 G5 q6))))⟩⟩))⟩⟩)))
theorem r95_61 {L c4 c5 c6 : Nat} {D : Dt} {Q : Out → Wd → Prop} {b ca ce : Int} (H : (0 ≤ b ∧ b < 48) ∧ (wp 95 77 [vr 87, vi b, vi ca, vi ce, vi (D 210 b), vu, vu] [] (up D 87 7 0, SS L 1 2 2 c4 c5 c6) Q)) : wp 95 61 [vr 87, vi b, vi ca, vi ce, vu, vu, vu] [] (D, SS L 1 2 2 c4 c5 c6) Q := vc_wp [66] 200 _ _ _ _ _ _ (show ((0 : Int) ≤ 0 ∧ 0 ≤ (1 : Int)) ∧ (wp 95 66 [vr 87, vi b, vi ca, vi ce, vu, vu, vu] [] (up D 87 7 0, SS L 1 2 2 c4 c5 c6) Q) from ⟨(by decide), vc_wp [70] 200 _ _ _ _ _ _ (show wp 95 70 [vr 87, vi b, vi ca, vi ce, vu, vu, vu] [vr 197] (up D 87 7 0, SS L 1 2 2 c4 c5 c6) Q from vc_wp [73] 200 _ _ _ _ _ _ (show wp 95 73 [vr 87, vi b, vi ca, vi ce, vu, vu, vu] [vr 210] (up D 87 7 0, SS L 1 2 2 c4 c5 c6) Q from vc_wp [77] 200 _ _ _ _ _ _ (show (0 ≤ b ∧ b < 48) ∧ (wp 95 77 [vr 87, vi b, vi ca, vi ce, vi (D 210 b), vu, vu] [] (up D 87 7 0, SS L 1 2 2 c4 c5 c6) Q) from ⟨H.1, H.2⟩)))⟩)
theorem r95_77 {L c4 c5 c6 : Nat} {D : Dt} {Q : Out → Wd → Prop} {b ca ce i : Int} (H : (0 ≤ b ∧ b < 48) ∧ ((i < D 211 b → (wp 95 94 [vr 87, vi b, vi ca, vi ce, vi i, vi 0, vu] [] (D, SS L 1 2 2 c4 c5 c6) Q)) ∧ (¬ (i < D 211 b) → ((D 87 7 = 0 → ((0 ≤ b ∧ b < 48) ∧ (wp 95 201 [vr 87, vi b, vu, vu, vi (D 210 b), vu, vu] [] (D, SS L 1 2 2 c4 c5 c6) Q))) ∧ (¬ (D 87 7 = 0) → (wp 95 61 [vr 87, vi b, vi ca, vi ce, vu, vu, vu] [] (D, SS L 1 2 2 c4 c5 c6) Q)))))) : wp 95 77 [vr 87, vi b, vi ca, vi ce, vi i, vu, vu] [] (D, SS L 1 2 2 c4 c5 c6) Q := vc_wp [83] 200 _ _ _ _ _ _ (show wp 95 83 [vr 87, vi b, vi ca, vi ce, vi i, vu, vu] [vr 197, vi i] (D, SS L 1 2 2 c4 c5 c6) Q from vc_wp [86] 200 _ _ _ _ _ _ (show wp 95 86 [vr 87, vi b, vi ca, vi ce, vi i, vu, vu] [vr 211, vi i] (D, SS L 1 2 2 c4 c5 c6) Q from vc_wp [61, 94, 194] 200 _ _ _ _ _ _ (show (0 ≤ b ∧ b < 48) ∧ ((i < D 211 b → (wp 95 94 [vr 87, vi b, vi ca, vi ce, vi i, vi 0, vu] [] (D, SS L 1 2 2 c4 c5 c6) Q)) ∧ (¬ (i < D 211 b) → ((D 87 7 = 0 → (wp 95 194 [vr 87, vi b, vi ca, vi ce, vi i, vu, vu] [vr 197] (D, SS L 1 2 2 c4 c5 c6) Q)) ∧ (¬ (D 87 7 = 0) → (wp 95 61 [vr 87, vi b, vi ca, vi ce, vi i, vu, vu] [] (D, SS L 1 2 2 c4 c5 c6) Q))))) from ⟨H.1, ⟨fun h3 => (H.2.1 h3), fun h4 => ⟨fun h1 => vc_wp [197] 200 _ _ _ _ _ _ (show wp 95 197 [vr 87, vi b, vi ca, vi ce, vi i, vu, vu] [vr 210] (D, SS L 1 2 2 c4 c5 c6) Q from vc_wp [201] 200 _ _ _ _ _ _ (show (0 ≤ b ∧ b < 48) ∧ (wp 95 201 [vr 87, vi b, vi ca, vi ce, vi (D 210 b), vu, vu] [] (D, SS L 1 2 2 c4 c5 c6) Q) from ⟨((H.2.2 h4).1 h1).1, wp_d (Lle.k rfl (Lle.k rfl (Lle.v rfl (Lle.v rfl (Lle.k rfl (Lle.k rfl (Lle.k rfl (Lle.nil)))))))) (((H.2.2 h4).1 h1).2)⟩)), fun h2 => wp_d (Lle.k rfl (Lle.k rfl (Lle.k rfl (Lle.k rfl (Lle.v rfl (Lle.k rfl (Lle.k rfl (Lle.nil)))))))) (((H.2.2 h4).2 h2))⟩⟩⟩)))
theorem r95_94 {L c4 c5 c6 : Nat} {D : Dt} {Q : Out → Wd → Prop} {b ca ce i h : Int} (H : ((8 < h → (((-2147483648) ≤ i + 1 ∧ i + 1 ≤ 2147483647) ∧ (wp 95 77 [vr 87, vi b, vi ca, vi ce, vi (i + 1), vu, vu] [] (D, SS L 1 2 2 c4 c5 c6) Q))) ∧ (¬ (8 < h) → ((0 ≤ i ∧ i < 1024) ∧ ((band (ishr (D 88 i) h) 1 = 0 → (wp 95 171 [vr 87, vi b, vi ca, vi ce, vi i, vi h, vu] [] (D, SS L 1 2 2 c4 c5 c6) Q)) ∧ (¬ (band (ishr (D 88 i) h) 1 = 0) → (∃ (xs2 : List Int × List Int × XB × XB × Int × (Int → Nat)), (SCk xs2.2.2.1 xs2.2.2.2.1 D ∧ PH xs2.1 xs2.2.1 xs2.2.2.1 xs2.2.2.2.1 ∧ (0 ≤ xs2.2.2.2.2.1 ∧ xs2.2.2.2.2.1 < (xs2.2.2.1 4).length) ∧ HR (lf (xs2.2.2.2.1 11) xs2.2.2.2.2.1) (lf (xs2.2.2.2.1 12) xs2.2.2.2.2.1) xs2.2.2.2.2.2 (D 88) ∧ (lf (xs2.2.2.2.1 11) xs2.2.2.2.2.1 ≤ i ∧ i < lf (xs2.2.2.2.1 12) xs2.2.2.2.2.1) ∧ (0 ≤ h ∧ h ≤ 8) ∧ Rch xs2.2.2.1 xs2.2.2.2.1 xs2.2.2.2.2.1 i (h).toNat) ∧ (((¬ hgd xs2.2.2.1 xs2.2.2.2.1 i (h).toNat) → (wp 95 171 [vr 87, vi b, vi ca, vi ce, vi i, vi h, vu] [] (up D 89 i 1, SS L 1 2 2 c4 c5 c6) Q)) ∧ (∀ (E7 : Dt) (G8 : Int → Nat), (hgd xs2.2.2.1 xs2.2.2.2.1 i (h).toNat ∧ FrH D E7 ∧ E7 89 = D 89 ∧ HR (lf (xs2.2.2.2.1 11) xs2.2.2.2.2.1) (lf (xs2.2.2.2.1 12) xs2.2.2.2.2.1) G8 (E7 88) ∧ RS (Rch xs2.2.2.1 xs2.2.2.2.1 xs2.2.2.2.2.1) (lf (xs2.2.2.2.1 11) xs2.2.2.2.2.1) (lf (xs2.2.2.2.1 12) xs2.2.2.2.2.1) xs2.2.2.2.2.2 (D 87 7) G8 (E7 87 7) ∧ (goOn (lf (xs2.2.2.2.1 0) i) → (G8 (i + 1)).testBit (hth xs2.2.2.1 xs2.2.2.2.1 i (h).toNat) = true) ∧ (isJ (lf (xs2.2.2.2.1 0) i) → (G8 (lf (xs2.2.2.2.1 1) i)).testBit (hth xs2.2.2.1 xs2.2.2.2.1 i (h).toNat) = true)) → (wp 95 133 [vr 87, vi b, vi ca, vi ce, vi i, vi h, vi ca] [] (E7, SS L 1 2 2 c4 c5 c6) Q)))))))))) : wp 95 94 [vr 87, vi b, vi ca, vi ce, vi i, vi h, vu] [] (D, SS L 1 2 2 c4 c5 c6) Q := vc_wp [105, 180] 200 _ _ _ _ _ _ (show ((8 < h → (wp 95 180 [vr 87, vi b, vi ca, vi ce, vi (w32 (i + 1)), vi h, vu] [] (D, SS L 1 2 2 c4 c5 c6) Q)) ∧ (¬ (8 < h) → (wp 95 105 [vr 87, vi b, vi ca, vi ce, vi i, vi h, vu] [vr 88] (D, SS L 1 2 2 c4 c5 c6) Q))) from ⟨fun h14 => w32_i (fun z1 : Int => wp 95 180 [vr 87, vi b, vi ca, vi ce, vi z1, vi h, vu] [] (D, SS L 1 2 2 c4 c5 c6) Q) ((H.1 h14)).1 (vc_wp [77] 200 _ _ _ _ _ _ (show wp 95 77 [vr 87, vi b, vi ca, vi ce, vi (i + 1), vi h, vu] [] (D, SS L 1 2 2 c4 c5 c6) Q from wp_d (Lle.k rfl (Lle.k rfl (Lle.k rfl (Lle.k rfl (Lle.k rfl (Lle.v rfl (Lle.k rfl (Lle.nil)))))))) (((H.1 h14)).2))), fun h15 => vc_wp [171] 200 _ _ _ _ _ _ (show (0 ≤ i ∧ i < 1024) ∧ ((band (ishr (D 88 i) h) 1 = 0 → (wp 95 171 [vr 87, vi b, vi ca, vi ce, vi i, vi h, vu] [] (D, SS L 1 2 2 c4 c5 c6) Q)) ∧ (¬ (band (ishr (D 88 i) h) 1 = 0) → (wp 97 0 [vr 87, vi i, vi h, vu] [] (D, SS L 1 2 2 c4 c5 c6) (aft wp 95 121 [vr 87, vi b, vi ca, vi ce, vi i, vi h, vu] [] Q)))) from ⟨(H.2 h15).1, ⟨fun h12 => ((H.2 h15).2.1 h12), fun h13 => Exists.elim (((H.2 h15).2.2 h13)) fun xs2 x3 => s97 ⟨xs2, x3.1, (fun q4 => (show wp 95 124 [vr 87, vi b, vi ca, vi ce, vi i, vi h, vu] [vi 0] (up D 89 i 1, SS L 1 2 2 c4 c5 c6) Q from vc_wp [133, 171] 200 _ _ _ _ _ _ (show (((0 : Int) = 0 → (wp 95 171 [vr 87, vi b, vi ca, vi ce, vi i, vi h, vu] [] (up D 89 i 1, SS L 1 2 2 c4 c5 c6) Q)) ∧ (¬ ((0 : Int) = 0) → (wp 95 133 [vr 87, vi b, vi ca, vi ce, vi i, vi h, vi ca] [] (up D 89 i 1, SS L 1 2 2 c4 c5 c6) Q))) from ⟨fun _ => (x3.2.1 q4), fun h6 => absurd (by decide) h6⟩))), (fun E7 G8 q9 => (show wp 95 124 [vr 87, vi b, vi ca, vi ce, vi i, vi h, vu] [vi 1] (E7, SS L 1 2 2 c4 c5 c6) Q from vc_wp [133, 171] 200 _ _ _ _ _ _ (show (((1 : Int) = 0 → (wp 95 171 [vr 87, vi b, vi ca, vi ce, vi i, vi h, vu] [] (E7, SS L 1 2 2 c4 c5 c6) Q)) ∧ (¬ ((1 : Int) = 0) → (wp 95 133 [vr 87, vi b, vi ca, vi ce, vi i, vi h, vi ca] [] (E7, SS L 1 2 2 c4 c5 c6) Q))) from ⟨fun h10 => absurd h10 (by decide), fun _ => (x3.2.2 E7 G8 q9)⟩)))⟩⟩⟩)⟩)
theorem r95_133 {L c4 c5 c6 : Nat} {D : Dt} {Q : Out → Wd → Prop} {b ca ce i h c : Int} (H : ((c < ce → ((0 ≤ c ∧ c < 64) ∧ ((((D 219 c ≤ i ∧ i < D 220 c → ((0 ≤ c ∧ c < 64) ∧ (∃ (xh3 : (Int → Nat → Prop) × Int × Int × (Int → Nat)), (HR xh3.2.1 xh3.2.2.1 xh3.2.2.2 (D 88) ∧ 0 ≤ xh3.2.1 ∧ xh3.2.2.1 ≤ 1024 ∧ xh3.2.1 ≤ (D 221 c) ∧ (D 221 c) < xh3.2.2.1 ∧ 0 ≤ (1 : Int) ∧ (1 : Int) ≤ 8 ∧ xh3.1 (D 221 c) ((1 : Int)).toNat) ∧ ((∀ (E5 : Dt) (G6 : Int → Nat), (FrH D E5 ∧ E5 89 = D 89 ∧ HR xh3.2.1 xh3.2.2.1 G6 (E5 88) ∧ RS xh3.1 xh3.2.1 xh3.2.2.1 xh3.2.2.2 (D 87 7) G6 (E5 87 7) ∧ (G6 (D 221 c)).testBit ((1 : Int)).toNat = true) → (wp 95 165 [vr 87, vi b, vi ca, vi ce, vi i, vi h, vi c] [] (E5, SS L 1 2 2 c4 c5 c6) Q)))))) ∧ (¬ (D 219 c ≤ i ∧ i < D 220 c) → (wp 95 165 [vr 87, vi b, vi ca, vi ce, vi i, vi h, vi c] [] (D, SS L 1 2 2 c4 c5 c6) Q))))))) ∧ (¬ (c < ce) → (wp 95 171 [vr 87, vi b, vi ca, vi ce, vi i, vi h, vu] [] (D, SS L 1 2 2 c4 c5 c6) Q)))) : wp 95 133 [vr 87, vi b, vi ca, vi ce, vi i, vi h, vi c] [] (D, SS L 1 2 2 c4 c5 c6) Q := vc_wp [171] 200 _ _ _ _ _ _ (show ((c < ce → (wp 98 0 [vr 87, vi c, vi i] [] (D, SS L 1 2 2 c4 c5 c6) (aft wp 95 144 [vr 87, vi b, vi ca, vi ce, vi i, vi h, vi c] [] Q))) ∧ (¬ (c < ce) → (wp 95 171 [vr 87, vi b, vi ca, vi ce, vi i, vi h, vi c] [] (D, SS L 1 2 2 c4 c5 c6) Q))) from ⟨fun h10 => s98 ⟨(H.1 h10).1, (show wp 95 147 [vr 87, vi b, vi ca, vi ce, vi i, vi h, vi c] [vi (ib (D 219 c ≤ i ∧ i < D 220 c))] (D, SS L 1 2 2 c4 c5 c6) Q from vc_wp [155, 165] 200 _ _ _ _ _ _ (show ((ib (D 219 c ≤ i ∧ i < D 220 c) = 0 → (wp 95 165 [vr 87, vi b, vi ca, vi ce, vi i, vi h, vi c] [] (D, SS L 1 2 2 c4 c5 c6) Q)) ∧ (¬ (ib (D 219 c ≤ i ∧ i < D 220 c) = 0) → (wp 95 155 [vr 87, vi b, vi ca, vi ce, vi i, vi h, vi c] [vr 197, vr 87] (D, SS L 1 2 2 c4 c5 c6) Q))) from ⟨fun h8 => ((H.1 h10).2.2 ((ib_z).mp h8)), fun h9 => vc_wp [158] 200 _ _ _ _ _ _ (show wp 95 158 [vr 87, vi b, vi ca, vi ce, vi i, vi h, vi c] [vr 221, vr 87] (D, SS L 1 2 2 c4 c5 c6) Q from vc_wp [] 200 _ _ _ _ _ _ (show (0 ≤ c ∧ c < 64) ∧ (wp 96 0 [vr 87, vi (D 221 c), vi 1] [] (D, SS L 1 2 2 c4 c5 c6) (aft wp 95 162 [vr 87, vi b, vi ca, vi ce, vi i, vi h, vi c] [] Q)) from ⟨((H.1 h10).2.1 (Classical.not_not.mp (mt (ib_z).mpr h9))).1, Exists.elim (((H.1 h10).2.1 (Classical.not_not.mp (mt (ib_z).mpr h9))).2) fun xh3 x4 => s96 ⟨xh3, x4.1, (fun E5 G6 q7 => (show wp 95 165 [vr 87, vi b, vi ca, vi ce, vi i, vi h, vi c] [] (E5, SS L 1 2 2 c4 c5 c6) Q from (x4.2 E5 G6 q7)))⟩⟩))⟩))⟩, fun h11 => wp_d (Lle.k rfl (Lle.k rfl (Lle.k rfl (Lle.k rfl (Lle.k rfl (Lle.k rfl (Lle.v rfl (Lle.nil)))))))) ((H.2 h11))⟩)
theorem r95_165 {L c4 c5 c6 : Nat} {D : Dt} {Q : Out → Wd → Prop} {b ca ce i h c : Int} (H : ((-2147483648) ≤ c + 1 ∧ c + 1 ≤ 2147483647) ∧ (wp 95 133 [vr 87, vi b, vi ca, vi ce, vi i, vi h, vi (c + 1)] [] (D, SS L 1 2 2 c4 c5 c6) Q)) : wp 95 165 [vr 87, vi b, vi ca, vi ce, vi i, vi h, vi c] [] (D, SS L 1 2 2 c4 c5 c6) Q := vc_wp [168] 200 _ _ _ _ _ _ (show wp 95 168 [vr 87, vi b, vi ca, vi ce, vi i, vi h, vi (w32 (c + 1))] [] (D, SS L 1 2 2 c4 c5 c6) Q from w32_i (fun z1 : Int => wp 95 168 [vr 87, vi b, vi ca, vi ce, vi i, vi h, vi z1] [] (D, SS L 1 2 2 c4 c5 c6) Q) (H).1 (vc_wp [133] 200 _ _ _ _ _ _ (show wp 95 133 [vr 87, vi b, vi ca, vi ce, vi i, vi h, vi (c + 1)] [] (D, SS L 1 2 2 c4 c5 c6) Q from (H).2)))
theorem r95_171 {L c4 c5 c6 : Nat} {D : Dt} {Q : Out → Wd → Prop} {b ca ce i h : Int} (H : ((-2147483648) ≤ h + 1 ∧ h + 1 ≤ 2147483647) ∧ (wp 95 94 [vr 87, vi b, vi ca, vi ce, vi i, vi (h + 1), vu] [] (D, SS L 1 2 2 c4 c5 c6) Q)) : wp 95 171 [vr 87, vi b, vi ca, vi ce, vi i, vi h, vu] [] (D, SS L 1 2 2 c4 c5 c6) Q := vc_wp [174] 200 _ _ _ _ _ _ (show wp 95 174 [vr 87, vi b, vi ca, vi ce, vi i, vi (w32 (h + 1)), vu] [] (D, SS L 1 2 2 c4 c5 c6) Q from w32_i (fun z1 : Int => wp 95 174 [vr 87, vi b, vi ca, vi ce, vi i, vi z1, vu] [] (D, SS L 1 2 2 c4 c5 c6) Q) (H).1 (vc_wp [94] 200 _ _ _ _ _ _ (show wp 95 94 [vr 87, vi b, vi ca, vi ce, vi i, vi (h + 1), vu] [] (D, SS L 1 2 2 c4 c5 c6) Q from (H).2)))
theorem r95_201 {L c4 c5 c6 : Nat} {D : Dt} {Q : Out → Wd → Prop} {b i : Int} (H : (0 ≤ b ∧ b < 48) ∧ ((i < D 211 b → ((0 ≤ i ∧ i < 1024) ∧ ((D 89 i = 0 → ((0 ≤ i ∧ i < 1024) ∧ ((0 ≤ i ∧ i < 1024) ∧ (((-2147483648) ≤ (D 88 i) - 1 ∧ (D 88 i) - 1 ≤ 2147483647) ∧ ((band (D 88 i) ((D 88 i) - 1) = 0 → (wp 95 267 [vr 87, vi b, vu, vu, vi i, vi 0, vu] [] (D, SS L 1 2 2 c4 c5 c6) Q)) ∧ (¬ (band (D 88 i) ((D 88 i) - 1) = 0) → (wp 95 245 [vr 87, vu, vu, vu, vi i, vu, vu] [] (D, SS L 1 2 2 c4 c5 c6) Q))))))) ∧ (¬ (D 89 i = 0) → (wp 95 245 [vr 87, vu, vu, vu, vi i, vu, vu] [] (D, SS L 1 2 2 c4 c5 c6) Q))))) ∧ (¬ (i < D 211 b) → (Q (.inl []) (D, SS L 1 2 2 c4 c5 c6))))) : wp 95 201 [vr 87, vi b, vu, vu, vi i, vu, vu] [] (D, SS L 1 2 2 c4 c5 c6) Q := vc_wp [207] 200 _ _ _ _ _ _ (show wp 95 207 [vr 87, vi b, vu, vu, vi i, vu, vu] [vr 197, vi i] (D, SS L 1 2 2 c4 c5 c6) Q from vc_wp [210] 200 _ _ _ _ _ _ (show wp 95 210 [vr 87, vi b, vu, vu, vi i, vu, vu] [vr 211, vi i] (D, SS L 1 2 2 c4 c5 c6) Q from vc_wp [219] 200 _ _ _ _ _ _ (show (0 ≤ b ∧ b < 48) ∧ ((i < D 211 b → (wp 95 219 [vr 87, vi b, vu, vu, vi i, vu, vu] [vr 89] (D, SS L 1 2 2 c4 c5 c6) Q)) ∧ (¬ (i < D 211 b) → (Q (.inl []) (D, SS L 1 2 2 c4 c5 c6)))) from ⟨H.1, ⟨fun h6 => vc_wp [229, 245] 200 _ _ _ _ _ _ (show (0 ≤ i ∧ i < 1024) ∧ ((D 89 i = 0 → (wp 95 229 [vr 87, vi b, vu, vu, vi i, vu, vu] [vr 88] (D, SS L 1 2 2 c4 c5 c6) Q)) ∧ (¬ (D 89 i = 0) → (wp 95 245 [vr 87, vi b, vu, vu, vi i, vu, vu] [] (D, SS L 1 2 2 c4 c5 c6) Q))) from ⟨(H.2.1 h6).1, ⟨fun h4 => vc_wp [236] 200 _ _ _ _ _ _ (show (0 ≤ i ∧ i < 1024) ∧ (wp 95 236 [vr 87, vi b, vu, vu, vi i, vu, vu] [vr 88, vi (D 88 i)] (D, SS L 1 2 2 c4 c5 c6) Q) from ⟨((H.2.1 h6).2.1 h4).1, vc_wp [241] 200 _ _ _ _ _ _ (show (0 ≤ i ∧ i < 1024) ∧ (wp 95 241 [vr 87, vi b, vu, vu, vi i, vu, vu] [vi (w32 ((D 88 i) - 1)), vi (D 88 i)] (D, SS L 1 2 2 c4 c5 c6) Q) from ⟨((H.2.1 h6).2.1 h4).2.1, w32_i (fun z3 : Int => wp 95 241 [vr 87, vi b, vu, vu, vi i, vu, vu] [vi z3, vi (D 88 i)] (D, SS L 1 2 2 c4 c5 c6) Q) (((H.2.1 h6).2.1 h4).2.2).1 (vc_wp [245, 267] 200 _ _ _ _ _ _ (show ((band (D 88 i) ((D 88 i) - 1) = 0 → (wp 95 267 [vr 87, vi b, vu, vu, vi i, vi 0, vu] [] (D, SS L 1 2 2 c4 c5 c6) Q)) ∧ (¬ (band (D 88 i) ((D 88 i) - 1) = 0) → (wp 95 245 [vr 87, vi b, vu, vu, vi i, vu, vu] [] (D, SS L 1 2 2 c4 c5 c6) Q))) from ⟨fun h1 => ((((H.2.1 h6).2.1 h4).2.2).2.1 h1), fun h2 => wp_d (Lle.k rfl (Lle.v rfl (Lle.k rfl (Lle.k rfl (Lle.k rfl (Lle.k rfl (Lle.k rfl (Lle.nil)))))))) (((((H.2.1 h6).2.1 h4).2.2).2.2 h2))⟩))⟩)⟩), fun h5 => wp_d (Lle.k rfl (Lle.v rfl (Lle.k rfl (Lle.k rfl (Lle.k rfl (Lle.k rfl (Lle.k rfl (Lle.nil)))))))) (((H.2.1 h6).2.2 h5))⟩⟩), fun h7 => (H.2.2 h7)⟩⟩)))
theorem r95_245 {L c4 c5 c6 : Nat} {D : Dt} {Q : Out → Wd → Prop} {i : Int} (H : (0 ≤ i ∧ i < 1024) ∧ (Q (.inr 52) (up (up D 51 1 4) 51 2 (D 215 i), SS L 1 2 2 c4 c5 c6))) : wp 95 245 [vr 87, vu, vu, vu, vi i, vu, vu] [] (D, SS L 1 2 2 c4 c5 c6) Q := vc_wp [249] 200 _ _ _ _ _ _ (show wp 95 249 [vr 87, vu, vu, vu, vi i, vu, vu] [vr 51] (D, SS L 1 2 2 c4 c5 c6) Q from vc_wp [254] 200 _ _ _ _ _ _ (show wp 95 254 [vr 87, vu, vu, vu, vi i, vu, vu] [vr 197, vi 4, vr 51] (D, SS L 1 2 2 c4 c5 c6) Q from vc_wp [257] 200 _ _ _ _ _ _ (show wp 95 257 [vr 87, vu, vu, vu, vi i, vu, vu] [vr 215, vi 4, vr 51] (D, SS L 1 2 2 c4 c5 c6) Q from vc_wp [] 200 _ _ _ _ _ _ (show (0 ≤ i ∧ i < 1024) ∧ (wp 28 0 [vr 51, vi 4, vi (D 215 i)] [] (D, SS L 1 2 2 c4 c5 c6) (aft wp 95 260 [vr 87, vu, vu, vu, vi i, vu, vu] [] Q)) from ⟨H.1, r28_0 (show wp 95 263 [vr 87, vu, vu, vu, vi i, vu, vu] [vr 52] (up (up D 51 1 4) 51 2 (D 215 i), SS L 1 2 2 c4 c5 c6) Q from vc_wp [] 200 _ _ _ _ _ _ (show Q (.inr 52) (up (up D 51 1 4) 51 2 (D 215 i), SS L 1 2 2 c4 c5 c6) from H.2))⟩))))
theorem r95_267 {L c4 c5 c6 : Nat} {D : Dt} {Q : Out → Wd → Prop} {b i h : Int} (H : ((h < 8 → ((0 ≤ i ∧ i < 1024) ∧ ((band (ishr (D 88 i) h) 1 = 0 → (((-2147483648) ≤ h + 1 ∧ h + 1 ≤ 2147483647) ∧ (wp 95 267 [vr 87, vi b, vu, vu, vi i, vi (h + 1), vu] [] (D, SS L 1 2 2 c4 c5 c6) Q))) ∧ (¬ (band (ishr (D 88 i) h) 1 = 0) → ((0 ≤ i ∧ i < 1024) ∧ ((D 88 i = 0 → ((0 ≤ i ∧ i < 1024) ∧ (((-2147483648) ≤ i + 1 ∧ i + 1 ≤ 2147483647) ∧ (wp 95 201 [vr 87, vi b, vu, vu, vi (i + 1), vu, vu] [] (up D 217 i (-1), SS L 1 2 2 c4 c5 c6) Q)))) ∧ (¬ (D 88 i = 0) → ((0 ≤ i ∧ i < 1024) ∧ (((-2147483648) ≤ i + 1 ∧ i + 1 ≤ 2147483647) ∧ (wp 95 201 [vr 87, vi b, vu, vu, vi (i + 1), vu, vu] [] (up D 217 i h, SS L 1 2 2 c4 c5 c6) Q)))))))))) ∧ (¬ (h < 8) → ((0 ≤ i ∧ i < 1024) ∧ ((D 88 i = 0 → ((0 ≤ i ∧ i < 1024) ∧ (((-2147483648) ≤ i + 1 ∧ i + 1 ≤ 2147483647) ∧ (wp 95 201 [vr 87, vi b, vu, vu, vi (i + 1), vu, vu] [] (up D 217 i (-1), SS L 1 2 2 c4 c5 c6) Q)))) ∧ (¬ (D 88 i = 0) → ((0 ≤ i ∧ i < 1024) ∧ (((-2147483648) ≤ i + 1 ∧ i + 1 ≤ 2147483647) ∧ (wp 95 201 [vr 87, vi b, vu, vu, vi (i + 1), vu, vu] [] (up D 217 i h, SS L 1 2 2 c4 c5 c6) Q))))))))) : wp 95 267 [vr 87, vi b, vu, vu, vi i, vi h, vu] [] (D, SS L 1 2 2 c4 c5 c6) Q := vc_wp [278, 299] 200 _ _ _ _ _ _ (show ((h < 8 → (wp 95 278 [vr 87, vi b, vu, vu, vi i, vi h, vu] [vr 88] (D, SS L 1 2 2 c4 c5 c6) Q)) ∧ (¬ (h < 8) → (wp 95 299 [vr 87, vi b, vu, vu, vi i, vi h, vu] [vr 197] (D, SS L 1 2 2 c4 c5 c6) Q))) from ⟨fun h12 => vc_wp [292, 299] 200 _ _ _ _ _ _ (show (0 ≤ i ∧ i < 1024) ∧ ((band (ishr (D 88 i) h) 1 = 0 → (wp 95 292 [vr 87, vi b, vu, vu, vi i, vi (w32 (h + 1)), vu] [] (D, SS L 1 2 2 c4 c5 c6) Q)) ∧ (¬ (band (ishr (D 88 i) h) 1 = 0) → (wp 95 299 [vr 87, vi b, vu, vu, vi i, vi h, vu] [vr 197] (D, SS L 1 2 2 c4 c5 c6) Q))) from ⟨(H.1 h12).1, ⟨fun h6 => w32_i (fun z1 : Int => wp 95 292 [vr 87, vi b, vu, vu, vi i, vi z1, vu] [] (D, SS L 1 2 2 c4 c5 c6) Q) (((H.1 h12).2.1 h6)).1 (vc_wp [267] 200 _ _ _ _ _ _ (show wp 95 267 [vr 87, vi b, vu, vu, vi i, vi (h + 1), vu] [] (D, SS L 1 2 2 c4 c5 c6) Q from (((H.1 h12).2.1 h6)).2)), fun h7 => vc_wp [302] 200 _ _ _ _ _ _ (show wp 95 302 [vr 87, vi b, vu, vu, vi i, vi h, vu] [vr 217] (D, SS L 1 2 2 c4 c5 c6) Q from vc_wp [308] 200 _ _ _ _ _ _ (show wp 95 308 [vr 87, vi b, vu, vu, vi i, vi h, vu] [vr 88, vi i, vr 217] (D, SS L 1 2 2 c4 c5 c6) Q from vc_wp [324] 200 _ _ _ _ _ _ (show (0 ≤ i ∧ i < 1024) ∧ ((D 88 i = 0 → ((0 ≤ i ∧ i < 1024) ∧ (wp 95 324 [vr 87, vi b, vu, vu, vi (w32 (i + 1)), vi h, vu] [] (up D 217 i (-1), SS L 1 2 2 c4 c5 c6) Q))) ∧ (¬ (D 88 i = 0) → ((0 ≤ i ∧ i < 1024) ∧ (wp 95 324 [vr 87, vi b, vu, vu, vi (w32 (i + 1)), vi h, vu] [] (up D 217 i h, SS L 1 2 2 c4 c5 c6) Q)))) from ⟨((H.1 h12).2.2 h7).1, ⟨fun h4 => ⟨(((H.1 h12).2.2 h7).2.1 h4).1, w32_i (fun z2 : Int => wp 95 324 [vr 87, vi b, vu, vu, vi z2, vi h, vu] [] (up D 217 i (-1), SS L 1 2 2 c4 c5 c6) Q) ((((H.1 h12).2.2 h7).2.1 h4).2).1 (vc_wp [201] 200 _ _ _ _ _ _ (show wp 95 201 [vr 87, vi b, vu, vu, vi (i + 1), vi h, vu] [] (up D 217 i (-1), SS L 1 2 2 c4 c5 c6) Q from wp_d (Lle.k rfl (Lle.k rfl (Lle.k rfl (Lle.k rfl (Lle.k rfl (Lle.v rfl (Lle.k rfl (Lle.nil)))))))) (((((H.1 h12).2.2 h7).2.1 h4).2).2)))⟩, fun h5 => ⟨(((H.1 h12).2.2 h7).2.2 h5).1, w32_i (fun z3 : Int => wp 95 324 [vr 87, vi b, vu, vu, vi z3, vi h, vu] [] (up D 217 i h, SS L 1 2 2 c4 c5 c6) Q) ((((H.1 h12).2.2 h7).2.2 h5).2).1 (vc_wp [201] 200 _ _ _ _ _ _ (show wp 95 201 [vr 87, vi b, vu, vu, vi (i + 1), vi h, vu] [] (up D 217 i h, SS L 1 2 2 c4 c5 c6) Q from wp_d (Lle.k rfl (Lle.k rfl (Lle.k rfl (Lle.k rfl (Lle.k rfl (Lle.v rfl (Lle.k rfl (Lle.nil)))))))) (((((H.1 h12).2.2 h7).2.2 h5).2).2)))⟩⟩⟩)))⟩⟩), fun h13 => vc_wp [302] 200 _ _ _ _ _ _ (show wp 95 302 [vr 87, vi b, vu, vu, vi i, vi h, vu] [vr 217] (D, SS L 1 2 2 c4 c5 c6) Q from vc_wp [308] 200 _ _ _ _ _ _ (show wp 95 308 [vr 87, vi b, vu, vu, vi i, vi h, vu] [vr 88, vi i, vr 217] (D, SS L 1 2 2 c4 c5 c6) Q from vc_wp [324] 200 _ _ _ _ _ _ (show (0 ≤ i ∧ i < 1024) ∧ ((D 88 i = 0 → ((0 ≤ i ∧ i < 1024) ∧ (wp 95 324 [vr 87, vi b, vu, vu, vi (w32 (i + 1)), vi h, vu] [] (up D 217 i (-1), SS L 1 2 2 c4 c5 c6) Q))) ∧ (¬ (D 88 i = 0) → ((0 ≤ i ∧ i < 1024) ∧ (wp 95 324 [vr 87, vi b, vu, vu, vi (w32 (i + 1)), vi h, vu] [] (up D 217 i h, SS L 1 2 2 c4 c5 c6) Q)))) from ⟨(H.2 h13).1, ⟨fun h10 => ⟨((H.2 h13).2.1 h10).1, w32_i (fun z8 : Int => wp 95 324 [vr 87, vi b, vu, vu, vi z8, vi h, vu] [] (up D 217 i (-1), SS L 1 2 2 c4 c5 c6) Q) (((H.2 h13).2.1 h10).2).1 (vc_wp [201] 200 _ _ _ _ _ _ (show wp 95 201 [vr 87, vi b, vu, vu, vi (i + 1), vi h, vu] [] (up D 217 i (-1), SS L 1 2 2 c4 c5 c6) Q from wp_d (Lle.k rfl (Lle.k rfl (Lle.k rfl (Lle.k rfl (Lle.k rfl (Lle.v rfl (Lle.k rfl (Lle.nil)))))))) ((((H.2 h13).2.1 h10).2).2)))⟩, fun h11 => ⟨((H.2 h13).2.2 h11).1, w32_i (fun z9 : Int => wp 95 324 [vr 87, vi b, vu, vu, vi z9, vi h, vu] [] (up D 217 i h, SS L 1 2 2 c4 c5 c6) Q) (((H.2 h13).2.2 h11).2).1 (vc_wp [201] 200 _ _ _ _ _ _ (show wp 95 201 [vr 87, vi b, vu, vu, vi (i + 1), vi h, vu] [] (up D 217 i h, SS L 1 2 2 c4 c5 c6) Q from wp_d (Lle.k rfl (Lle.k rfl (Lle.k rfl (Lle.k rfl (Lle.k rfl (Lle.v rfl (Lle.k rfl (Lle.nil)))))))) ((((H.2 h13).2.2 h11).2).2)))⟩⟩⟩)))⟩)
/-- catches of a body, for one height -/
theorem l95c {L c4 c5 c6 : Nat} {D : Dt} {Q : Out → Wd → Prop} {ns ab : List Int} {X Y : XB} {b ca ce i h : Int} {H0 : Int → Nat} (hS : SCk X Y D) (hP : PH ns ab X Y) (b0 : 0 ≤ b) (b1 : b < (X 4).length) (hca : CaR Y b ca ce) (i0 : lf (Y 11) b ≤ i) (i1 : i < lf (Y 12) b) (hR : Rch X Y b i h.toNat) (hd : hgd X Y i h.toNat) (Hk : ∀ (E : Dt) (G : Int → Nat), FrH D E → E 89 = D 89 → HR (lf (Y 11) b) (lf (Y 12) b) G (E 88) → RS (Rch X Y b) (lf (Y 11) b) (lf (Y 12) b) H0 (D 87 7) G (E 87 7) → (∀ k : Int, 0 ≤ k → k < (Y 6).length → cov Y b k i → (G (lf (Y 8) k)).testBit 1 = true) → wp 95 171 [vr 87, vi b, vi ca, vi ce, vi i, vi h, vu] [] (E, SS L 1 2 2 c4 c5 c6) Q) : ∀ (M : Nat) (c : Int) (E : Dt) (G : Int → Nat), (ce - c).toNat = M → ca ≤ c → c ≤ ce → FrH D E → E 89 = D 89 → HR (lf (Y 11) b) (lf (Y 12) b) G (E 88) → RS (Rch X Y b) (lf (Y 11) b) (lf (Y 12) b) H0 (D 87 7) G (E 87 7) → (∀ k : Int, ca ≤ k → k < c → cov Y b k i → (G (lf (Y 8) k)).testBit 1 = true) → wp 95 133 [vr 87, vi b, vi ca, vi ce, vi i, vi h, vi c] [] (E, SS L 1 2 2 c4 c5 c6) Q := by
  have hg := hP.rg b0 b1
  have h64 := hP.1.1.2.2.2.2
  have hl6 := hP.1.1.2.1
  intro M
  induction M with
  | zero =>
    intro c E G e c0 c1 f f9 hG hRS hk
    refine r95_133 ⟨fun g => by omega, fun _ => Hk E G f f9 hG hRS (fun k k0 k1 hc => ?_)⟩
    have := (hca.2 k k0 k1).mp hc.1
    exact hk k this.1 (by omega) hc
  | succ M ih =>
    intro c E G e c0 c1 f f9 hG hRS hk
    have c2 : 0 ≤ c ∧ c < (Y 6).length := by have := hca.1; omega
    have e219 : E 219 c = lf (Y 6) c := by rw [f.1 219 (by decide) (by decide) (by decide)]; exact hS.1.2.2.2.2.2.2.2.1 c c2.1 c2.2
    have e220 : E 220 c = lf (Y 7) c := by rw [f.1 220 (by decide) (by decide) (by decide)]; exact hS.1.2.2.2.2.2.2.2.2.1 c c2.1 (by omega)
    have e221 : E 221 c = lf (Y 8) c := by rw [f.1 221 (by decide) (by decide) (by decide)]; exact hS.1.2.2.2.2.2.2.2.2.2.1 c c2.1 (by omega)
    have hcb : lf (Y 10) c = b := (hca.2 c c2.1 c2.2).mpr (by omega)
    have hat := hP.ca c2.1 c2.2 hcb
    refine r95_133 ⟨fun _ => ?_, fun g => by omega⟩
    rw [e219, e220, e221]
    refine ⟨by omega, fun g => ⟨by omega, (Rch X Y b, lf (Y 11) b, lf (Y 12) b, G), ⟨hG, by dsimp only; omega, by dsimp only; omega, hat.1, hat.2, by decide, by decide, ?_⟩, fun E2 G2 x => ?_⟩, fun g => ?_⟩
    · exact (rch_c i h.toNat i0 i1 hR hd).2.2 c c2.1 c2.2 ⟨hcb, g⟩
    · dsimp only at x
      obtain ⟨x1, x2, x3, x4, x5⟩ := x
      refine r95_165 ⟨by omega, ih (c + 1) E2 G2 (by omega) (by omega) (by omega) (f.t x1) (x2.trans f9) x3 (hRS.t x4) (fun k k0 k1 hc => ?_)⟩
      by_cases ek : k = c
      · rw [ek]; exact x5
      · have hk2 : 0 ≤ k ∧ k < (Y 6).length := by have := hca.1; omega
        have hat2 := hP.ca hk2.1 hk2.2 hc.1
        exact (x4.1 _ hat2.1 hat2.2).2 _ (hk k k0 (by omega) hc)
    · refine r95_165 ⟨by omega, ih (c + 1) E G (by omega) (by omega) (by omega) f f9 hG hRS (fun k k0 k1 hc => ?_)⟩
      by_cases ek : k = c
      · rw [ek] at hc; exact absurd hc.2 g
      · exact hk k k0 (by omega) hc
/-- the heights of one instruction -/
theorem l95h {L c4 c5 c6 : Nat} {D : Dt} {Q : Out → Wd → Prop} {ns ab : List Int} {X Y : XB} {b ca ce i : Int} {H0 : Int → Nat} (hS : SCk X Y D) (hP : PH ns ab X Y) (b0 : 0 ≤ b) (b1 : b < (X 4).length) (hca : CaR Y b ca ce) (i0 : lf (Y 11) b ≤ i) (i1 : i < lf (Y 12) b) (Hk : ∀ (E : Dt) (H : Int → Nat), FrH D E → SWv X Y b H0 H E → (E 87 7 = 0 → ∀ (j : Int) (g : Nat), lf (Y 11) b ≤ j → j < i + 1 → g < 9 → CLz X Y b H (E 89) j g) → wp 95 77 [vr 87, vi b, vi ca, vi ce, vi (i + 1), vu, vu] [] (E, SS L 1 2 2 c4 c5 c6) Q) : ∀ (M : Nat) (h : Int) (E : Dt) (H : Int → Nat), (9 - h).toNat = M → 0 ≤ h → h ≤ 9 → FrH D E → SWv X Y b H0 H E → (E 87 7 = 0 → ∀ (j : Int) (g : Nat), lf (Y 11) b ≤ j → (j < i ∨ (j = i ∧ (g : Int) < h)) → g < 9 → CLz X Y b H (E 89) j g) → wp 95 94 [vr 87, vi b, vi ca, vi ce, vi i, vi h, vu] [] (E, SS L 1 2 2 c4 c5 c6) Q := by
  have hg := hP.rg b0 b1
  intro M
  induction M with
  | zero =>
    intro h E H e h0 h9 f hW hcl
    refine r95_94 ⟨fun _ => ⟨by omega, Hk E H f hW (fun x j g j0 j1 g9 => hcl x j g j0 (by omega) g9)⟩, fun x => by omega⟩
  | succ M ih =>
    intro h E H e h0 h9 f hW hcl
    have hi := hW.1 i i0 i1
    have eh : h = ((h.toNat : Nat) : Int) := by omega
    have hSE := hS.h f
    have hstep : ∀ (E2 : Dt) (G : Int → Nat), FrH D E2 → SWv X Y b H0 G E2 → (E2 87 7 = 0 → ∀ (j : Int) (g : Nat), lf (Y 11) b ≤ j → (j < i ∨ (j = i ∧ (g : Int) < h + 1)) → g < 9 → CLz X Y b G (E2 89) j g) → wp 95 171 [vr 87, vi b, vi ca, vi ce, vi i, vi h, vu] [] (E2, SS L 1 2 2 c4 c5 c6) Q := fun E2 G q1 q2 q3 => r95_171 ⟨by omega, ih (h + 1) E2 G (by omega) (by omega) (by omega) q1 q2 q3⟩
    have ebit : band (ishr (E 88 i) h) 1 = ib ((H i).testBit h.toNat = true) := by
      rw [hi.1, eh, tb_i (by omega) (by omega), Int.toNat_natCast]
    refine r95_94 ⟨fun x => by omega, fun _ => ⟨by omega, ?_⟩⟩
    rw [ebit]
    refine ⟨fun g => ?_, fun g => ?_⟩
    · have hb : ¬ (H i).testBit h.toNat = true := fun x => by rw [ib_t x] at g; omega
      refine hstep E H f hW (fun x j n j0 jn n9 => ?_)
      by_cases e2 : j = i ∧ (n : Int) = h
      · intro y
        rw [e2.1, show n = h.toNat by omega] at y
        exact absurd y hb
      · exact hcl x j n j0 (by omega) n9
    · have hb : (H i).testBit h.toNat = true := Classical.not_not.mp (fun x => g (ib_f x))
      have hR := hW.2.1 i _ i0 i1 hb
      refine ⟨(ns, ab, X, Y, b, H), ⟨hSE, hP, ⟨b0, b1⟩, hW.1, ⟨i0, i1⟩, ⟨h0, by omega⟩, hR⟩, fun hd => ?_, fun E2 G x => ?_⟩
      · dsimp only at hd
        have hz : ∀ j, E 89 j = 1 → up E 89 i 1 89 j = 1 := fun j hj => by
          by_cases ej : j = i
          · rw [ej, ub_s]
          · rw [ub_n ej]; exact hj
        refine hstep _ H (f.u (Or.inr (Or.inl rfl))) ⟨?_, hW.2.1, fun j j0 j1 => ?_, ?_, hW.2.2.2.2⟩ (fun x j n j0 jn n9 => ?_)
        · rw [ub_a (by decide)]; exact hW.1
        · by_cases ej : j = i
          · rw [ej, ub_s]
            exact Or.inr ⟨rfl, h.toNat, hR, hd⟩
          · rw [ub_n ej]; exact hW.2.2.1 j j0 j1
        · rw [ub_a (by decide)]; exact hW.2.2.2.1
        · rw [ub_a (by decide)] at x
          by_cases e2 : j = i ∧ (n : Int) = h
          · intro _
            rw [e2.1, show n = h.toNat by omega]
            exact ⟨fun y => absurd y hd, fun _ => ub_s⟩
          · exact (hcl x j n j0 (by omega) n9).m hP b0 b1 j0 (by omega) (fun _ _ _ => rfl) hz
      · dsimp only at x
        obtain ⟨hd, x1, x2, x3, x4, x5, x6⟩ := x
        have hW2 := hW.s hP b0 b1 x2 x3 x4
        refine l95c (D := E2) (H0 := G) (hSE.h x1) hP b0 b1 hca i0 i1 hR hd (fun E3 G3 y1 y2 y3 y4 y5 => ?_) _ ca E2 G rfl (Int.le_refl _) (by have := hca.1; omega) (FrH.r _) rfl x3 RS.r (fun k k0 k1 => by omega)
        have hW3 := hW2.s hP b0 b1 y2 y3 y4
        refine hstep E3 G3 ((f.t x1).t y1) hW3 (fun x j n j0 jn n9 => ?_)
        have s2 := rs_same y4 x
        have s1 := rs_same x4 s2.1
        have hsame : ∀ j : Int, lf (Y 11) b ≤ j → j < lf (Y 12) b → G3 j = H j := fun j j0 j1 => (s2.2 j j0 j1).trans (s1.2 j j0 j1)
        by_cases e2 : j = i ∧ (n : Int) = h
        · rw [e2.1, show n = h.toNat by omega]
          refine fun _ => ⟨fun _ => ⟨fun z => ?_, fun z => ?_, y5⟩, fun z => absurd hd z⟩
          · rw [s2.2 (i + 1) (by omega) (hP.go b0 b1 i0 i1 z)]; exact x5 z
          · rw [s2.2 _ (hP.jm b0 b1 i0 i1 z).1 (hP.jm b0 b1 i0 i1 z).2]; exact x6 z
        · refine (hcl s1.1 j n j0 (by omega) n9).m hP b0 b1 j0 (by omega) hsame (fun q hq => ?_)
          rw [y2, x2]; exact hq
/-- one sweep -/
theorem l95i {L c4 c5 c6 : Nat} {D : Dt} {Q : Out → Wd → Prop} {ns ab : List Int} {X Y : XB} {b ca ce : Int} {H0 : Int → Nat} (hS : SCk X Y D) (hP : PH ns ab X Y) (b0 : 0 ≤ b) (b1 : b < (X 4).length) (hca : CaR Y b ca ce) (Hk : ∀ (E : Dt) (H : Int → Nat), FrH D E → SWv X Y b H0 H E → (E 87 7 = 0 → ∀ (j : Int) (g : Nat), lf (Y 11) b ≤ j → j < lf (Y 12) b → g < 9 → CLz X Y b H (E 89) j g) → wp 95 77 [vr 87, vi b, vi ca, vi ce, vi (lf (Y 12) b), vu, vu] [] (E, SS L 1 2 2 c4 c5 c6) Q) : ∀ (M : Nat) (i : Int) (E : Dt) (H : Int → Nat), (lf (Y 12) b - i).toNat = M → lf (Y 11) b ≤ i → i ≤ lf (Y 12) b → FrH D E → SWv X Y b H0 H E → (E 87 7 = 0 → ∀ (j : Int) (g : Nat), lf (Y 11) b ≤ j → j < i → g < 9 → CLz X Y b H (E 89) j g) → wp 95 77 [vr 87, vi b, vi ca, vi ce, vi i, vu, vu] [] (E, SS L 1 2 2 c4 c5 c6) Q := by
  have hg := hP.rg b0 b1
  have h48 := hP.2.2.1
  intro M
  induction M with
  | zero =>
    intro i E H e i0 i1 f hW hcl
    rw [show i = lf (Y 12) b by omega]
    exact Hk E H f hW (fun x j g j0 j1 g9 => hcl x j g j0 (by omega) g9)
  | succ M ih =>
    intro i E H e i0 i1 f hW hcl
    have e211 : E 211 b = lf (Y 12) b := by rw [f.1 211 (by decide) (by decide) (by decide)]; exact hS.2.1.2 b b0 (by have := hP.1.2.1.2; omega)
    refine r95_77 ⟨by omega, fun _ => ?_, fun g => by omega⟩
    exact l95h (D := D) hS hP b0 b1 hca i0 (by omega) (fun E2 H2 q1 q2 q3 => ih (i + 1) E2 H2 (by omega) (by omega) (by omega) q1 q2 q3) _ 0 E H rfl (by omega) (by omega) f hW (fun x j g j0 jn g9 => hcl x j g j0 (by omega) g9)
/-- all sweeps -/
theorem l95s {L c4 c5 c6 : Nat} {D : Dt} {Q : Out → Wd → Prop} {ns ab : List Int} {X Y : XB} {b ca ce : Int} (hS : SCk X Y D) (hP : PH ns ab X Y) (b0 : 0 ≤ b) (b1 : b < (X 4).length) (hca : CaR Y b ca ce) (Hk : ∀ (E : Dt) (H : Int → Nat), FrH D E → HR (lf (Y 11) b) (lf (Y 12) b) H (E 88) → (∀ (j : Int) (g : Nat), lf (Y 11) b ≤ j → j < lf (Y 12) b → ((H j).testBit g = true ↔ Rch X Y b j g)) → (∀ j : Int, lf (Y 11) b ≤ j → j < lf (Y 12) b → (E 89 j = 0 ∨ E 89 j = 1) ∧ (E 89 j = 1 ↔ ∃ g : Nat, Rch X Y b j g ∧ ¬ hgd X Y j g)) → wp 95 201 [vr 87, vi b, vu, vu, vi (lf (Y 11) b), vu, vu] [] (E, SS L 1 2 2 c4 c5 c6) Q) : ∀ (M : Nat) (E : Dt) (H : Int → Nat), 511 * (lf (Y 12) b - lf (Y 11) b).toNat - msr H (lf (Y 11) b) (lf (Y 12) b - lf (Y 11) b).toNat < M → FrH D E → HR (lf (Y 11) b) (lf (Y 12) b) H (E 88) → (∀ (j : Int) (g : Nat), lf (Y 11) b ≤ j → j < lf (Y 12) b → (H j).testBit g = true → Rch X Y b j g) → (∀ j : Int, lf (Y 11) b ≤ j → j < lf (Y 12) b → E 89 j = 0 ∨ (E 89 j = 1 ∧ ∃ g : Nat, Rch X Y b j g ∧ ¬ hgd X Y j g)) → (H (lf (Y 11) b)).testBit 0 = true → wp 95 61 [vr 87, vi b, vi ca, vi ce, vu, vu, vu] [] (E, SS L 1 2 2 c4 c5 c6) Q := by
  have hg := hP.rg b0 b1
  have h48 := hP.2.2.1
  intro M
  induction M with
  | zero => intro E H h; omega
  | succ M ih =>
    intro E H hM f hH hs h89 h0
    have e210 : E 210 b = lf (Y 11) b := by rw [f.1 210 (by decide) (by decide) (by decide)]; exact hS.2.1.1 b b0 (by have := hP.1.2.1.1; omega)
    refine r95_61 ⟨by omega, ?_⟩
    rw [e210]
    have hW0 : SWv X Y b H H (up E 87 7 0) := ⟨by rw [ub_a (by decide)]; exact hH, hs, by rw [ub_a (by decide)]; exact h89, by rw [ub_s]; exact RS.r, h0⟩
    refine l95i (D := D) hS hP b0 b1 hca (fun E2 H2 q1 q2 q3 => ?_) _ _ (up E 87 7 0) H rfl (Int.le_refl _) (by omega) (f.u (Or.inr (Or.inr ⟨rfl, rfl⟩))) hW0 (fun x j g j0 j1 => by omega)
    have e211 : E2 211 b = lf (Y 12) b := by rw [q1.1 211 (by decide) (by decide) (by decide)]; exact hS.2.1.2 b b0 (by have := hP.1.2.1.2; omega)
    have e210' : E2 210 b = lf (Y 11) b := by rw [q1.1 210 (by decide) (by decide) (by decide)]; exact hS.2.1.1 b b0 (by have := hP.1.2.1.1; omega)
    refine r95_77 ⟨by omega, fun g => by omega, fun _ => ⟨fun g => ⟨by omega, ?_⟩, fun g => ?_⟩⟩
    · rw [e210']
      have hcl := q3 g
      have hall : ∀ {i : Int} {n : Nat}, Rch X Y b i n → (H2 i).testBit n = true := fun hr => hts_all hP b0 b1 (fun i i0 i1 => (q2.1 i i0 i1).2) q2.2.2.2.2 hcl hr
      refine Hk E2 H2 q1 q2.1 (fun j n j0 j1 => ⟨q2.2.1 j n j0 j1, hall⟩) (fun j j0 j1 => ⟨?_, ?_, ?_⟩)
      · rcases q2.2.2.1 j j0 j1 with x | x
        · exact Or.inl x
        · exact Or.inr x.1
      · intro x
        rcases q2.2.2.1 j j0 j1 with y | y
        · omega
        · exact y.2
      · rintro ⟨n, hr, hd⟩
        have hin := rch_in hP b0 b1 hr
        exact (hcl j n j0 j1 (by omega) (hall hr)).2 hd
    · have hm : msr H (lf (Y 11) b) (lf (Y 12) b - lf (Y 11) b).toNat < msr H2 (lf (Y 11) b) (lf (Y 12) b - lf (Y 11) b).toNat := by
        refine msr_lt _ (fun j j0 j1 => (q2.2.2.2.1.1 j j0 (by omega)).1) ?_
        rcases q2.2.2.2.1.2.2 with x | x
        · exact absurd x.1 g
        · obtain ⟨_, j, j0, j1, hj⟩ := x
          exact ⟨j, j0, by omega, hj⟩
      have hb2 := msr_b (H := H2) (f := lf (Y 11) b) (lf (Y 12) b - lf (Y 11) b).toNat (fun j j0 j1 => (q2.1 j j0 (by omega)).2)
      exact ih E2 H2 (by omega) q1 q2.1 q2.2.1 q2.2.2.1 q2.2.2.2.2
def FrP (D E : Dt) : Prop := (∀ b, ¬ (87 ≤ b ∧ b ≤ 91) → ¬ b = 217 → E b = D b) ∧ ∀ i, ¬ i = 6 → ¬ i = 7 → E 87 i = D 87 i
theorem FrP.r (D : Dt) : FrP D D := ⟨fun _ _ _ => rfl, fun _ _ _ => rfl⟩
theorem FrP.t {D E F : Dt} (h : FrP D E) (h2 : FrP E F) : FrP D F := ⟨fun b x y => (h2.1 b x y).trans (h.1 b x y), fun i x y => (h2.2 i x y).trans (h.2 i x y)⟩
theorem FrH.p {D E : Dt} (h : FrH D E) : FrP D E := ⟨fun b x _ => h.1 b (by omega) (by omega) (by omega), fun i _ y => h.2 i y⟩
theorem SCk.p {X Y : XB} {D E : Dt} (h : SCk X Y D) (f : FrP D E) : SCk X Y E := by
  have g : ∀ b, ¬ (87 ≤ b ∧ b ≤ 91) ∧ ¬ b = 217 → E b = D b := fun b x => f.1 b x.1 x.2
  unfold SCk CdS FeS
  rw [g 197 (by decide), g 212 (by decide), g 213 (by decide), g 214 (by decide), g 215 (by decide), g 216 (by decide), g 218 (by decide), g 219 (by decide), g 220 (by decide), g 221 (by decide), g 222 (by decide), g 210 (by decide), g 211 (by decide), g 206 (by decide), g 208 (by decide)]
  exact h
section Hf
variable {X Y : XB} {b i : Int} {m : Nat}
/-- what a right mask says -/
theorem hb_1 (hm : m < 512) (h : ∀ g : Nat, m.testBit g = true ↔ Rch X Y b i g) : band (m : Int) ((m : Int) - 1) = 0 ↔ ¬ ∃ h h' : Nat, ¬ h = h' ∧ Rch X Y b i h ∧ Rch X Y b i h' := by
  have e : band (m : Int) ((m : Int) - 1) = ((m &&& (m - 1) : Nat) : Int) := by
    by_cases z : m = 0
    · subst z
      show (BitVec.ofInt 64 _ &&& BitVec.ofInt 64 _).toInt = _
      decide
    · rw [show (m : Int) - 1 = ((m - 1 : Nat) : Int) by omega, band_n (by omega) (by omega)]
  rw [e]
  have h1 := one_d m hm
  constructor
  · rintro x ⟨g, g', hne, r1, r2⟩
    have x' : m &&& (m - 1) = 0 := by omega
    have t1 := (h g).mpr r1
    have t2 := (h g').mpr r2
    exact hne (h1.mp x' g (tb_lt hm t1) g' (tb_lt hm t2) t1 t2)
  · intro x
    have : m &&& (m - 1) = 0 := h1.mpr fun g g9 g' g9' t1 t2 => Classical.byContradiction fun hne => x ⟨g, g', hne, (h g).mp t1, (h g').mp t2⟩
    rw [this]; rfl
theorem hb_0 (hm : m < 512) (h : ∀ g : Nat, m.testBit g = true ↔ Rch X Y b i g) (z : m = 0) : htF X Y b i = -1 := by
  rcases fs_b (P := fun h => Rch X Y b i h.toNat) (k := 0) (n := 9) (by decide) with x | ⟨x1, x2, x3, _⟩
  · exact x
  · have := (h _).mpr x3
    rw [z, Nat.zero_testBit] at this
    cases this
theorem hb_h (hm : m < 512) (h : ∀ g : Nat, m.testBit g = true ↔ Rch X Y b i g) {n : Nat} (n9 : n < 9) (hn : m.testBit n = true) (hf : ∀ g : Nat, g < n → ¬ m.testBit g = true) : htF X Y b i = n := by
  rcases fs_b (P := fun h => Rch X Y b i h.toNat) (k := 0) (n := 9) (by decide) with x | ⟨x1, x2, x3, x4⟩
  · exact absurd (show Rch X Y b i ((n : Int).toNat) by rw [Int.toNat_natCast]; exact (h n).mp hn) (fs_no (P := fun h => Rch X Y b i h.toNat) (k := 0) (n := 9) (by decide) (by rw [x]; decide) n (by omega) (by omega))
  · have e : htF X Y b i = fsF (fun h => Rch X Y b i h.toNat) 0 9 := rfl
    rw [e]
    generalize fsF (fun h => Rch X Y b i h.toNat) 0 9 = q at *
    by_cases c1 : q < n
    · exact absurd ((h _).mpr x3) (hf q.toNat (by omega))
    · by_cases c2 : (n : Int) < q
      · exact absurd (show Rch X Y b i ((n : Int).toNat) by rw [Int.toNat_natCast]; exact (h n).mp hn) (x4 n (by omega) c2)
      · omega
end Hf
theorem s95 {L c4 c5 c6 : Nat} {D : Dt} {Q : Out → Wd → Prop} {b ca ce : Int} (H : ∃ x : List Int × List Int × XB × XB, (SCk x.2.2.1 x.2.2.2 D ∧ PH x.1 x.2.1 x.2.2.1 x.2.2.2 ∧ (0 ≤ b ∧ b < (x.2.2.1 4).length) ∧ CaR x.2.2.2 b ca ce) ∧ (∀ E, (fsF (htB x.2.2.1 x.2.2.2 b) (lf (x.2.2.2 11) b) (lf (x.2.2.2 12) b) < 0 ∧ FrP D E ∧ (∀ i : Int, lf (x.2.2.2 11) b ≤ i → i < lf (x.2.2.2 12) b → E 217 i = htF x.2.2.1 x.2.2.2 b i) ∧ (∀ i : Int, ¬ (lf (x.2.2.2 11) b ≤ i ∧ i < lf (x.2.2.2 12) b) → E 217 i = D 217 i)) → Q (.inl []) (E, SS L 1 2 2 c4 c5 c6)) ∧ (∀ E, (¬ fsF (htB x.2.2.1 x.2.2.2 b) (lf (x.2.2.2 11) b) (lf (x.2.2.2 12) b) < 0 ∧ FrP D E) → Q (.inr 52) (up (up E 51 1 4) 51 2 (lf (x.2.2.2 3) (fsF (htB x.2.2.1 x.2.2.2 b) (lf (x.2.2.2 11) b) (lf (x.2.2.2 12) b))), SS L 1 2 2 c4 c5 c6))) : wp 95 0 [vr 87, vi b, vi ca, vi ce, vu, vu, vu] [] (D, SS L 1 2 2 c4 c5 c6) Q := by
  obtain ⟨⟨ns, ab, X, Y⟩, ⟨hS, hP, ⟨b0, b1⟩, hca⟩, Hk, Hz⟩ := H
  dsimp only at *
  have hg := hP.rg b0 b1
  have h48 := hP.2.2.1
  have l11 := hP.1.2.1.1
  have l12 := hP.1.2.1.2
  have e210 : D 210 b = lf (Y 11) b := hS.2.1.1 b b0 (by omega)
  -- the last walk
  have h201 : ∀ (E0 : Dt) (H : Int → Nat), FrH D E0 → HR (lf (Y 11) b) (lf (Y 12) b) H (E0 88) → (∀ (j : Int) (g : Nat), lf (Y 11) b ≤ j → j < lf (Y 12) b → ((H j).testBit g = true ↔ Rch X Y b j g)) → (∀ j : Int, lf (Y 11) b ≤ j → j < lf (Y 12) b → (E0 89 j = 0 ∨ E0 89 j = 1) ∧ (E0 89 j = 1 ↔ ∃ g : Nat, Rch X Y b j g ∧ ¬ hgd X Y j g)) → ∀ (M : Nat) (i : Int) (E : Dt), (lf (Y 12) b - i).toNat = M → lf (Y 11) b ≤ i → i ≤ lf (Y 12) b → (∀ a, ¬ a = 217 → E a = E0 a) → (∀ j : Int, lf (Y 11) b ≤ j → j < i → E 217 j = htF X Y b j) → (∀ j : Int, ¬ (lf (Y 11) b ≤ j ∧ j < i) → E 217 j = D 217 j) → fsF (htB X Y b) (lf (Y 11) b) (lf (Y 12) b) = fsF (htB X Y b) i (lf (Y 12) b) → wp 95 201 [vr 87, vi b, vu, vu, vi i, vu, vu] [] (E, SS L 1 2 2 c4 c5 c6) Q := by
    intro E0 H f0 hH hR h89 M
    induction M with
    | zero =>
      intro i E e i0 i1 q1 q2 q3 q4
      have e211 : E 211 b = lf (Y 12) b := by rw [q1 211 (by decide), f0.1 211 (by decide) (by decide) (by decide)]; exact hS.2.1.2 b b0 (by omega)
      refine r95_201 ⟨by omega, fun g => by omega, fun _ => Hk E ⟨?_, ?_, fun j j0 j1 => q2 j j0 (by omega), fun j hj => q3 j (by omega)⟩⟩
      · rw [q4, fs_n (by omega)]; decide
      · exact ⟨fun a x y => (q1 a y).trans (f0.p.1 a x y), fun i x y => (congrFun (q1 87 (by decide)) i).trans (f0.p.2 i x y)⟩
    | succ M ih =>
      intro i E e i0 i1 q1 q2 q3 q4
      have i2 : i < lf (Y 12) b := by omega
      have eM : (lf (Y 12) b - (i + 1)).toNat = M := by omega
      have e211 : E 211 b = lf (Y 12) b := by rw [q1 211 (by decide), f0.1 211 (by decide) (by decide) (by decide)]; exact hS.2.1.2 b b0 (by omega)
      have e88 : E 88 i = (H i : Int) := by rw [q1 88 (by decide)]; exact (hH i i0 i2).1
      have h512 := (hH i i0 i2).2
      have e89 : E 89 i = E0 89 i := by rw [q1 89 (by decide)]
      have e215 : E 215 i = lf (Y 3) i := by rw [q1 215 (by decide), f0.1 215 (by decide) (by decide) (by decide)]; exact hS.1.2.2.2.2.1 i (by omega) (by have := hP.1.1.1.2.2.1; omega)
      have fE : FrP D E := ⟨fun a x y => (q1 a y).trans (f0.p.1 a x y), fun i x y => (congrFun (q1 87 (by decide)) i).trans (f0.p.2 i x y)⟩
      have hbad : htB X Y b i → wp 95 245 [vr 87, vu, vu, vu, vi i, vu, vu] [] (E, SS L 1 2 2 c4 c5 c6) Q := fun hb => by
        have e5 : fsF (htB X Y b) (lf (Y 11) b) (lf (Y 12) b) = i := q4.trans (fs_y (P := htB X Y b) i2 hb)
        rw [e5] at Hz
        refine r95_245 ⟨by omega, ?_⟩
        rw [e215]
        exact Hz E ⟨by omega, fE⟩
      have hi := hR i
      have h1 := hb_1 (X := X) (Y := Y) (b := b) (i := i) h512 (fun g => hi g i0 i2)
      -- the height is found
      have hput : ¬ htB X Y b i → ∀ v : Int, v = htF X Y b i → wp 95 201 [vr 87, vi b, vu, vu, vi (i + 1), vu, vu] [] (up E 217 i v, SS L 1 2 2 c4 c5 c6) Q := fun hn v hv => by
        refine ih (i + 1) _ eM (by omega) (by omega) (fun a ha => by rw [ub_a ha]; exact q1 a ha) (fun j j0 j1 => ?_) (fun j hj => ?_) (q4.trans (fs_s (P := htB X Y b) i2 hn))
        · by_cases ej : j = i
          · rw [ej, ub_s]; exact hv
          · rw [ub_n ej]; exact q2 j j0 (by omega)
        · rw [ub_n (by omega)]; exact q3 j (by omega)
      have h267 : ¬ htB X Y b i → ∀ (N : Nat) (h : Int), (8 - h).toNat = N → 0 ≤ h → h ≤ 8 → (∀ g : Nat, (g : Int) < h → ¬ (H i).testBit g = true) → wp 95 267 [vr 87, vi b, vu, vu, vi i, vi h, vu] [] (E, SS L 1 2 2 c4 c5 c6) Q := by
        intro hn N
        have hfin : ∀ h : Int, 0 ≤ h → h ≤ 8 → (∀ g : Nat, (g : Int) < h → ¬ (H i).testBit g = true) → ((H i).testBit h.toNat = true ∨ h = 8) → (0 ≤ i ∧ i < 1024) ∧ (((H i : Nat) : Int) = 0 → (0 ≤ i ∧ i < 1024) ∧ (-2147483648 ≤ i + 1 ∧ i + 1 ≤ 2147483647) ∧ wp 95 201 [vr 87, vi b, vu, vu, vi (i + 1), vu, vu] [] (up E 217 i (-1), SS L 1 2 2 c4 c5 c6) Q) ∧ (¬ ((H i : Nat) : Int) = 0 → (0 ≤ i ∧ i < 1024) ∧ (-2147483648 ≤ i + 1 ∧ i + 1 ≤ 2147483647) ∧ wp 95 201 [vr 87, vi b, vu, vu, vi (i + 1), vu, vu] [] (up E 217 i h, SS L 1 2 2 c4 c5 c6) Q) := by
          intro h h0 h8 hlow hor
          refine ⟨by omega, fun z => ⟨by omega, by omega, hput hn _ (hb_0 h512 (fun g => hi g i0 i2) (by omega)).symm⟩, fun z => ⟨by omega, by omega, hput hn _ ?_⟩⟩
          have hbit : (H i).testBit h.toNat = true := by
            rcases hor with x | x
            · exact x
            · refine Classical.byContradiction fun hc => z ?_
              have := (zer_b (H i) h512).mpr fun g g9 hg => by
                by_cases eg : g = 8
                · exact hc (by rw [x, show (8 : Int).toNat = g by omega]; exact hg)
                · exact hlow g (by omega) hg
              omega
          have := hb_h h512 (fun g => hi g i0 i2) (n := h.toNat) (by omega) hbit (fun g hg => hlow g (by omega))
          rw [this]; omega
        induction N with
        | zero =>
          intro h en h0 h8 hlow
          refine r95_267 ?_
          rw [e88]
          exact ⟨fun x => by omega, fun _ => hfin h h0 h8 hlow (Or.inr (by omega))⟩
        | succ N ihN =>
          intro h en h0 h8 hlow
          have eh : h = ((h.toNat : Nat) : Int) := by omega
          refine r95_267 ?_
          have ebit : band (ishr (E 88 i) h) 1 = ib ((H i).testBit h.toNat = true) := by
            rw [e88, eh, tb_i (by omega) (by omega), Int.toNat_natCast]
          rw [ebit, e88]
          refine ⟨fun _ => ⟨by omega, fun x => ⟨by omega, ihN (h + 1) (by omega) (by omega) (by omega) (fun g hg => ?_)⟩, fun x => hfin h h0 h8 hlow (Or.inl ?_)⟩, fun x => by omega⟩
          · by_cases eg : (g : Int) = h
            · rw [show g = h.toNat by omega]
              intro y
              rw [ib_t y] at x
              omega
            · exact hlow g (by omega)
          · exact Classical.not_not.mp fun y => x (ib_f y)
      refine r95_201 ⟨by omega, fun _ => ⟨by omega, fun g => ?_, fun g => hbad ?_⟩, fun g => by omega⟩
      · rw [e88]
        refine ⟨by omega, by omega, by omega, fun g1 => h267 ?_ _ 0 rfl (by omega) (by omega) (fun g hg => by omega), fun g1 => hbad ?_⟩
        · rintro (x | x)
          · exact h1.mp g1 x
          · have := (h89 i i0 i2).2.mpr x
            omega
        · exact Or.inl (Classical.not_not.mp fun x => g1 (h1.mpr x))
      · refine Or.inr ((h89 i i0 i2).2.mp ?_)
        rcases (h89 i i0 i2).1 with x | x
        · omega
        · exact x
  -- all begin with nothing
  have h11 : ∀ (M : Nat) (i : Int) (E : Dt), (lf (Y 12) b - i).toNat = M → lf (Y 11) b ≤ i → i ≤ lf (Y 12) b → FrH D E → (∀ j : Int, lf (Y 11) b ≤ j → j < i → E 88 j = 0 ∧ E 89 j = 0) → wp 95 11 [vr 87, vi b, vi ca, vi ce, vi i, vu, vu] [] (E, SS L 1 2 2 c4 c5 c6) Q := by
    intro M
    induction M with
    | zero =>
      intro i E e i0 i1 f hz
      have e211 : E 211 b = lf (Y 12) b := by rw [f.1 211 (by decide) (by decide) (by decide)]; exact hS.2.1.2 b b0 (by omega)
      have e210' : E 210 b = lf (Y 11) b := by rw [f.1 210 (by decide) (by decide) (by decide)]; exact e210
      have hH0 : HR (lf (Y 11) b) (lf (Y 12) b) (fun _ => 0) (E 88) := fun j j0 j1 => ⟨(hz j j0 (by omega)).1, show (0 : Nat) < 512 by decide⟩
      refine r95_11 ⟨by omega, fun g => by omega, fun _ => ⟨by omega, ?_⟩⟩
      rw [e210']
      refine ⟨(Rch X Y b, lf (Y 11) b, lf (Y 12) b, fun _ => 0), ⟨hH0, by dsimp only; omega, by dsimp only; omega, Int.le_refl _, by dsimp only; omega, by decide, by decide, rch_0⟩, fun E2 G x => ?_⟩
      dsimp only at x
      obtain ⟨x1, x2, x3, x4, x5⟩ := x
      refine l95s (D := D) hS hP b0 b1 hca (fun E3 H3 y1 y2 y3 y4 => ?_) _ E2 G (Nat.lt_succ_self _) (f.t x1) x3 (fun j g j0 j1 hb => ?_) (fun j j0 j1 => Or.inl (by rw [x2]; exact (hz j j0 (by omega)).2)) x5
      · exact h201 E3 H3 y1 y2 y3 y4 _ _ E3 rfl (Int.le_refl _) (by omega) (fun _ _ => rfl) (fun j j0 j1 => by omega) (fun j _ => congrFun (y1.1 217 (by decide) (by decide) (by decide)) j) rfl
      · rcases x4.2.1 j g j0 j1 hb with z | z
        · rw [Nat.zero_testBit] at z; cases z
        · exact z
    | succ M ih =>
      intro i E e i0 i1 f hz
      have e211 : E 211 b = lf (Y 12) b := by rw [f.1 211 (by decide) (by decide) (by decide)]; exact hS.2.1.2 b b0 (by omega)
      refine r95_11 ⟨by omega, fun _ => ⟨by omega, by omega, by omega, ih (i + 1) _ (by omega) (by omega) (by omega) ((f.u (Or.inl rfl)).u (Or.inr (Or.inl rfl))) (fun j j0 j1 => ?_)⟩, fun g => by omega⟩
      by_cases ej : j = i
      · rw [ej]
        refine ⟨?_, ub_s⟩
        rw [ub_a (by decide), ub_s]
      · refine ⟨?_, ?_⟩
        · rw [ub_a (by decide), ub_n ej]; exact (hz j j0 (by omega)).1
        · rw [ub_n ej, ub_a (by decide)]; exact (hz j j0 (by omega)).2
  refine r95_0 ⟨by omega, ?_⟩
  rw [e210]
  exact h11 _ _ D rfl (Int.le_refl _) (by omega) (FrH.r D) (fun j j0 j1 => by omega)
