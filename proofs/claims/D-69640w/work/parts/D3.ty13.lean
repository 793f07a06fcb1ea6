/-! types: the model's, all sweeps -/
set_option maxRecDepth 100000
theorem r289_0 {L c2 c3 c4 c5 c6 : Nat} {D : Dt} {Q : Out → Wd → Prop} {b : Int} (H : (0 ≤ b ∧ b < 48) ∧ (wp 289 7 [vr 226, vr 273, vi b, vi (D 285 b), vu, vu] [] (D, SS L 1 c2 c3 c4 c5 c6) Q)) : wp 289 0 [vr 226, vr 273, vi b, vu, vu, vu] [] (D, SS L 1 c2 c3 c4 c5 c6) Q := vc_wp [4] 200 _ _ _ _ _ _ (show wp 289 4 [vr 226, vr 273, vi b, vu, vu, vu] [vr 285] (D, SS L 1 c2 c3 c4 c5 c6) Q from vc_wp [7] 200 _ _ _ _ _ _ (show (0 ≤ b ∧ b < 48) ∧ (wp 289 7 [vr 226, vr 273, vi b, vi (D 285 b), vu, vu] [] (D, SS L 1 c2 c3 c4 c5 c6) Q) from ⟨H.1, H.2⟩))
theorem r289_7 {L c2 c3 c4 c5 c6 : Nat} {D : Dt} {Q : Out → Wd → Prop} {b fi : Int} (H : (0 ≤ b ∧ b < 48) ∧ ((fi < D 286 b → ((0 ≤ fi ∧ fi < 1024) ∧ (((-2147483648) ≤ fi + 1 ∧ fi + 1 ≤ 2147483647) ∧ (wp 289 7 [vr 226, vr 273, vi b, vi (fi + 1), vu, vu] [] (up D 331 fi 0, SS L 1 c2 c3 c4 c5 c6) Q)))) ∧ (¬ (fi < D 286 b) → ((0 ≤ b ∧ b < 48) ∧ ((0 ≤ D 285 b ∧ D 285 b < 1024) ∧ (wp 289 47 [vr 226, vr 273, vi b, vi (D 285 b), vi 0, vu] [] (up D 331 (D 285 b) 1, SS L 1 c2 c3 c4 c5 c6) Q)))))) : wp 289 7 [vr 226, vr 273, vi b, vi fi, vu, vu] [] (D, SS L 1 c2 c3 c4 c5 c6) Q := vc_wp [12] 200 _ _ _ _ _ _ (show wp 289 12 [vr 226, vr 273, vi b, vi fi, vu, vu] [vr 286, vi fi] (D, SS L 1 c2 c3 c4 c5 c6) Q from vc_wp [21, 34] 200 _ _ _ _ _ _ (show (0 ≤ b ∧ b < 48) ∧ ((fi < D 286 b → (wp 289 21 [vr 226, vr 273, vi b, vi fi, vu, vu] [vr 331] (D, SS L 1 c2 c3 c4 c5 c6) Q)) ∧ (¬ (fi < D 286 b) → (wp 289 34 [vr 226, vr 273, vi b, vi fi, vu, vu] [vr 285] (D, SS L 1 c2 c3 c4 c5 c6) Q))) from ⟨H.1, ⟨fun h2 => vc_wp [27] 200 _ _ _ _ _ _ (show ((0 : Int) ≤ 0 ∧ 0 ≤ (1 : Int)) ∧ ((0 ≤ fi ∧ fi < 1024) ∧ (wp 289 27 [vr 226, vr 273, vi b, vi (w32 (fi + 1)), vu, vu] [] (up D 331 fi 0, SS L 1 c2 c3 c4 c5 c6) Q)) from ⟨(by decide), ⟨(H.2.1 h2).1, w32_i (fun z1 : Int => wp 289 27 [vr 226, vr 273, vi b, vi z1, vu, vu] [] (up D 331 fi 0, SS L 1 c2 c3 c4 c5 c6) Q) ((H.2.1 h2).2).1 (vc_wp [7] 200 _ _ _ _ _ _ (show wp 289 7 [vr 226, vr 273, vi b, vi (fi + 1), vu, vu] [] (up D 331 fi 0, SS L 1 c2 c3 c4 c5 c6) Q from ((H.2.1 h2).2).2))⟩⟩), fun h3 => vc_wp [41] 200 _ _ _ _ _ _ (show (0 ≤ b ∧ b < 48) ∧ (wp 289 41 [vr 226, vr 273, vi b, vi (D 285 b), vu, vu] [vr 331] (D, SS L 1 c2 c3 c4 c5 c6) Q) from ⟨(H.2.2 h3).1, vc_wp [47] 200 _ _ _ _ _ _ (show ((0 : Int) ≤ 1 ∧ 1 ≤ (1 : Int)) ∧ ((0 ≤ D 285 b ∧ D 285 b < 1024) ∧ (wp 289 47 [vr 226, vr 273, vi b, vi (D 285 b), vi 0, vu] [] (up D 331 (D 285 b) 1, SS L 1 c2 c3 c4 c5 c6) Q)) from ⟨(by decide), ⟨(H.2.2 h3).2.1, (H.2.2 h3).2.2⟩⟩)⟩)⟩⟩))
theorem r289_47 {L c2 c3 c4 c5 c6 : Nat} {D : Dt} {Q : Out → Wd → Prop} {b fi mo : Int} (H : ((mo < 12 → (((-2147483648) ≤ fi * 20 ∧ fi * 20 ≤ 2147483647) ∧ (((-2147483648) ≤ (fi * 20) + mo ∧ (fi * 20) + mo ≤ 2147483647) ∧ ((0 ≤ b ∧ b < 48) ∧ ((mo < D 281 b → (((-2147483648) ≤ b * 12 ∧ b * 12 ≤ 2147483647) ∧ (((-2147483648) ≤ (b * 12) + mo ∧ (b * 12) + mo ≤ 2147483647) ∧ ((0 ≤ (b * 12) + mo ∧ (b * 12) + mo < 576) ∧ (wp 289 92 [vr 226, vr 273, vi b, vi fi, vi mo, vu] [vi (D 282 ((b * 12) + mo)), vi ((fi * 20) + mo), vr 332] (D, SS L 1 c2 c3 c4 c5 c6) Q))))) ∧ (¬ (mo < D 281 b) → (wp 289 92 [vr 226, vr 273, vi b, vi fi, vi mo, vu] [vi 2, vi ((fi * 20) + mo), vr 332] (D, SS L 1 c2 c3 c4 c5 c6) Q))))))) ∧ (¬ (mo < 12) → (wp 289 102 [vr 226, vr 273, vi b, vi fi, vi 1, vu] [] (D, SS L 1 c2 c3 c4 c5 c6) Q)))) : wp 289 47 [vr 226, vr 273, vi b, vi fi, vi mo, vu] [] (D, SS L 1 c2 c3 c4 c5 c6) Q := vc_wp [58, 102] 200 _ _ _ _ _ _ (show ((mo < 12 → (wp 289 58 [vr 226, vr 273, vi b, vi fi, vi mo, vu] [vr 332] (D, SS L 1 c2 c3 c4 c5 c6) Q)) ∧ (¬ (mo < 12) → (wp 289 102 [vr 226, vr 273, vi b, vi fi, vi 1, vu] [] (D, SS L 1 c2 c3 c4 c5 c6) Q))) from ⟨fun h7 => vc_wp [62] 200 _ _ _ _ _ _ (show wp 289 62 [vr 226, vr 273, vi b, vi fi, vi mo, vu] [vi (w32 (fi * 20)), vr 332] (D, SS L 1 c2 c3 c4 c5 c6) Q from w32_i (fun z6 : Int => wp 289 62 [vr 226, vr 273, vi b, vi fi, vi mo, vu] [vi z6, vr 332] (D, SS L 1 c2 c3 c4 c5 c6) Q) ((H.1 h7)).1 (vc_wp [65] 200 _ _ _ _ _ _ (show wp 289 65 [vr 226, vr 273, vi b, vi fi, vi mo, vu] [vi (w32 ((fi * 20) + mo)), vr 332] (D, SS L 1 c2 c3 c4 c5 c6) Q from w32_i (fun z5 : Int => wp 289 65 [vr 226, vr 273, vi b, vi fi, vi mo, vu] [vi z5, vr 332] (D, SS L 1 c2 c3 c4 c5 c6) Q) (((H.1 h7)).2).1 (vc_wp [71] 200 _ _ _ _ _ _ (show wp 289 71 [vr 226, vr 273, vi b, vi fi, vi mo, vu] [vr 281, vi mo, vi ((fi * 20) + mo), vr 332] (D, SS L 1 c2 c3 c4 c5 c6) Q from vc_wp [80, 92] 200 _ _ _ _ _ _ (show (0 ≤ b ∧ b < 48) ∧ ((mo < D 281 b → (wp 289 80 [vr 226, vr 273, vi b, vi fi, vi mo, vu] [vr 282, vi ((fi * 20) + mo), vr 332] (D, SS L 1 c2 c3 c4 c5 c6) Q)) ∧ (¬ (mo < D 281 b) → (wp 289 92 [vr 226, vr 273, vi b, vi fi, vi mo, vu] [vi 2, vi ((fi * 20) + mo), vr 332] (D, SS L 1 c2 c3 c4 c5 c6) Q))) from ⟨(((H.1 h7)).2).2.1, ⟨fun h3 => vc_wp [84] 200 _ _ _ _ _ _ (show wp 289 84 [vr 226, vr 273, vi b, vi fi, vi mo, vu] [vi (w32 (b * 12)), vr 282, vi ((fi * 20) + mo), vr 332] (D, SS L 1 c2 c3 c4 c5 c6) Q from w32_i (fun z2 : Int => wp 289 84 [vr 226, vr 273, vi b, vi fi, vi mo, vu] [vi z2, vr 282, vi ((fi * 20) + mo), vr 332] (D, SS L 1 c2 c3 c4 c5 c6) Q) (((((H.1 h7)).2).2.2.1 h3)).1 (vc_wp [87] 200 _ _ _ _ _ _ (show wp 289 87 [vr 226, vr 273, vi b, vi fi, vi mo, vu] [vi (w32 ((b * 12) + mo)), vr 282, vi ((fi * 20) + mo), vr 332] (D, SS L 1 c2 c3 c4 c5 c6) Q from w32_i (fun z1 : Int => wp 289 87 [vr 226, vr 273, vi b, vi fi, vi mo, vu] [vi z1, vr 282, vi ((fi * 20) + mo), vr 332] (D, SS L 1 c2 c3 c4 c5 c6) Q) ((((((H.1 h7)).2).2.2.1 h3)).2).1 (vc_wp [92] 200 _ _ _ _ _ _ (show (0 ≤ (b * 12) + mo ∧ (b * 12) + mo < 576) ∧ (wp 289 92 [vr 226, vr 273, vi b, vi fi, vi mo, vu] [vi (D 282 ((b * 12) + mo)), vi ((fi * 20) + mo), vr 332] (D, SS L 1 c2 c3 c4 c5 c6) Q) from ⟨((((((H.1 h7)).2).2.2.1 h3)).2).2.1, ((((((H.1 h7)).2).2.2.1 h3)).2).2.2⟩))))), fun h4 => ((((H.1 h7)).2).2.2.2 h4)⟩⟩)))))), fun h8 => (H.2 h8)⟩)
theorem r289_92 {L c2 c3 c4 c5 c6 : Nat} {D : Dt} {Q : Out → Wd → Prop} {b fi mo s0 s1 : Int} (H : (0 ≤ s1 ∧ s1 < 20480) ∧ (((-2147483648) ≤ mo + 1 ∧ mo + 1 ≤ 2147483647) ∧ (wp 289 47 [vr 226, vr 273, vi b, vi fi, vi (mo + 1), vu] [] (up D 332 s1 s0, SS L 1 c2 c3 c4 c5 c6) Q))) : wp 289 92 [vr 226, vr 273, vi b, vi fi, vi mo, vu] [vi s0, vi s1, vr 332] (D, SS L 1 c2 c3 c4 c5 c6) Q := vc_wp [96] 200 _ _ _ _ _ _ (show (0 ≤ s1 ∧ s1 < 20480) ∧ (wp 289 96 [vr 226, vr 273, vi b, vi fi, vi (w32 (mo + 1)), vu] [] (up D 332 s1 s0, SS L 1 c2 c3 c4 c5 c6) Q) from ⟨H.1, w32_i (fun z1 : Int => wp 289 96 [vr 226, vr 273, vi b, vi fi, vi z1, vu] [] (up D 332 s1 s0, SS L 1 c2 c3 c4 c5 c6) Q) (H.2).1 (vc_wp [47] 200 _ _ _ _ _ _ (show wp 289 47 [vr 226, vr 273, vi b, vi fi, vi (mo + 1), vu] [] (up D 332 s1 s0, SS L 1 c2 c3 c4 c5 c6) Q from (H.2).2))⟩)
theorem r289_102 {L c2 c3 c4 c5 c6 : Nat} {D : Dt} {Q : Out → Wd → Prop} {b fi mo : Int} (H : ((mo = 0 → (wp 289 168 [vr 226, vr 273, vi b, vu, vu, vi fi] [] (D, SS L 1 c2 c3 c4 c5 c6) Q)) ∧ (¬ (mo = 0) → (wp 289 113 [vr 226, vr 273, vi b, vi fi, vi 0, vi fi] [] (D, SS L 1 c2 c3 c4 c5 c6) Q)))) : wp 289 102 [vr 226, vr 273, vi b, vi fi, vi mo, vu] [] (D, SS L 1 c2 c3 c4 c5 c6) Q := vc_wp [113, 168] 200 _ _ _ _ _ _ (show ((mo = 0 → (wp 289 168 [vr 226, vr 273, vi b, vi fi, vi mo, vi fi] [] (D, SS L 1 c2 c3 c4 c5 c6) Q)) ∧ (¬ (mo = 0) → (wp 289 113 [vr 226, vr 273, vi b, vi fi, vi 0, vi fi] [] (D, SS L 1 c2 c3 c4 c5 c6) Q))) from ⟨fun h1 => wp_d (Lle.k rfl (Lle.k rfl (Lle.k rfl (Lle.v rfl (Lle.v rfl (Lle.k rfl (Lle.nil))))))) ((H.1 h1)), fun h2 => (H.2 h2)⟩)
theorem r289_113 {L c2 c3 c4 c5 c6 : Nat} {D : Dt} {Q : Out → Wd → Prop} {b fi mo i : Int} (H : (0 ≤ b ∧ b < 48) ∧ ((i < D 286 b → ((0 ≤ i ∧ i < 1024) ∧ ((D 331 i = 0 → (wp 289 156 [vr 226, vr 273, vi b, vi fi, vi mo, vi i] [] (D, SS L 1 c2 c3 c4 c5 c6) Q)) ∧ (¬ (D 331 i = 0) → (∃ (xo1 : List Int × List Int × XB × XB × Int × TyT), (MCt xo1.2.1 xo1.2.2.1 xo1.2.2.2.1 D ∧ TC xo1.1 xo1.2.1 xo1.2.2.1 xo1.2.2.2.1 xo1.2.2.2.2.1 ∧ TV xo1.2.1 xo1.2.2.1 xo1.2.2.2.1 xo1.2.2.2.2.1 xo1.2.2.2.2.2 ∧ TM xo1.2.2.1 xo1.2.2.2.1 xo1.2.2.2.2.1 xo1.2.2.2.2.2 (D 331) (D 332) ∧ (lf (xo1.2.2.2.1 11) xo1.2.2.2.2.1 ≤ i ∧ i < lf (xo1.2.2.2.1 12) xo1.2.2.2.2.1) ∧ ¬ xo1.2.2.2.2.2 i 0 < 0 ∧ (∀ j : Int, lf (xo1.2.2.2.1 11) xo1.2.2.2.2.1 ≤ j → j < lf (xo1.2.2.2.1 12) xo1.2.2.2.2.1 → D 292 j = htF xo1.2.2.1 xo1.2.2.2.1 xo1.2.2.2.2.1 j)) ∧ ((∀ (E3 : Dt) (m4 : Int), ((m4 = 0 ∨ m4 = 1) ∧ FrU D E3 ∧ TM xo1.2.2.1 xo1.2.2.2.1 xo1.2.2.2.2.1 (stT xo1.2.1 xo1.2.2.1 xo1.2.2.2.1 xo1.2.2.2.2.1 xo1.2.2.2.2.2 i) (E3 331) (E3 332) ∧ TyG (lf (xo1.2.2.2.1 11) xo1.2.2.2.2.1) (lf (xo1.2.2.2.1 12) xo1.2.2.2.2.1) xo1.2.2.2.2.2 0 (stT xo1.2.1 xo1.2.2.1 xo1.2.2.2.1 xo1.2.2.2.2.1 xo1.2.2.2.2.2 i) m4) → ((m4 = 0 → ((mo = 0 → (wp 289 156 [vr 226, vr 273, vi b, vi fi, vi 0, vi i] [] (E3, SS L 1 c2 c3 c4 c5 c6) Q)) ∧ (¬ (mo = 0) → (wp 289 156 [vr 226, vr 273, vi b, vi fi, vi 1, vi i] [] (E3, SS L 1 c2 c3 c4 c5 c6) Q)))) ∧ (¬ (m4 = 0) → (wp 289 156 [vr 226, vr 273, vi b, vi fi, vi 1, vi i] [] (E3, SS L 1 c2 c3 c4 c5 c6) Q)))))))))) ∧ (¬ (i < D 286 b) → (wp 289 102 [vr 226, vr 273, vi b, vi fi, vi mo, vu] [] (D, SS L 1 c2 c3 c4 c5 c6) Q)))) : wp 289 113 [vr 226, vr 273, vi b, vi fi, vi mo, vi i] [] (D, SS L 1 c2 c3 c4 c5 c6) Q := vc_wp [119] 200 _ _ _ _ _ _ (show wp 289 119 [vr 226, vr 273, vi b, vi fi, vi mo, vi i] [vr 286, vi i] (D, SS L 1 c2 c3 c4 c5 c6) Q from vc_wp [102, 128] 200 _ _ _ _ _ _ (show (0 ≤ b ∧ b < 48) ∧ ((i < D 286 b → (wp 289 128 [vr 226, vr 273, vi b, vi fi, vi mo, vi i] [vr 331] (D, SS L 1 c2 c3 c4 c5 c6) Q)) ∧ (¬ (i < D 286 b) → (wp 289 102 [vr 226, vr 273, vi b, vi fi, vi mo, vi i] [] (D, SS L 1 c2 c3 c4 c5 c6) Q))) from ⟨H.1, ⟨fun h12 => vc_wp [156] 200 _ _ _ _ _ _ (show (0 ≤ i ∧ i < 1024) ∧ ((D 331 i = 0 → (wp 289 156 [vr 226, vr 273, vi b, vi fi, vi mo, vi i] [] (D, SS L 1 c2 c3 c4 c5 c6) Q)) ∧ (¬ (D 331 i = 0) → (wp 290 0 [vr 226, vr 273, vi i, vu, vu] [] (D, SS L 1 c2 c3 c4 c5 c6) (aft wp 289 138 [vr 226, vr 273, vi b, vi fi, vi mo, vi i] [] Q)))) from ⟨(H.2.1 h12).1, ⟨fun h10 => ((H.2.1 h12).2.1 h10), fun h11 => Exists.elim (((H.2.1 h12).2.2 h11)) fun xo1 x2 => s290 ⟨xo1, x2.1, (fun E3 m4 q5 => (show wp 289 141 [vr 226, vr 273, vi b, vi fi, vi mo, vi i] [vi m4] (E3, SS L 1 c2 c3 c4 c5 c6) Q from vc_wp [156] 200 _ _ _ _ _ _ (show ((m4 = 0 → ((mo = 0 → (wp 289 156 [vr 226, vr 273, vi b, vi fi, vi 0, vi i] [] (E3, SS L 1 c2 c3 c4 c5 c6) Q)) ∧ (¬ (mo = 0) → (wp 289 156 [vr 226, vr 273, vi b, vi fi, vi 1, vi i] [] (E3, SS L 1 c2 c3 c4 c5 c6) Q)))) ∧ (¬ (m4 = 0) → (wp 289 156 [vr 226, vr 273, vi b, vi fi, vi 1, vi i] [] (E3, SS L 1 c2 c3 c4 c5 c6) Q))) from ⟨fun h8 => ⟨fun h6 => (((x2.2 E3 m4 q5).1 h8).1 h6), fun h7 => (((x2.2 E3 m4 q5).1 h8).2 h7)⟩, fun h9 => ((x2.2 E3 m4 q5).2 h9)⟩)))⟩⟩⟩), fun h13 => wp_d (Lle.k rfl (Lle.k rfl (Lle.k rfl (Lle.k rfl (Lle.k rfl (Lle.v rfl (Lle.nil))))))) ((H.2.2 h13))⟩⟩))
theorem r289_156 {L c2 c3 c4 c5 c6 : Nat} {D : Dt} {Q : Out → Wd → Prop} {b fi mo i : Int} (H : ((-2147483648) ≤ i + 1 ∧ i + 1 ≤ 2147483647) ∧ (wp 289 113 [vr 226, vr 273, vi b, vi fi, vi mo, vi (i + 1)] [] (D, SS L 1 c2 c3 c4 c5 c6) Q)) : wp 289 156 [vr 226, vr 273, vi b, vi fi, vi mo, vi i] [] (D, SS L 1 c2 c3 c4 c5 c6) Q := vc_wp [159] 200 _ _ _ _ _ _ (show wp 289 159 [vr 226, vr 273, vi b, vi fi, vi mo, vi (w32 (i + 1))] [] (D, SS L 1 c2 c3 c4 c5 c6) Q from w32_i (fun z1 : Int => wp 289 159 [vr 226, vr 273, vi b, vi fi, vi mo, vi z1] [] (D, SS L 1 c2 c3 c4 c5 c6) Q) (H).1 (vc_wp [113] 200 _ _ _ _ _ _ (show wp 289 113 [vr 226, vr 273, vi b, vi fi, vi mo, vi (i + 1)] [] (D, SS L 1 c2 c3 c4 c5 c6) Q from (H).2)))
theorem l289 {L c2 c3 c4 c5 c6 : Nat} {D : Dt} {Q : Out → Wd → Prop} {ns ab : List Int} {X Y : XB} {b : Int} (hS : MCt ab X Y D) (hC : TC ns ab X Y b) (h292 : ∀ j : Int, lf (Y 11) b ≤ j → j < lf (Y 12) b → D 292 j = htF X Y b j) (Hk : ∀ E, FrU D E → tyFin ab X Y b (tyL ab X Y b) → TV ab X Y b (tyL ab X Y b) → TM X Y b (tyL ab X Y b) (E 331) (E 332) → wp 289 168 [vr 226, vr 273, vi b, vu, vu, vi (lf (Y 11) b)] [] (E, SS L 1 c2 c3 c4 c5 c6) Q) : wp 289 0 [vr 226, vr 273, vi b, vu, vu, vu] [] (D, SS L 1 c2 c3 c4 c5 c6) Q := by
  have hr := hC.1.1.rg hC.2.1.1 hC.2.1.2
  have h48 := hC.1.1.2.2.1
  have b0 := hC.2.1.1
  have b1 := hC.2.1.2
  have l11 := hC.1.1.1.2.1.1
  have l12 := hC.1.1.1.2.1.2
  have hal := hC.1.2.1.2.1
  have hn : (8 : Int) + ab.length ≤ 32 := by omega
  have e286 : ∀ E', FrU D E' → E' 286 b = lf (Y 12) b := fun E' f' => by rw [f'.1 286 (by decide) (by decide)]; exact hS.1.2.1.2 b b0 (by omega)
  have e285 : ∀ E', FrU D E' → E' 285 b = lf (Y 11) b := fun E' f' => by rw [f'.1 285 (by decide) (by decide)]; exact hS.1.2.1.1 b b0 (by omega)
  have q292 : ∀ E, FrU D E → ∀ j : Int, lf (Y 11) b ≤ j → j < lf (Y 12) b → E 292 j = htF X Y b j := fun E f j j0 j1 => by rw [f.1 292 (by decide) (by decide)]; exact h292 j j0 j1
  -- sweeps
  have h102 : ∀ (M : Nat) (n : Nat) (E : Dt), 2000 * (lf (Y 12) b - lf (Y 11) b).toNat - trk (itT ab X Y b n) (lf (Y 11) b) (lf (Y 12) b) < M → FrU D E → TV ab X Y b (itT ab X Y b n) → TM X Y b (itT ab X Y b n) (E 331) (E 332) → wp 289 102 [vr 226, vr 273, vi b, vi (lf (Y 11) b), vi 1, vu] [] (E, SS L 1 c2 c3 c4 c5 c6) Q := by
    intro M
    induction M with
    | zero => intro n E h; omega
    | succ M ih =>
      intro n E hM f hV hT
      have hsw : ∀ (N : Nat) (i mo : Int) (E1 : Dt) (T1 : TyT), (lf (Y 12) b - i).toNat = N → lf (Y 11) b ≤ i → i ≤ lf (Y 12) b → (mo = 0 ∨ mo = 1) → FrU D E1 → TV ab X Y b T1 → TO (lf (Y 11) b) (lf (Y 12) b) (itT ab X Y b n) T1 → TM X Y b T1 (E1 331) (E1 332) → TyG (lf (Y 11) b) (lf (Y 12) b) (itT ab X Y b n) 0 T1 mo → swT ab X Y b N i T1 = swA ab X Y b (itT ab X Y b n) → wp 289 113 [vr 226, vr 273, vi b, vi (lf (Y 11) b), vi mo, vi i] [] (E1, SS L 1 c2 c3 c4 c5 c6) Q := by
        intro N
        induction N with
        | zero =>
          intro i mo E1 T1 e i0 i1 hmo f1 v1 o1 t1 g1 es
          have es : T1 = itT ab X Y b (n + 1) := es
          have q11 := e286 E1 f1
          refine r289_113 ⟨by omega, fun x => by omega, fun _ => ?_⟩
          rcases hmo with g | g
          · subst g
            have hsame : T1 = itT ab X Y b n := by
              funext i k
              by_cases c : lf (Y 11) b ≤ i ∧ i < lf (Y 12) b ∧ 0 ≤ k ∧ k < 20
              · rcases g1.2 with x | x
                · exact x.2 i k c.1 c.2.1 c.2.2.1 c.2.2.2
                · exact absurd x.1 (by decide)
              · exact o1 i k c
            have hfin : tyFin ab X Y b T1 := ⟨⟨n + 1, es⟩, by
              have h2 : itT ab X Y b (n + 1) = itT ab X Y b n := es.symm.trans hsame
              rw [hsame]
              exact h2⟩
            have eL := fin_e hfin
            rw [eL] at hfin v1 t1
            exact r289_102 ⟨fun _ => Hk E1 f1 hfin v1 t1, fun x => absurd rfl x⟩
          · subst g
            have hlt : trk (itT ab X Y b n) (lf (Y 11) b) (lf (Y 12) b) < trk T1 (lf (Y 11) b) (lf (Y 12) b) := by
              refine trk_lt g1.1 ?_
              rcases g1.2 with x | x
              · exact absurd x.1 (by decide)
              · exact x.2
            have hb2 := trk_b T1 (lf (Y 11) b) (lf (Y 12) b)
            rw [es] at hlt hb2 v1 t1
            exact ih (n + 1) E1 (by omega) f1 v1 t1
        | succ N ihN =>
          intro i mo E1 T1 e i0 i1 hmo f1 v1 o1 t1 g1 es
          have q11 := e286 E1 f1
          have hst := st_v hC v1 (i := i) i0 (by omega)
          have hti := t1 i i0 (by omega)
          have hnx : ∀ (m' : Int) (E2 : Dt), (m' = 0 ∨ m' = 1) → FrU D E2 → TM X Y b (stT ab X Y b T1 i) (E2 331) (E2 332) → TyG (lf (Y 11) b) (lf (Y 12) b) (itT ab X Y b n) 0 (stT ab X Y b T1 i) m' → wp 289 156 [vr 226, vr 273, vi b, vi (lf (Y 11) b), vi m', vi i] [] (E2, SS L 1 c2 c3 c4 c5 c6) Q := fun m' E2 h1 h2 h3 h4 => r289_156 ⟨by omega, ihN (i + 1) m' E2 (stT ab X Y b T1 i) (by omega) (by omega) (by omega) h1 h2 hst.1 (o1.t hst.2) h3 h4 es⟩
          refine r289_113 ⟨by omega, fun _ => ⟨by omega, fun g => ?_, fun g => ?_⟩, fun x => by omega⟩
          · have hT : T1 i 0 < 0 := Classical.byContradiction fun y => by have := (hti.2 y).1; omega
            have e2 : stT ab X Y b T1 i = T1 := cit_t hT
            rw [e2] at hnx
            exact hnx mo E1 hmo f1 t1 g1
          · have hT : ¬ T1 i 0 < 0 := fun y => g (hti.1 y)
            refine ⟨(ns, ab, X, Y, b, T1), ⟨hS.f f1, hC, v1, t1, ⟨i0, by dsimp only; omega⟩, hT, q292 E1 f1⟩, fun E3 m4 x => ?_⟩
            dsimp only at x
            obtain ⟨y0, y1, y2, y3⟩ := x
            refine ⟨fun u => ⟨fun u1 => ?_, fun u1 => ?_⟩, fun u => ?_⟩
            · exact hnx 0 E3 (Or.inl rfl) (f1.t y1) y2 (g1.o y3 0 (fun _ => u1.symm) (fun c => absurd u c))
            · exact hnx 1 E3 (Or.inr rfl) (f1.t y1) y2 (g1.o y3 1 (fun _ => by omega) (fun c => absurd u c))
            · exact hnx 1 E3 (Or.inr rfl) (f1.t y1) y2 (g1.o y3 1 (fun c => absurd c u) (fun _ => rfl))
      exact r289_102 ⟨fun x => absurd x (by decide), fun _ => hsw _ _ 0 E _ rfl (Int.le_refl _) (by omega) (Or.inl rfl) f hV TO.r hT TyG.r rfl⟩
  -- parameters
  have hpb := hC.1.2.2.2.2 b b0 b1
  have h0f := ht_f hC
  have hz0 : ∀ k : Int, 0 ≤ k → k < 12 → tyZ ab X Y b (lf (Y 11) b) k = pw0 X b k := fun k k0 k1 => by
    unfold tyZ jnT
    rw [cit_t ⟨rfl, k0, k1⟩]
    exact cit_t (show (-1 : Int) < 0 by decide)
  have hzo : ∀ i k : Int, ¬ i = lf (Y 11) b → tyZ ab X Y b i k = -1 := fun i k h => cit_f fun x => h x.1
  have h47 : ∀ (M : Nat) (k : Int) (E : Dt), (12 - k).toNat = M → 0 ≤ k → k ≤ 12 → FrU D E → (∀ i : Int, lf (Y 11) b ≤ i → i < lf (Y 12) b → E 331 i = (if i = lf (Y 11) b then 1 else 0)) → (∀ q : Int, 0 ≤ q → q < k → E 332 (lf (Y 11) b * 20 + q) = mT (pw0 X b q)) → wp 289 47 [vr 226, vr 273, vi b, vi (lf (Y 11) b), vi k, vu] [] (E, SS L 1 c2 c3 c4 c5 c6) Q := by
    intro M
    induction M with
    | zero =>
      intro k E e k0 k1 f hz hp
      refine r289_47 ⟨fun x => by omega, fun _ => h102 _ 0 E (Nat.lt_succ_self _) f (tz_v hC) (fun i i0 i1 => ?_)⟩
      show (tyZ ab X Y b i 0 < 0 → _) ∧ (¬ tyZ ab X Y b i 0 < 0 → _ ∧ ∀ q : Int, 0 ≤ q → q < 12 + htF X Y b i → E 332 (i * 20 + q) = mT (tyZ ab X Y b i q))
      by_cases ei : i = lf (Y 11) b
      · rw [ei]
        have h1 := (tyS_b (pw_s hC 0 (by decide) (by decide)) hn).1
        refine ⟨fun y => ?_, fun _ => ⟨?_, fun q q0 q1 => ?_⟩⟩
        · rw [hz0 0 (by decide) (by decide)] at y; omega
        · rw [hz _ (Int.le_refl _) (by omega), if_pos rfl]
        · rw [h0f] at q1
          rw [hz0 q q0 (by omega)]; exact hp q q0 (by omega)
      · refine ⟨fun _ => ?_, fun y => ?_⟩
        · rw [hz i i0 i1, if_neg ei]
        · rw [hzo i 0 ei] at y
          exact absurd (by decide) y
    | succ M ih =>
      intro k E e k0 k1 f hz hp
      have q281 : E 281 b = lf (X 7) b := by rw [f.1 281 (by decide) (by decide)]; exact hS.1.2.2.1 b b0 (by have := hC.1.1.2.1.2.2.1; omega)
      have hnx : ∀ v : Int, v = mT (pw0 X b k) → wp 289 92 [vr 226, vr 273, vi b, vi (lf (Y 11) b), vi k, vu] [vi v, vi (lf (Y 11) b * 20 + k), vr 332] (E, SS L 1 c2 c3 c4 c5 c6) Q := fun v hv => by
        refine r289_92 ⟨by omega, by omega, ih (k + 1) _ (by omega) (by omega) (by omega) (f.u (Or.inl ⟨by decide, by decide⟩)) (fun i i0 i1 => by rw [ub_a (by decide)]; exact hz i i0 i1) (fun q q0 q1 => ?_)⟩
        by_cases eq : q = k
        · rw [eq, ub_s]; exact hv
        · rw [ub_n (by omega)]; exact hp q q0 (by omega)
      refine r289_47 ⟨fun _ => ⟨by omega, by omega, by omega, ?_⟩, fun x => by omega⟩
      rw [q281]
      refine ⟨fun g => ⟨by omega, by omega, by omega, hnx _ ?_⟩, fun g => hnx 2 ?_⟩
      · rw [f.1 282 (by decide) (by decide), hS.2.2.2 b k b0 b1 k0 (by omega)]
        exact congrArg mT (cit_t g).symm
      · rw [show pw0 X b k = 2 from cit_f g]; rfl
  -- nothing yet
  have h7 : ∀ (M : Nat) (k : Int) (E : Dt), (lf (Y 12) b - k).toNat = M → lf (Y 11) b ≤ k → k ≤ lf (Y 12) b → FrU D E → (∀ q : Int, lf (Y 11) b ≤ q → q < k → E 331 q = 0) → wp 289 7 [vr 226, vr 273, vi b, vi k, vu, vu] [] (E, SS L 1 c2 c3 c4 c5 c6) Q := by
    intro M
    induction M with
    | zero =>
      intro k E e k0 k1 f hz
      have q6 := e286 E f
      have q5 := e285 E f
      refine r289_7 ⟨by omega, fun x => by omega, fun _ => ?_⟩
      rw [q5]
      refine ⟨by omega, by omega, h47 _ 0 _ rfl (Int.le_refl _) (by decide) (f.u (Or.inl ⟨by decide, by decide⟩)) (fun i i0 i1 => ?_) (fun q q0 q1 => by omega)⟩
      by_cases ei : i = lf (Y 11) b
      · rw [ei, ub_s, if_pos rfl]
      · rw [ub_n ei, if_neg ei]; exact hz i i0 (by omega)
    | succ M ih =>
      intro k E e k0 k1 f hz
      have q6 := e286 E f
      refine r289_7 ⟨by omega, fun _ => ⟨by omega, by omega, ih (k + 1) _ (by omega) (by omega) (by omega) (f.u (Or.inl ⟨by decide, by decide⟩)) (fun q q0 q1 => ?_)⟩, fun x => by omega⟩
      by_cases eq : q = k
      · rw [eq, ub_s]
      · rw [ub_n eq]; exact hz q q0 (by omega)
  have q5 := e285 D (FrU.r D)
  refine r289_0 ⟨by omega, ?_⟩
  rw [q5]
  exact h7 _ _ D rfl (Int.le_refl _) (by omega) (FrU.r D) (fun q q0 q1 => by omega)
