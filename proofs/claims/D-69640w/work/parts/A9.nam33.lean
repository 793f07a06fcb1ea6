/-! names: the model's lines and bodies -/
set_option maxRecDepth 100000
theorem r270_0 {L c2 c3 c4 c5 c6 : Nat} {K : TK} {D : Dt} {Q : Out → Wd → Prop} {t : Int} (H : (MKp K (D 226 10) (D 321) (D 322) (D 320) ∧ 0 ≤ t ∧ t ≤ 20000) ∧ ((((K.w (t + 1) 15 → (Q (.inl [vi 2]) (D, SS L 1 c2 c3 c4 c5 c6))) ∧ (¬ (K.w (t + 1) 15) → ((MKp K (D 226 10) (D 321) (D 322) (D 320) ∧ 0 ≤ t) ∧ ((((K.w t 16 → (Q (.inl [vi 5]) (D, SS L 1 c2 c3 c4 c5 c6))) ∧ (¬ (K.w t 16) → ((MKp K (D 226 10) (D 321) (D 322) (D 320) ∧ 0 ≤ t ∧ t < K.n) ∧ (((0 ≤ K.op t ∧ K.op t < 46) ∧ (((sbt 34).getD (K.op t).toNat 0 = 45 → (Q (.inl [vi 1]) (D, SS L 1 c2 c3 c4 c5 c6))) ∧ (¬ ((sbt 34).getD (K.op t).toNat 0 = 45) → (((sbt 34).getD (K.op t).toNat 0 = 73 → (Q (.inl [vi 3]) (D, SS L 1 c2 c3 c4 c5 c6))) ∧ (¬ ((sbt 34).getD (K.op t).toNat 0 = 73) → (Q (.inl [vi 2]) (D, SS L 1 c2 c3 c4 c5 c6))))))))))))))))))) : wp 270 0 [vr 226, vi t, vu] [] (D, SS L 1 c2 c3 c4 c5 c6) Q := vc_wp [] 200 _ _ _ _ _ _ (show wp 246 0 [vr 226, vi t] [] (D, SS L 1 c2 c3 c4 c5 c6) (aft wp 270 2 [vr 226, vi t, vu] [] Q) from k246 ⟨H.1, (show wp 270 5 [vr 226, vi t, vu] [vi (ib (K.w (t + 1) 15))] (D, SS L 1 c2 c3 c4 c5 c6) Q from vc_wp [] 200 _ _ _ _ _ _ (show ((ib (K.w (t + 1) 15) = 0 → (wp 235 0 [vr 226, vi t, vr 33, vu] [] (D, SS L 1 c2 c3 c4 c5 c6) (aft wp 270 14 [vr 226, vi t, vu] [] Q))) ∧ (¬ (ib (K.w (t + 1) 15) = 0) → (Q (.inl [vi 2]) (D, SS L 1 c2 c3 c4 c5 c6)))) from ⟨fun h13 => k235s33 ⟨(H.2.2 ((ib_z).mp h13)).1, (show wp 270 17 [vr 226, vi t, vu] [vi (ib (K.w t 16))] (D, SS L 1 c2 c3 c4 c5 c6) Q from vc_wp [] 200 _ _ _ _ _ _ (show ((ib (K.w t 16) = 0 → (wp 247 0 [vr 226, vi t] [] (D, SS L 1 c2 c3 c4 c5 c6) (aft wp 270 27 [vr 226, vi t, vu] [vr 34] Q))) ∧ (¬ (ib (K.w t 16) = 0) → (Q (.inl [vi 5]) (D, SS L 1 c2 c3 c4 c5 c6)))) from ⟨fun h11 => k247 ⟨((H.2.2 ((ib_z).mp h13)).2.2 ((ib_z).mp h11)).1, (show wp 270 30 [vr 226, vi t, vu] [vi (K.op t), vr 34] (D, SS L 1 c2 c3 c4 c5 c6) Q from vc_wp [] 200 _ _ _ _ _ _ (show (0 ≤ K.op t ∧ K.op t < 46) ∧ (wp 270 33 [vr 226, vi t, vu] [vi ((sbt 34).getD (K.op t).toNat 0)] (D, SS L 1 c2 c3 c4 c5 c6) Q) from ⟨((H.2.2 ((ib_z).mp h13)).2.2 ((ib_z).mp h11)).2.1, vc_wp [] 200 _ _ _ _ _ _ (show (((sbt 34).getD (K.op t).toNat 0 = 45 → (Q (.inl [vi 1]) (D, SS L 1 c2 c3 c4 c5 c6))) ∧ (¬ ((sbt 34).getD (K.op t).toNat 0 = 45) → (((sbt 34).getD (K.op t).toNat 0 = 73 → (Q (.inl [vi 3]) (D, SS L 1 c2 c3 c4 c5 c6))) ∧ (¬ ((sbt 34).getD (K.op t).toNat 0 = 73) → (Q (.inl [vi 2]) (D, SS L 1 c2 c3 c4 c5 c6)))))) from ⟨fun h9 => (((H.2.2 ((ib_z).mp h13)).2.2 ((ib_z).mp h11)).2.2.1 h9), fun h10 => ⟨fun h7 => ((((H.2.2 ((ib_z).mp h13)).2.2 ((ib_z).mp h11)).2.2.2 h10).1 h7), fun h8 => ((((H.2.2 ((ib_z).mp h13)).2.2 ((ib_z).mp h11)).2.2.2 h10).2 h8)⟩⟩)⟩))⟩, fun h12 => ((H.2.2 ((ib_z).mp h13)).2.1 (Classical.not_not.mp (mt (ib_z).mpr h12)))⟩))⟩, fun h14 => (H.2.1 (Classical.not_not.mp (mt (ib_z).mpr h14)))⟩))⟩)
theorem s270 {L c2 c3 c4 c5 c6 : Nat} {D : Dt} {Q : Out → Wd → Prop} {K : TK} {t : Int} (H : (MKp K (D 226 10) (D 321) (D 322) (D 320) ∧ 0 ≤ t ∧ (pline K t).1 = true) ∧ Q (.inl [vi ((pline K t).2 - t)]) (D, SS L 1 c2 c3 c4 c5 c6)) : wp 270 0 [vr 226, vi t, vu] [] (D, SS L 1 c2 c3 c4 c5 c6) Q := by
  obtain ⟨⟨hM, t0, hp⟩, H⟩ := H
  obtain ⟨hsn, hk⟩ := pl_of hp
  have hn := (mk_tok hM t0 hsn.1).2.2.2.2.2
  have ob := op_b K t
  have ht := hsn.1
  refine r270_0 (K := K) ⟨⟨hM, t0, by omega⟩, fun g => q_i H ?_, fun g => ⟨⟨hM, t0⟩, fun g1 => q_i H ?_, fun g1 => ⟨⟨hM, t0, hsn.1⟩, ?_⟩⟩⟩
  · rcases hk with x | x | x
    · rw [x.2]; omega
    · exact absurd g x.1
    · exact absurd g x.1
  · rcases hk with x | x | x
    · exact absurd x.1 g
    · rw [x.2.2.2]; omega
    · exact absurd g1 x.2.1
  · rcases hk with x | x | x
    · exact absurd x.1 g
    · exact absurd x.2.1 g1
    · obtain ⟨_, _, o0, hp2, e2⟩ := x
      rw [e2] at H
      have hp3 := PR_t hp2
      generalize K.op t = op at *
      have h1 : ∀ c : Prop, pops K op (t + 1) = pm c (t + 1) → (pops K op (t + 1)).2 - t = 2 := fun c e => by
        rw [e] at hp3
        have := (pm_e hp3).2
        rw [e]
        omega
      rw [oc_e o0 ob.2]
      refine ⟨⟨o0, ob.2⟩, ?_⟩
      unfold pops at h1 H hp3
      unfold oc
      split
      · rw [if_pos (by omega)] at h1 H
        have := h1 _ rfl
        exact ⟨fun x => absurd x (by decide), fun _ => ⟨fun x => absurd x (by decide), fun _ => q_i H this⟩⟩
      · split
        · rw [if_pos (by omega)] at h1 H
          have := h1 _ rfl
          exact ⟨fun x => absurd x (by decide), fun _ => ⟨fun x => absurd x (by decide), fun _ => q_i H this⟩⟩
        · split
          · rw [if_neg (by omega), if_pos (by omega)] at h1 H hp3
            obtain ⟨c, i1, i2⟩ := pb_t hp3
            have j1 := (pm_e i1).2
            have j2 := (pm_e i2).2
            exact ⟨fun x => absurd x (by decide), fun _ => ⟨fun _ => q_i H (by omega), fun x => absurd rfl x⟩⟩
          · split
            · rw [if_neg (by omega), if_neg (by omega), if_pos (by omega)] at h1 H
              have := h1 _ rfl
              exact ⟨fun x => absurd x (by decide), fun _ => ⟨fun x => absurd x (by decide), fun _ => q_i H this⟩⟩
            · split
              · rw [if_neg (by omega), if_neg (by omega), if_neg (by omega), if_pos (by omega)] at h1 H
                have := h1 _ rfl
                exact ⟨fun x => absurd x (by decide), fun _ => ⟨fun x => absurd x (by decide), fun _ => q_i H this⟩⟩
              · split
                · rw [if_neg (by omega), if_neg (by omega), if_neg (by omega), if_neg (by omega), if_pos (by omega)] at h1 H
                  have := h1 _ rfl
                  exact ⟨fun x => absurd x (by decide), fun _ => ⟨fun x => absurd x (by decide), fun _ => q_i H this⟩⟩
                · split
                  · rw [if_neg (by omega), if_neg (by omega), if_neg (by omega), if_neg (by omega), if_neg (by omega), if_pos (by omega)] at h1 H
                    have := h1 _ rfl
                    exact ⟨fun x => absurd x (by decide), fun _ => ⟨fun x => absurd x (by decide), fun _ => q_i H this⟩⟩
                  · split
                    · rw [if_neg (by omega), if_neg (by omega), if_neg (by omega), if_neg (by omega), if_neg (by omega), if_neg (by omega), if_pos (by omega)] at h1 H
                      have := h1 _ rfl
                      exact ⟨fun x => absurd x (by decide), fun _ => ⟨fun x => absurd x (by decide), fun _ => q_i H this⟩⟩
                    · rw [if_neg (by omega), if_neg (by omega), if_neg (by omega), if_neg (by omega), if_neg (by omega), if_neg (by omega), if_neg (by omega)] at H
                      exact ⟨fun _ => q_i H (by dsimp only; omega), fun x => absurd rfl x⟩
def FrQ (D E : Dt) : Prop := (∀ b, ¬ b = 226 → ¬ b = 273 → ¬ (285 ≤ b ∧ b ≤ 286) → ¬ (288 ≤ b ∧ b ≤ 291) → ¬ (293 ≤ b ∧ b ≤ 299) → ¬ (327 ≤ b ∧ b ≤ 329) → E b = D b) ∧ (∀ i, ¬ i = 19 → E 226 i = D 226 i) ∧ ∀ i, ¬ (3 ≤ i ∧ i ≤ 5) → ¬ i = 7 → E 273 i = D 273 i
theorem FrQ.r (D : Dt) : FrQ D D := ⟨fun _ _ _ _ _ _ _ => rfl, fun _ _ => rfl, fun _ _ _ => rfl⟩
theorem FrQ.t {D E F : Dt} (h : FrQ D E) (h2 : FrQ E F) : FrQ D F := ⟨fun b x y z w u v => (h2.1 b x y z w u v).trans (h.1 b x y z w u v), fun i x => (h2.2.1 i x).trans (h.2.1 i x), fun i x y => (h2.2.2 i x y).trans (h.2.2 i x y)⟩
theorem FrJ.q {D E : Dt} (h : FrJ D E) : FrQ D E := ⟨fun b _ y _ w u v => h.1 b y w u (by omega), fun i _ => congrFun (h.1 226 (by decide) (by decide) (by decide) (by decide)) i, h.2⟩
theorem FrQ.n {D E : Dt} (h : FrQ D E) : FrN D E := ⟨fun b x y z => h.1 b x (by omega) (by omega) (by omega) (by omega) (by omega), fun i _ y _ => h.2.1 i y⟩
theorem FrQ.u {D E : Dt} (h : FrQ D E) {a : Nat} {i v : Int} (ha : (285 ≤ a ∧ a ≤ 286) ∨ (327 ≤ a ∧ a ≤ 328) ∨ (a = 226 ∧ i = 19)) : FrQ D (up E a i v) := by
  refine ⟨fun b x y z w u v => ?_, fun j x => ?_, fun j x y => ?_⟩
  · rw [ub_a (by omega)]; exact h.1 b x y z w u v
  · by_cases e : a = 226
    · subst e
      rw [ub_n (by omega)]; exact h.2.1 j x
    · rw [ub_a (by omega)]; exact h.2.1 j x
  · rw [ub_a (by omega)]; exact h.2.2 j x y
theorem MW.q {K : TK} {ns ab : List Int} {X : XB} {D E : Dt} (h : MW K ns ab X D) (f : FrQ D E) : MW K ns ab X E := by
  obtain ⟨h1, h2, h3, h4, h5, h6, h7⟩ := h
  have g : ∀ b, ¬ b = 226 ∧ ¬ b = 273 ∧ ¬ (285 ≤ b ∧ b ≤ 286) ∧ ¬ (288 ≤ b ∧ b ≤ 291) ∧ ¬ (293 ≤ b ∧ b ≤ 299) ∧ ¬ (327 ≤ b ∧ b ≤ 329) → E b = D b := fun b x => f.1 b x.1 x.2.1 x.2.2.1 x.2.2.2.1 x.2.2.2.2.1 x.2.2.2.2.2
  refine ⟨mk_f h1 f.n, ?_, ?_, ?_, ?_, h6, h7⟩
  · rw [f.2.2 0 (by decide) (by decide), g 323 (by decide)]; exact h2
  · rw [g 274 (by decide)]; exact h3
  · unfold FdM
    rw [f.2.2 1 (by decide) (by decide), g 276 (by decide), g 324 (by decide), g 277 (by decide)]; exact h4
  · unfold BM
    rw [f.2.2 2 (by decide) (by decide), g 279 (by decide), g 325 (by decide), g 280 (by decide), g 281 (by decide), g 283 (by decide), g 284 (by decide), g 326 (by decide), g 282 (by decide)]; exact h5
theorem r269_0 {L c2 c3 c4 c5 c6 : Nat} {K : TK} {D : Dt} {Q : Out → Wd → Prop} {b : Int} (H : (0 ≤ b ∧ b < 48) ∧ (((-2147483648) ≤ (D 326 b) + 3 ∧ (D 326 b) + 3 ≤ 2147483647) ∧ ((0 ≤ b ∧ b < 48) ∧ (wp 269 33 [vr 226, vr 273, vi b, vi ((D 326 b) + 3), vi (D 273 3), vi ((D 326 b) + 3), vu, vu, vu] [] (up (up D 285 b (D 273 3)) 226 19 0, SS L 1 c2 c3 c4 c5 c6) Q)))) : wp 269 0 [vr 226, vr 273, vi b, vu, vu, vu, vu, vu, vu] [] (D, SS L 1 c2 c3 c4 c5 c6) Q := vc_wp [4] 200 _ _ _ _ _ _ (show wp 269 4 [vr 226, vr 273, vi b, vu, vu, vu, vu, vu, vu] [vr 326] (D, SS L 1 c2 c3 c4 c5 c6) Q from vc_wp [8] 200 _ _ _ _ _ _ (show (0 ≤ b ∧ b < 48) ∧ (wp 269 8 [vr 226, vr 273, vi b, vu, vu, vu, vu, vu, vu] [vi (w32 ((D 326 b) + 3))] (D, SS L 1 c2 c3 c4 c5 c6) Q) from ⟨H.1, w32_i (fun z1 : Int => wp 269 8 [vr 226, vr 273, vi b, vu, vu, vu, vu, vu, vu] [vi z1] (D, SS L 1 c2 c3 c4 c5 c6) Q) (H.2).1 (vc_wp [13] 200 _ _ _ _ _ _ (show wp 269 13 [vr 226, vr 273, vi b, vi ((D 326 b) + 3), vu, vu, vu, vu, vu] [vr 285] (D, SS L 1 c2 c3 c4 c5 c6) Q from vc_wp [24] 200 _ _ _ _ _ _ (show (0 ≤ b ∧ b < 48) ∧ (wp 269 24 [vr 226, vr 273, vi b, vi ((D 326 b) + 3), vu, vu, vu, vu, vu] [] (up (up D 285 b (D 273 3)) 226 19 0, SS L 1 c2 c3 c4 c5 c6) Q) from ⟨(H.2).2.1, vc_wp [33] 200 _ _ _ _ _ _ (show wp 269 33 [vr 226, vr 273, vi b, vi ((D 326 b) + 3), vi (D 273 3), vi ((D 326 b) + 3), vu, vu, vu] [] (up (up D 285 b (D 273 3)) 226 19 0, SS L 1 c2 c3 c4 c5 c6) Q from (H.2).2.2)⟩)))⟩))
theorem r269_33 {L c2 c3 c4 c5 c6 : Nat} {K : TK} {D : Dt} {Q : Out → Wd → Prop} {b be cd t : Int} (H : (MKp K (D 226 10) (D 321) (D 322) (D 320) ∧ 0 ≤ t) ∧ ((((K.w t 8 → ((0 ≤ b ∧ b < 48) ∧ (wp 269 131 [vr 226, vr 273, vi b, vu, vu, vi be, vi cd, vu, vu] [] (up D 286 b cd, SS L 1 c2 c3 c4 c5 c6) Q))) ∧ (¬ (K.w t 8) → ((MKp K (D 226 10) (D 321) (D 322) (D 320) ∧ 0 ≤ t ∧ t ≤ 20000) ∧ ((((K.w (t + 1) 15 → ((0 ≤ D 226 19 ∧ D 226 19 < 16000) ∧ ((0 ≤ D 226 19 ∧ D 226 19 < 16000) ∧ (((-2147483648) ≤ (D 226 19) + 1 ∧ (D 226 19) + 1 ≤ 2147483647) ∧ (wp 269 102 [vr 226, vr 273, vi b, vi be, vi cd, vi t, vu, vu, vu] [] (up (up (up D 327 (D 226 19) t) 328 (D 226 19) cd) 226 19 ((D 226 19) + 1), SS L 1 c2 c3 c4 c5 c6) Q))))) ∧ (¬ (K.w (t + 1) 15) → ((MKp K (D 226 10) (D 321) (D 322) (D 320) ∧ 0 ≤ t) ∧ ((((K.w t 16 → (wp 269 102 [vr 226, vr 273, vi b, vi be, vi cd, vi t, vu, vu, vu] [] (D, SS L 1 c2 c3 c4 c5 c6) Q)) ∧ (¬ (K.w t 16) → (((-2147483648) ≤ cd + 1 ∧ cd + 1 ≤ 2147483647) ∧ (wp 269 102 [vr 226, vr 273, vi b, vi be, vi (cd + 1), vi t, vu, vu, vu] [] (D, SS L 1 c2 c3 c4 c5 c6) Q))))))))))))))))) : wp 269 33 [vr 226, vr 273, vi b, vi be, vi cd, vi t, vu, vu, vu] [] (D, SS L 1 c2 c3 c4 c5 c6) Q := vc_wp [] 200 _ _ _ _ _ _ (show wp 235 0 [vr 226, vi t, vr 24, vu] [] (D, SS L 1 c2 c3 c4 c5 c6) (aft wp 269 38 [vr 226, vr 273, vi b, vi be, vi cd, vi t, vu, vu, vu] [] Q) from k235s24 ⟨H.1, (show wp 269 41 [vr 226, vr 273, vi b, vi be, vi cd, vi t, vu, vu, vu] [vi (ib (K.w t 8))] (D, SS L 1 c2 c3 c4 c5 c6) Q from vc_wp [124] 200 _ _ _ _ _ _ (show ((ib (K.w t 8) = 0 → (wp 246 0 [vr 226, vi t] [] (D, SS L 1 c2 c3 c4 c5 c6) (aft wp 269 47 [vr 226, vr 273, vi b, vi be, vi cd, vi t, vu, vu, vu] [] Q))) ∧ (¬ (ib (K.w t 8) = 0) → (wp 269 124 [vr 226, vr 273, vi b, vi be, vi cd, vi t, vi cd, vu, vu] [vr 286] (D, SS L 1 c2 c3 c4 c5 c6) Q))) from ⟨fun h13 => k246 ⟨(H.2.2 ((ib_z).mp h13)).1, (show wp 269 50 [vr 226, vr 273, vi b, vi be, vi cd, vi t, vu, vu, vu] [vi (ib (K.w (t + 1) 15))] (D, SS L 1 c2 c3 c4 c5 c6) Q from vc_wp [57] 200 _ _ _ _ _ _ (show ((ib (K.w (t + 1) 15) = 0 → (wp 235 0 [vr 226, vi t, vr 33, vu] [] (D, SS L 1 c2 c3 c4 c5 c6) (aft wp 269 93 [vr 226, vr 273, vi b, vi be, vi cd, vi t, vu, vu, vu] [] Q))) ∧ (¬ (ib (K.w (t + 1) 15) = 0) → (wp 269 57 [vr 226, vr 273, vi b, vi be, vi cd, vi t, vu, vu, vu] [vr 327] (D, SS L 1 c2 c3 c4 c5 c6) Q))) from ⟨fun h11 => k235s33 ⟨((H.2.2 ((ib_z).mp h13)).2.2 ((ib_z).mp h11)).1, (show wp 269 96 [vr 226, vr 273, vi b, vi be, vi cd, vi t, vu, vu, vu] [vi (ib (K.w t 16))] (D, SS L 1 c2 c3 c4 c5 c6) Q from vc_wp [102] 200 _ _ _ _ _ _ (show ((ib (K.w t 16) = 0 → (wp 269 102 [vr 226, vr 273, vi b, vi be, vi (w32 (cd + 1)), vi t, vu, vu, vu] [] (D, SS L 1 c2 c3 c4 c5 c6) Q)) ∧ (¬ (ib (K.w t 16) = 0) → (wp 269 102 [vr 226, vr 273, vi b, vi be, vi cd, vi t, vu, vu, vu] [] (D, SS L 1 c2 c3 c4 c5 c6) Q))) from ⟨fun h8 => w32_i (fun z7 : Int => wp 269 102 [vr 226, vr 273, vi b, vi be, vi z7, vi t, vu, vu, vu] [] (D, SS L 1 c2 c3 c4 c5 c6) Q) ((((H.2.2 ((ib_z).mp h13)).2.2 ((ib_z).mp h11)).2.2 ((ib_z).mp h8))).1 (((((H.2.2 ((ib_z).mp h13)).2.2 ((ib_z).mp h11)).2.2 ((ib_z).mp h8))).2), fun h9 => (((H.2.2 ((ib_z).mp h13)).2.2 ((ib_z).mp h11)).2.1 (Classical.not_not.mp (mt (ib_z).mpr h9)))⟩))⟩, fun h12 => vc_wp [68] 200 _ _ _ _ _ _ (show (0 ≤ D 226 19 ∧ D 226 19 < 16000) ∧ (wp 269 68 [vr 226, vr 273, vi b, vi be, vi cd, vi t, vu, vu, vu] [vr 328] (up D 327 (D 226 19) t, SS L 1 c2 c3 c4 c5 c6) Q) from ⟨((H.2.2 ((ib_z).mp h13)).2.1 (Classical.not_not.mp (mt (ib_z).mpr h12))).1, vc_wp [82] 200 _ _ _ _ _ _ (show (0 ≤ D 226 19 ∧ D 226 19 < 16000) ∧ (wp 269 82 [vr 226, vr 273, vi b, vi be, vi cd, vi t, vu, vu, vu] [vi (w32 ((D 226 19) + 1)), vr 226] (up (up D 327 (D 226 19) t) 328 (D 226 19) cd, SS L 1 c2 c3 c4 c5 c6) Q) from ⟨((H.2.2 ((ib_z).mp h13)).2.1 (Classical.not_not.mp (mt (ib_z).mpr h12))).2.1, w32_i (fun z10 : Int => wp 269 82 [vr 226, vr 273, vi b, vi be, vi cd, vi t, vu, vu, vu] [vi z10, vr 226] (up (up D 327 (D 226 19) t) 328 (D 226 19) cd, SS L 1 c2 c3 c4 c5 c6) Q) (((H.2.2 ((ib_z).mp h13)).2.1 (Classical.not_not.mp (mt (ib_z).mpr h12))).2.2).1 (vc_wp [85] 200 _ _ _ _ _ _ (show wp 269 85 [vr 226, vr 273, vi b, vi be, vi cd, vi t, vu, vu, vu] [] (up (up (up D 327 (D 226 19) t) 328 (D 226 19) cd) 226 19 ((D 226 19) + 1), SS L 1 c2 c3 c4 c5 c6) Q from vc_wp [102] 200 _ _ _ _ _ _ (show wp 269 102 [vr 226, vr 273, vi b, vi be, vi cd, vi t, vu, vu, vu] [] (up (up (up D 327 (D 226 19) t) 328 (D 226 19) cd) 226 19 ((D 226 19) + 1), SS L 1 c2 c3 c4 c5 c6) Q from (((H.2.2 ((ib_z).mp h13)).2.1 (Classical.not_not.mp (mt (ib_z).mpr h12))).2.2).2)))⟩)⟩)⟩))⟩, fun h14 => vc_wp [131] 200 _ _ _ _ _ _ (show (0 ≤ b ∧ b < 48) ∧ (wp 269 131 [vr 226, vr 273, vi b, vi be, vi cd, vi be, vi cd, vu, vu] [] (up D 286 b cd, SS L 1 c2 c3 c4 c5 c6) Q) from ⟨(H.2.1 (Classical.not_not.mp (mt (ib_z).mpr h14))).1, wp_d (Lle.k rfl (Lle.k rfl (Lle.k rfl (Lle.v rfl (Lle.v rfl (Lle.k rfl (Lle.k rfl (Lle.k rfl (Lle.k rfl (Lle.nil)))))))))) ((H.2.1 (Classical.not_not.mp (mt (ib_z).mpr h14))).2)⟩)⟩))⟩)
theorem r269_102 {L c2 c3 c4 c5 c6 : Nat} {K : TK} {D : Dt} {Q : Out → Wd → Prop} {b be cd t : Int} (H : (MKp K (D 226 10) (D 321) (D 322) (D 320) ∧ 0 ≤ t ∧ (pline K t).1 = true) ∧ ((((-2147483648) ≤ t + ((pline K t).2 - t) ∧ t + ((pline K t).2 - t) ≤ 2147483647) ∧ (wp 269 33 [vr 226, vr 273, vi b, vi be, vi cd, vi (t + ((pline K t).2 - t)), vu, vu, vu] [] (D, SS L 1 c2 c3 c4 c5 c6) Q)))) : wp 269 102 [vr 226, vr 273, vi b, vi be, vi cd, vi t, vu, vu, vu] [] (D, SS L 1 c2 c3 c4 c5 c6) Q := vc_wp [] 200 _ _ _ _ _ _ (show wp 270 0 [vr 226, vi t, vu] [] (D, SS L 1 c2 c3 c4 c5 c6) (aft wp 269 107 [vr 226, vr 273, vi b, vi be, vi cd, vi t, vu, vu, vu] [vi t] Q) from s270 ⟨H.1, (show wp 269 110 [vr 226, vr 273, vi b, vi be, vi cd, vi t, vu, vu, vu] [vi ((pline K t).2 - t), vi t] (D, SS L 1 c2 c3 c4 c5 c6) Q from vc_wp [111] 200 _ _ _ _ _ _ (show wp 269 111 [vr 226, vr 273, vi b, vi be, vi cd, vi t, vu, vu, vu] [vi (w32 (t + ((pline K t).2 - t)))] (D, SS L 1 c2 c3 c4 c5 c6) Q from w32_i (fun z3 : Int => wp 269 111 [vr 226, vr 273, vi b, vi be, vi cd, vi t, vu, vu, vu] [vi z3] (D, SS L 1 c2 c3 c4 c5 c6) Q) (H.2).1 (vc_wp [33] 200 _ _ _ _ _ _ (show wp 269 33 [vr 226, vr 273, vi b, vi be, vi cd, vi (t + ((pline K t).2 - t)), vu, vu, vu] [] (D, SS L 1 c2 c3 c4 c5 c6) Q from (H.2).2))))⟩)
theorem r269_131 {L c2 c3 c4 c5 c6 : Nat} {K : TK} {D : Dt} {Q : Out → Wd → Prop} {b t en : Int} (H : (MKp K (D 226 10) (D 321) (D 322) (D 320) ∧ 0 ≤ t) ∧ ((((K.w t 8 → ((0 ≤ b ∧ b < 48) ∧ ((D 285 b < en → (wp 269 254 [vr 226, vr 273, vu, vu, vu, vi t, vi en, vu, vu] [vi 1] (D, SS L 1 c2 c3 c4 c5 c6) Q)) ∧ (¬ (D 285 b < en) → (wp 269 254 [vr 226, vr 273, vu, vu, vu, vi t, vi en, vu, vu] [vi 0] (D, SS L 1 c2 c3 c4 c5 c6) Q))))) ∧ (¬ (K.w t 8) → ((MKp K (D 226 10) (D 321) (D 322) (D 320) ∧ 0 ≤ t ∧ t ≤ 20000) ∧ ((((K.w (t + 1) 15 → (∃ (xl27 : List Int × List Int), (MKp K (D 226 10) (D 321) (D 322) (D 320) ∧ LbM K xl27.1 xl27.2 D ∧ 0 ≤ t ∧ t < K.n) ∧ ((((labK K xl27.1 t < 0 → (Q (.inl [vi 0]) (up D 226 12 t, SS L 1 c2 c3 c4 c5 c6))) ∧ (¬ (labK K xl27.1 t < 0) → (∃ (xl32 : List Int × List Int), (MKp K (D 226 10) (D 321) (D 322) (D 320) ∧ LbM K xl32.1 xl32.2 D ∧ 0 ≤ t ∧ t < K.n) ∧ (((0 ≤ labK K xl32.1 t ∧ labK K xl32.1 t < 16000) ∧ ((D 327 (labK K xl32.1 t) = t → (wp 269 224 [vr 226, vr 273, vi b, vu, vu, vi t, vi en, vu, vu] [] (D, SS L 1 c2 c3 c4 c5 c6) Q)) ∧ (¬ (D 327 (labK K xl32.1 t) = t) → (Q (.inl [vi 0]) (up D 226 12 t, SS L 1 c2 c3 c4 c5 c6))))))))))))) ∧ (¬ (K.w (t + 1) 15) → ((MKp K (D 226 10) (D 321) (D 322) (D 320) ∧ 0 ≤ t) ∧ ((((K.w t 16 → (∃ (xc17 : List Int × List Int × List Int × List Int), (MKp K (D 226 10) (D 321) (D 322) (D 320) ∧ CM K xc17.1 (D 273 0) (D 323) ∧ (ABp (D 274) xc17.2.1 ∧ ABw xc17.2.1 ∧ xc17.2.1.length ≤ 24 ∧ xc17.1.length = xc17.2.1.length) ∧ LbM K xc17.2.2.1 xc17.2.2.2 D ∧ 0 ≤ D 273 5 ∧ D 273 5 ≤ 64 ∧ 0 ≤ t ∧ t + 4 < K.n) ∧ ((((cfa K xc17.1 xc17.2.1 xc17.2.2.1 xc17.2.2.2 (D 273 5) en t).1 = true) → (wp 269 224 [vr 226, vr 273, vi b, vu, vu, vi t, vi en, vu, vu] [] (up (up (up (up (up (up D 294 (D 273 5) b) 295 (D 273 5) (labA K xc17.2.2.1 xc17.2.2.2 (t + 1))) 296 (D 273 5) (labA K xc17.2.2.1 xc17.2.2.2 (t + 2))) 297 (D 273 5) (labA K xc17.2.2.1 xc17.2.2.2 (t + 3))) 298 (D 273 5) (clsT K xc17.1 (t + 4))) 273 5 (D 273 5 + 1), SS L 1 c2 c3 c4 c5 c6) Q)) ∧ ((¬ (cfa K xc17.1 xc17.2.1 xc17.2.2.1 xc17.2.2.2 (D 273 5) en t).1 = true) → (Q (.inl [vi 0]) (up D 226 12 ((cfa K xc17.1 xc17.2.1 xc17.2.2.1 xc17.2.2.2 (D 273 5) en t).2), SS L 1 c2 c3 c4 c5 c6)))))) ∧ (¬ (K.w t 16) → (∃ (xi7 : List Int × List Int × XB × List Int × List Int × XB), (MW K xi7.1 xi7.2.1 xi7.2.2.1 D ∧ LbM K xi7.2.2.2.1 xi7.2.2.2.2.1 D ∧ CdM xi7.2.2.2.2.2 D ∧ YLn xi7.2.2.2.2.2 ∧ 0 ≤ t ∧ t < K.n ∧ 0 ≤ K.op t ∧ oSy K (K.op t) (t + 1) ∧ 0 ≤ b ∧ b < (xi7.2.2.1 4).length) ∧ ((∀ (E9 : Dt), ((ifa K xi7.1 xi7.2.1 xi7.2.2.1 xi7.2.2.2.1 xi7.2.2.2.2.1 b en xi7.2.2.2.2.2 (K.op t) t).1 = true ∧ FrJ D E9 ∧ CdM (iY K xi7.1 xi7.2.1 xi7.2.2.1 xi7.2.2.2.1 xi7.2.2.2.2.1 b xi7.2.2.2.2.2 (K.op t) t) E9) → (wp 269 224 [vr 226, vr 273, vi b, vu, vu, vi t, vi en, vu, vu] [] (E9, SS L 1 c2 c3 c4 c5 c6) Q)) ∧ (∀ (E13 : Dt), (¬ (ifa K xi7.1 xi7.2.1 xi7.2.2.1 xi7.2.2.2.1 xi7.2.2.2.2.1 b en xi7.2.2.2.2.2 (K.op t) t).1 = true ∧ FrN D E13 ∧ E13 226 12 = (ifa K xi7.1 xi7.2.1 xi7.2.2.1 xi7.2.2.2.1 xi7.2.2.2.2.1 b en xi7.2.2.2.2.2 (K.op t) t).2) → (Q (.inl [vi 0]) (E13, SS L 1 c2 c3 c4 c5 c6)))))))))))))))))))) : wp 269 131 [vr 226, vr 273, vi b, vu, vu, vi t, vi en, vu, vu] [] (D, SS L 1 c2 c3 c4 c5 c6) Q := vc_wp [] 200 _ _ _ _ _ _ (show wp 235 0 [vr 226, vi t, vr 24, vu] [] (D, SS L 1 c2 c3 c4 c5 c6) (aft wp 269 136 [vr 226, vr 273, vi b, vu, vu, vi t, vi en, vu, vu] [] Q) from k235s24 ⟨H.1, (show wp 269 139 [vr 226, vr 273, vi b, vu, vu, vi t, vi en, vu, vu] [vi (ib (K.w t 8))] (D, SS L 1 c2 c3 c4 c5 c6) Q from vc_wp [244] 200 _ _ _ _ _ _ (show ((ib (K.w t 8) = 0 → (wp 246 0 [vr 226, vi t] [] (D, SS L 1 c2 c3 c4 c5 c6) (aft wp 269 145 [vr 226, vr 273, vi b, vu, vu, vi t, vi en, vu, vu] [] Q))) ∧ (¬ (ib (K.w t 8) = 0) → (wp 269 244 [vr 226, vr 273, vi b, vu, vu, vi t, vi en, vu, vu] [vr 285, vi en] (D, SS L 1 c2 c3 c4 c5 c6) Q))) from ⟨fun h45 => k246 ⟨(H.2.2 ((ib_z).mp h45)).1, (show wp 269 148 [vr 226, vr 273, vi b, vu, vu, vi t, vi en, vu, vu] [vi (ib (K.w (t + 1) 15))] (D, SS L 1 c2 c3 c4 c5 c6) Q from vc_wp [] 200 _ _ _ _ _ _ (show ((ib (K.w (t + 1) 15) = 0 → (wp 235 0 [vr 226, vi t, vr 33, vu] [] (D, SS L 1 c2 c3 c4 c5 c6) (aft wp 269 188 [vr 226, vr 273, vi b, vu, vu, vi t, vi en, vu, vu] [] Q))) ∧ (¬ (ib (K.w (t + 1) 15) = 0) → (wp 271 0 [vr 226, vi t, vu] [] (D, SS L 1 c2 c3 c4 c5 c6) (aft wp 269 154 [vr 226, vr 273, vi b, vu, vu, vi t, vi en, vu, vu] [] Q)))) from ⟨fun h41 => k235s33 ⟨((H.2.2 ((ib_z).mp h45)).2.2 ((ib_z).mp h41)).1, (show wp 269 191 [vr 226, vr 273, vi b, vu, vu, vi t, vi en, vu, vu] [vi (ib (K.w t 16))] (D, SS L 1 c2 c3 c4 c5 c6) Q from vc_wp [] 200 _ _ _ _ _ _ (show ((ib (K.w t 16) = 0 → (wp 274 0 [vr 226, vr 273, vi b, vi t, vi en, vu, vu] [] (D, SS L 1 c2 c3 c4 c5 c6) (aft wp 269 216 [vr 226, vr 273, vi b, vu, vu, vi t, vi en, vu, vu] [] Q))) ∧ (¬ (ib (K.w t 16) = 0) → (wp 272 0 [vr 226, vr 273, vi b, vi t, vi en, vu, vu, vu, vu] [] (D, SS L 1 c2 c3 c4 c5 c6) (aft wp 269 201 [vr 226, vr 273, vi b, vu, vu, vi t, vi en, vu, vu] [] Q)))) from ⟨fun h25 => Exists.elim ((((H.2.2 ((ib_z).mp h45)).2.2 ((ib_z).mp h41)).2.2 ((ib_z).mp h25))) fun xi7 x8 => s274 ⟨xi7, x8.1, (fun E9 q10 => (show wp 269 219 [vr 226, vr 273, vi b, vu, vu, vi t, vi en, vu, vu] [vi 1] (E9, SS L 1 c2 c3 c4 c5 c6) Q from vc_wp [224] 200 _ _ _ _ _ _ (show (((1 : Int) = 0 → (((0 : Int) ≤ 0 ∧ 0 ≤ (1 : Int)) ∧ (Q (.inl [vi 0]) (E9, SS L 1 c2 c3 c4 c5 c6)))) ∧ (¬ ((1 : Int) = 0) → (wp 269 224 [vr 226, vr 273, vi b, vu, vu, vi t, vi en, vu, vu] [] (E9, SS L 1 c2 c3 c4 c5 c6) Q))) from ⟨fun h11 => absurd h11 (by decide), fun _ => (x8.2.1 E9 q10)⟩))), (fun E13 q14 => (show wp 269 219 [vr 226, vr 273, vi b, vu, vu, vi t, vi en, vu, vu] [vi 0] (E13, SS L 1 c2 c3 c4 c5 c6) Q from vc_wp [224] 200 _ _ _ _ _ _ (show (((0 : Int) = 0 → (((0 : Int) ≤ 0 ∧ 0 ≤ (1 : Int)) ∧ (Q (.inl [vi 0]) (E13, SS L 1 c2 c3 c4 c5 c6)))) ∧ (¬ ((0 : Int) = 0) → (wp 269 224 [vr 226, vr 273, vi b, vu, vu, vi t, vi en, vu, vu] [] (E13, SS L 1 c2 c3 c4 c5 c6) Q))) from ⟨fun _ => ⟨(by decide), (x8.2.2 E13 q14)⟩, fun h16 => absurd (by decide) h16⟩)))⟩, fun h26 => Exists.elim ((((H.2.2 ((ib_z).mp h45)).2.2 ((ib_z).mp h41)).2.1 (Classical.not_not.mp (mt (ib_z).mpr h26)))) fun xc17 x18 => s272 ⟨xc17, x18.1, (fun q19 => (show wp 269 204 [vr 226, vr 273, vi b, vu, vu, vi t, vi en, vu, vu] [vi 1] (up (up (up (up (up (up D 294 (D 273 5) b) 295 (D 273 5) (labA K xc17.2.2.1 xc17.2.2.2 (t + 1))) 296 (D 273 5) (labA K xc17.2.2.1 xc17.2.2.2 (t + 2))) 297 (D 273 5) (labA K xc17.2.2.1 xc17.2.2.2 (t + 3))) 298 (D 273 5) (clsT K xc17.1 (t + 4))) 273 5 (D 273 5 + 1), SS L 1 c2 c3 c4 c5 c6) Q from vc_wp [224] 200 _ _ _ _ _ _ (show (((1 : Int) = 0 → (((0 : Int) ≤ 0 ∧ 0 ≤ (1 : Int)) ∧ (Q (.inl [vi 0]) (up (up (up (up (up (up D 294 (D 273 5) b) 295 (D 273 5) (labA K xc17.2.2.1 xc17.2.2.2 (t + 1))) 296 (D 273 5) (labA K xc17.2.2.1 xc17.2.2.2 (t + 2))) 297 (D 273 5) (labA K xc17.2.2.1 xc17.2.2.2 (t + 3))) 298 (D 273 5) (clsT K xc17.1 (t + 4))) 273 5 (D 273 5 + 1), SS L 1 c2 c3 c4 c5 c6)))) ∧ (¬ ((1 : Int) = 0) → (wp 269 224 [vr 226, vr 273, vi b, vu, vu, vi t, vi en, vu, vu] [] (up (up (up (up (up (up D 294 (D 273 5) b) 295 (D 273 5) (labA K xc17.2.2.1 xc17.2.2.2 (t + 1))) 296 (D 273 5) (labA K xc17.2.2.1 xc17.2.2.2 (t + 2))) 297 (D 273 5) (labA K xc17.2.2.1 xc17.2.2.2 (t + 3))) 298 (D 273 5) (clsT K xc17.1 (t + 4))) 273 5 (D 273 5 + 1), SS L 1 c2 c3 c4 c5 c6) Q))) from ⟨fun h20 => absurd h20 (by decide), fun _ => (x18.2.1 q19)⟩))), (fun q22 => (show wp 269 204 [vr 226, vr 273, vi b, vu, vu, vi t, vi en, vu, vu] [vi 0] (up D 226 12 ((cfa K xc17.1 xc17.2.1 xc17.2.2.1 xc17.2.2.2 (D 273 5) en t).2), SS L 1 c2 c3 c4 c5 c6) Q from vc_wp [224] 200 _ _ _ _ _ _ (show (((0 : Int) = 0 → (((0 : Int) ≤ 0 ∧ 0 ≤ (1 : Int)) ∧ (Q (.inl [vi 0]) (up D 226 12 ((cfa K xc17.1 xc17.2.1 xc17.2.2.1 xc17.2.2.2 (D 273 5) en t).2), SS L 1 c2 c3 c4 c5 c6)))) ∧ (¬ ((0 : Int) = 0) → (wp 269 224 [vr 226, vr 273, vi b, vu, vu, vi t, vi en, vu, vu] [] (up D 226 12 ((cfa K xc17.1 xc17.2.1 xc17.2.2.1 xc17.2.2.2 (D 273 5) en t).2), SS L 1 c2 c3 c4 c5 c6) Q))) from ⟨fun _ => ⟨(by decide), (x18.2.2 q22)⟩, fun h24 => absurd (by decide) h24⟩)))⟩⟩))⟩, fun h42 => Exists.elim (((H.2.2 ((ib_z).mp h45)).2.1 (Classical.not_not.mp (mt (ib_z).mpr h42)))) fun xl27 x28 => s271 ⟨xl27, x28.1, (show wp 269 157 [vr 226, vr 273, vi b, vu, vu, vi t, vi en, vu, vu] [vi (labK K xl27.1 t)] (D, SS L 1 c2 c3 c4 c5 c6) Q from vc_wp [164] 200 _ _ _ _ _ _ (show ((labK K xl27.1 t < 0 → (wp 256 0 [vr 226, vi t] [] (D, SS L 1 c2 c3 c4 c5 c6) (aft wp 269 179 [vr 226, vr 273, vi b, vu, vu, vi t, vi en, vu, vu] [] Q))) ∧ (¬ (labK K xl27.1 t < 0) → (wp 269 164 [vr 226, vr 273, vi b, vu, vu, vi t, vi en, vu, vu] [vr 327] (D, SS L 1 c2 c3 c4 c5 c6) Q))) from ⟨fun h39 => r256_0 (show wp 269 182 [vr 226, vr 273, vi b, vu, vu, vi t, vi en, vu, vu] [vi 0] (up D 226 12 t, SS L 1 c2 c3 c4 c5 c6) Q from vc_wp [] 200 _ _ _ _ _ _ (show ((0 : Int) ≤ 0 ∧ 0 ≤ (1 : Int)) ∧ (Q (.inl [vi 0]) (up D 226 12 t, SS L 1 c2 c3 c4 c5 c6)) from ⟨(by decide), (x28.2.1 h39)⟩)), fun h40 => vc_wp [] 200 _ _ _ _ _ _ (show wp 271 0 [vr 226, vi t, vu] [] (D, SS L 1 c2 c3 c4 c5 c6) (aft wp 269 167 [vr 226, vr 273, vi b, vu, vu, vi t, vi en, vu, vu] [vr 327] Q) from Exists.elim ((x28.2.2 h40)) fun xl32 x33 => s271 ⟨xl32, x33.1, (show wp 269 170 [vr 226, vr 273, vi b, vu, vu, vi t, vi en, vu, vu] [vi (labK K xl32.1 t), vr 327] (D, SS L 1 c2 c3 c4 c5 c6) Q from vc_wp [224] 200 _ _ _ _ _ _ (show (0 ≤ labK K xl32.1 t ∧ labK K xl32.1 t < 16000) ∧ ((D 327 (labK K xl32.1 t) = t → (wp 269 224 [vr 226, vr 273, vi b, vu, vu, vi t, vi en, vu, vu] [] (D, SS L 1 c2 c3 c4 c5 c6) Q)) ∧ (¬ (D 327 (labK K xl32.1 t) = t) → (wp 256 0 [vr 226, vi t] [] (D, SS L 1 c2 c3 c4 c5 c6) (aft wp 269 179 [vr 226, vr 273, vi b, vu, vu, vi t, vi en, vu, vu] [] Q)))) from ⟨x33.2.1, ⟨fun h37 => (x33.2.2.1 h37), fun h38 => r256_0 (show wp 269 182 [vr 226, vr 273, vi b, vu, vu, vi t, vi en, vu, vu] [vi 0] (up D 226 12 t, SS L 1 c2 c3 c4 c5 c6) Q from vc_wp [] 200 _ _ _ _ _ _ (show ((0 : Int) ≤ 0 ∧ 0 ≤ (1 : Int)) ∧ (Q (.inl [vi 0]) (up D 226 12 t, SS L 1 c2 c3 c4 c5 c6)) from ⟨(by decide), (x33.2.2.2 h38)⟩))⟩⟩))⟩)⟩))⟩⟩))⟩, fun h46 => vc_wp [254] 200 _ _ _ _ _ _ (show (0 ≤ b ∧ b < 48) ∧ ((D 285 b < en → (wp 269 254 [vr 226, vr 273, vi b, vu, vu, vi t, vi en, vu, vu] [vi 1] (D, SS L 1 c2 c3 c4 c5 c6) Q)) ∧ (¬ (D 285 b < en) → (wp 269 254 [vr 226, vr 273, vi b, vu, vu, vi t, vi en, vu, vu] [vi 0] (D, SS L 1 c2 c3 c4 c5 c6) Q))) from ⟨(H.2.1 (Classical.not_not.mp (mt (ib_z).mpr h46))).1, ⟨fun h43 => wp_d (Lle.k rfl (Lle.k rfl (Lle.v rfl (Lle.k rfl (Lle.k rfl (Lle.k rfl (Lle.k rfl (Lle.k rfl (Lle.k rfl (Lle.nil)))))))))) (((H.2.1 (Classical.not_not.mp (mt (ib_z).mpr h46))).2.1 h43)), fun h44 => wp_d (Lle.k rfl (Lle.k rfl (Lle.v rfl (Lle.k rfl (Lle.k rfl (Lle.k rfl (Lle.k rfl (Lle.k rfl (Lle.k rfl (Lle.nil)))))))))) (((H.2.1 (Classical.not_not.mp (mt (ib_z).mpr h46))).2.2 h44))⟩⟩)⟩))⟩)
theorem r269_224 {L c2 c3 c4 c5 c6 : Nat} {K : TK} {D : Dt} {Q : Out → Wd → Prop} {b t en : Int} (H : (MKp K (D 226 10) (D 321) (D 322) (D 320) ∧ 0 ≤ t ∧ (pline K t).1 = true) ∧ ((((-2147483648) ≤ t + ((pline K t).2 - t) ∧ t + ((pline K t).2 - t) ≤ 2147483647) ∧ (wp 269 131 [vr 226, vr 273, vi b, vu, vu, vi (t + ((pline K t).2 - t)), vi en, vu, vu] [] (D, SS L 1 c2 c3 c4 c5 c6) Q)))) : wp 269 224 [vr 226, vr 273, vi b, vu, vu, vi t, vi en, vu, vu] [] (D, SS L 1 c2 c3 c4 c5 c6) Q := vc_wp [] 200 _ _ _ _ _ _ (show wp 270 0 [vr 226, vi t, vu] [] (D, SS L 1 c2 c3 c4 c5 c6) (aft wp 269 229 [vr 226, vr 273, vi b, vu, vu, vi t, vi en, vu, vu] [vi t] Q) from s270 ⟨H.1, (show wp 269 232 [vr 226, vr 273, vi b, vu, vu, vi t, vi en, vu, vu] [vi ((pline K t).2 - t), vi t] (D, SS L 1 c2 c3 c4 c5 c6) Q from vc_wp [233] 200 _ _ _ _ _ _ (show wp 269 233 [vr 226, vr 273, vi b, vu, vu, vi t, vi en, vu, vu] [vi (w32 (t + ((pline K t).2 - t)))] (D, SS L 1 c2 c3 c4 c5 c6) Q from w32_i (fun z3 : Int => wp 269 233 [vr 226, vr 273, vi b, vu, vu, vi t, vi en, vu, vu] [vi z3] (D, SS L 1 c2 c3 c4 c5 c6) Q) (H.2).1 (vc_wp [131] 200 _ _ _ _ _ _ (show wp 269 131 [vr 226, vr 273, vi b, vu, vu, vi (t + ((pline K t).2 - t)), vi en, vu, vu] [] (D, SS L 1 c2 c3 c4 c5 c6) Q from (H.2).2))))⟩)
theorem r269_254 {L c2 c3 c4 c5 c6 : Nat} {K : TK} {D : Dt} {Q : Out → Wd → Prop} {t en s0 : Int} (H : ((s0 = 0 → ((s0 = 0 → (Q (.inl [vi 0]) (up D 226 12 t, SS L 1 c2 c3 c4 c5 c6))) ∧ (¬ (s0 = 0) → (Q (.inl [vi 1]) (D, SS L 1 c2 c3 c4 c5 c6))))) ∧ (¬ (s0 = 0) → (((-2147483648) ≤ en - 1 ∧ en - 1 ≤ 2147483647) ∧ ((0 ≤ en - 1 ∧ en - 1 < 1024) ∧ ((D 288 (en - 1) = 19 → (Q (.inl [vi 1]) (D, SS L 1 c2 c3 c4 c5 c6))) ∧ (¬ (D 288 (en - 1) = 19) → ((D 288 (en - 1) = 41 → (Q (.inl [vi 1]) (D, SS L 1 c2 c3 c4 c5 c6))) ∧ (¬ (D 288 (en - 1) = 41) → ((D 288 (en - 1) = 42 → (Q (.inl [vi 1]) (D, SS L 1 c2 c3 c4 c5 c6))) ∧ (¬ (D 288 (en - 1) = 42) → ((D 288 (en - 1) = 43 → (Q (.inl [vi 1]) (D, SS L 1 c2 c3 c4 c5 c6))) ∧ (¬ (D 288 (en - 1) = 43) → (Q (.inl [vi 0]) (up D 226 12 t, SS L 1 c2 c3 c4 c5 c6))))))))))))))) : wp 269 254 [vr 226, vr 273, vu, vu, vu, vi t, vi en, vu, vu] [vi s0] (D, SS L 1 c2 c3 c4 c5 c6) Q := vc_wp [265] 200 _ _ _ _ _ _ (show ((s0 = 0 → ((s0 = 0 → (wp 256 0 [vr 226, vi t] [] (D, SS L 1 c2 c3 c4 c5 c6) (aft wp 269 315 [vr 226, vr 273, vu, vu, vu, vi t, vi en, vi s0, vu] [] Q))) ∧ (¬ (s0 = 0) → (((0 : Int) ≤ 1 ∧ 1 ≤ (1 : Int)) ∧ (Q (.inl [vi 1]) (D, SS L 1 c2 c3 c4 c5 c6)))))) ∧ (¬ (s0 = 0) → (wp 269 265 [vr 226, vr 273, vu, vu, vu, vi t, vi en, vi s0, vu] [vr 288] (D, SS L 1 c2 c3 c4 c5 c6) Q))) from ⟨fun h46 => ⟨fun h5 => r256_0 (show wp 269 318 [vr 226, vr 273, vu, vu, vu, vi t, vi en, vi s0, vu] [vi 0] (up D 226 12 t, SS L 1 c2 c3 c4 c5 c6) Q from vc_wp [] 200 _ _ _ _ _ _ (show (((0 : Int) = 0 → (((0 : Int) ≤ 0 ∧ 0 ≤ (1 : Int)) ∧ (Q (.inl [vi 0]) (up D 226 12 t, SS L 1 c2 c3 c4 c5 c6)))) ∧ (¬ ((0 : Int) = 0) → (((0 : Int) ≤ 1 ∧ 1 ≤ (1 : Int)) ∧ (Q (.inl [vi 1]) (up D 226 12 t, SS L 1 c2 c3 c4 c5 c6))))) from ⟨fun _ => ⟨(by decide), ((H.1 h46).1 h5)⟩, fun h4 => absurd (by decide) h4⟩)), fun h6 => ⟨(by decide), ((H.1 h46).2 h6)⟩⟩, fun h47 => vc_wp [269] 200 _ _ _ _ _ _ (show wp 269 269 [vr 226, vr 273, vu, vu, vu, vi t, vi en, vi s0, vu] [vi (w32 (en - 1)), vr 288] (D, SS L 1 c2 c3 c4 c5 c6) Q from w32_i (fun z45 : Int => wp 269 269 [vr 226, vr 273, vu, vu, vu, vi t, vi en, vi s0, vu] [vi z45, vr 288] (D, SS L 1 c2 c3 c4 c5 c6) Q) ((H.2 h47)).1 (vc_wp [] 200 _ _ _ _ _ _ (show (0 ≤ en - 1 ∧ en - 1 < 1024) ∧ ((D 288 (en - 1) = 19 → (((1 : Int) = 0 → (wp 256 0 [vr 226, vi t] [] (D, SS L 1 c2 c3 c4 c5 c6) (aft wp 269 315 [vr 226, vr 273, vu, vu, vu, vi t, vi en, vi 1, vi (D 288 (en - 1))] [] Q))) ∧ (¬ ((1 : Int) = 0) → (((0 : Int) ≤ 1 ∧ 1 ≤ (1 : Int)) ∧ (Q (.inl [vi 1]) (D, SS L 1 c2 c3 c4 c5 c6)))))) ∧ (¬ (D 288 (en - 1) = 19) → ((D 288 (en - 1) = 41 → (((1 : Int) = 0 → (wp 256 0 [vr 226, vi t] [] (D, SS L 1 c2 c3 c4 c5 c6) (aft wp 269 315 [vr 226, vr 273, vu, vu, vu, vi t, vi en, vi 1, vi (D 288 (en - 1))] [] Q))) ∧ (¬ ((1 : Int) = 0) → (((0 : Int) ≤ 1 ∧ 1 ≤ (1 : Int)) ∧ (Q (.inl [vi 1]) (D, SS L 1 c2 c3 c4 c5 c6)))))) ∧ (¬ (D 288 (en - 1) = 41) → ((D 288 (en - 1) = 42 → (((1 : Int) = 0 → (wp 256 0 [vr 226, vi t] [] (D, SS L 1 c2 c3 c4 c5 c6) (aft wp 269 315 [vr 226, vr 273, vu, vu, vu, vi t, vi en, vi 1, vi (D 288 (en - 1))] [] Q))) ∧ (¬ ((1 : Int) = 0) → (((0 : Int) ≤ 1 ∧ 1 ≤ (1 : Int)) ∧ (Q (.inl [vi 1]) (D, SS L 1 c2 c3 c4 c5 c6)))))) ∧ (¬ (D 288 (en - 1) = 42) → ((D 288 (en - 1) = 43 → (((1 : Int) = 0 → (wp 256 0 [vr 226, vi t] [] (D, SS L 1 c2 c3 c4 c5 c6) (aft wp 269 315 [vr 226, vr 273, vu, vu, vu, vi t, vi en, vi 1, vi (D 288 (en - 1))] [] Q))) ∧ (¬ ((1 : Int) = 0) → (((0 : Int) ≤ 1 ∧ 1 ≤ (1 : Int)) ∧ (Q (.inl [vi 1]) (D, SS L 1 c2 c3 c4 c5 c6)))))) ∧ (¬ (D 288 (en - 1) = 43) → (((0 : Int) = 0 → (wp 256 0 [vr 226, vi t] [] (D, SS L 1 c2 c3 c4 c5 c6) (aft wp 269 315 [vr 226, vr 273, vu, vu, vu, vi t, vi en, vi 0, vi (D 288 (en - 1))] [] Q))) ∧ (¬ ((0 : Int) = 0) → (((0 : Int) ≤ 1 ∧ 1 ≤ (1 : Int)) ∧ (Q (.inl [vi 1]) (D, SS L 1 c2 c3 c4 c5 c6))))))))))))) from ⟨((H.2 h47)).2.1, ⟨fun h43 => ⟨fun h11 => absurd h11 (by decide), fun _ => ⟨(by decide), (((H.2 h47)).2.2.1 h43)⟩⟩, fun h44 => ⟨fun h41 => ⟨fun h17 => absurd h17 (by decide), fun _ => ⟨(by decide), ((((H.2 h47)).2.2.2 h44).1 h41)⟩⟩, fun h42 => ⟨fun h39 => ⟨fun h23 => absurd h23 (by decide), fun _ => ⟨(by decide), (((((H.2 h47)).2.2.2 h44).2 h42).1 h39)⟩⟩, fun h40 => ⟨fun h37 => ⟨fun h29 => absurd h29 (by decide), fun _ => ⟨(by decide), ((((((H.2 h47)).2.2.2 h44).2 h42).2 h40).1 h37)⟩⟩, fun h38 => ⟨fun _ => r256_0 (show wp 269 318 [vr 226, vr 273, vu, vu, vu, vi t, vi en, vi 0, vi (D 288 (en - 1))] [vi 0] (up D 226 12 t, SS L 1 c2 c3 c4 c5 c6) Q from vc_wp [] 200 _ _ _ _ _ _ (show (((0 : Int) = 0 → (((0 : Int) ≤ 0 ∧ 0 ≤ (1 : Int)) ∧ (Q (.inl [vi 0]) (up D 226 12 t, SS L 1 c2 c3 c4 c5 c6)))) ∧ (¬ ((0 : Int) = 0) → (((0 : Int) ≤ 1 ∧ 1 ≤ (1 : Int)) ∧ (Q (.inl [vi 1]) (up D 226 12 t, SS L 1 c2 c3 c4 c5 c6))))) from ⟨fun _ => ⟨(by decide), ((((((H.2 h47)).2.2.2 h44).2 h42).2 h40).2 h38)⟩, fun h34 => absurd (by decide) h34⟩)), fun h36 => absurd (by decide) h36⟩⟩⟩⟩⟩⟩)))⟩)
/-- the first walk: where the labels stand -/
theorem l269a {L c2 c3 c4 c5 c6 : Nat} {D : Dt} {Q : Out → Wd → Prop} {K : TK} {b be e n0 : Int} {lt lp : List Int} (hM : MKp K (D 226 10) (D 321) (D 322) (D 320)) (hb : 0 ≤ b ∧ b < 48) (hn0 : 0 ≤ n0 ∧ n0 ≤ 20000) (hltn : lt.length ≤ 16000)
    (H : ∀ E, FrQ D E → (∀ a, ¬ a = 226 → ¬ (327 ≤ a ∧ a ≤ 328) → E a = D a) → LbM K lt lp E → wp 269 131 [vr 226, vr 273, vi b, vu, vu, vi be, vi n0, vu, vu] [] (up E 286 b n0, SS L 1 c2 c3 c4 c5 c6) Q) :
    ∀ (N : Nat) (t cd : Int) (E : Dt) (lt1 lp1 : List Int), plp (fun b => K.w b 8) (pline K) N t = (true, e) → 0 ≤ t → FrQ D E → (∀ a, ¬ a = 226 → ¬ (327 ≤ a ∧ a ≤ 328) → E a = D a) → E 226 19 = lt1.length → L1 (E 327) lt1 → L1 (E 328) lp1 → lp1.length = lt1.length → (lt1.length : Int) ≤ t → (∀ x ∈ lt1, 0 ≤ x ∧ x < K.n) → lt1 ++ lbT K (pls (fun b => K.w b 8) (pline K) N t) = lt → lp1 ++ lbP K (pls (fun b => K.w b 8) (pline K) N t) cd = lp → cd + lnC K (pls (fun b => K.w b 8) (pline K) N t) = n0 → 0 ≤ cd → wp 269 33 [vr 226, vr 273, vi b, vi be, vi cd, vi t, vu, vu, vu] [] (E, SS L 1 c2 c3 c4 c5 c6) Q := by
  intro N
  induction N with
  | zero => intro t cd E lt1 lp1 h; cases h
  | succ N ih =>
    intro t cd E lt1 lp1 hp t0 hf hf2 h19 h1 h2 h3 hlt hgd e1 e2 e3 cd0
    have hM1 := mk_f hM hf.n
    rcases Classical.em (K.w t 8) with g | g
    · rw [pls_st (st := fun b => K.w b 8) g] at e1 e2 e3
      have e1 : lt1 ++ [] = lt := e1
      have e2 : lp1 ++ [] = lp := e2
      have e3 : cd + 0 = n0 := e3
      rw [List.append_nil] at e1 e2
      rw [show cd = n0 by omega]
      refine r269_33 (K := K) ⟨⟨hM1, t0⟩, fun _ => ⟨hb, H E hf hf2 ⟨by rw [← e1]; exact h19, by rw [← e1]; exact h1, by rw [← e2]; exact h2, by rw [← e1, ← e2]; exact h3, by rw [← e1]; exact hgd, hltn⟩⟩, fun x => absurd g x⟩
    · unfold plp at hp
      rw [cit_f g] at hp
      obtain ⟨c, i1, i2⟩ := pb_t hp
      have hadv := adv_line K _ _ i1
      have ht : t < K.n := (pl_of (by rw [i1])).1.1
      have hn := (mk_tok hM1 t0 ht).2.2.2.2.2
      rw [pls_go (st := fun b => K.w b 8) g, i1] at e1 e2 e3
      dsimp only at e1 e2 e3
      have hnx : ∀ (cd' : Int) (E' : Dt) (lt1' lp1' : List Int), FrQ D E' → (∀ a, ¬ a = 226 → ¬ (327 ≤ a ∧ a ≤ 328) → E' a = D a) → E' 226 19 = lt1'.length → L1 (E' 327) lt1' → L1 (E' 328) lp1' → lp1'.length = lt1'.length → (lt1'.length : Int) ≤ t + 1 → (∀ x ∈ lt1', 0 ≤ x ∧ x < K.n) → lt1' ++ lbT K (pls (fun b => K.w b 8) (pline K) N c) = lt → lp1' ++ lbP K (pls (fun b => K.w b 8) (pline K) N c) cd' = lp → cd' + lnC K (pls (fun b => K.w b 8) (pline K) N c) = n0 → 0 ≤ cd' → wp 269 102 [vr 226, vr 273, vi b, vi be, vi cd', vi t, vu, vu, vu] [] (E', SS L 1 c2 c3 c4 c5 c6) Q := by
        intro cd' E' lt1' lp1' q1 q2 q3 q4 q5 q6 q7 q8 q9 q10 q11 q12
        refine r269_102 (K := K) ⟨⟨mk_f hM q1.n, t0, by rw [i1]⟩, ?_⟩
        rw [i1]
        dsimp only
        rw [show t + (c - t) = c by omega]
        exact ⟨by omega, ih c cd' E' lt1' lp1' i2 (by omega) q1 q2 q3 q4 q5 q6 (by omega) q8 q9 q10 q11 q12⟩
      refine r269_33 (K := K) ⟨⟨hM1, t0⟩, fun x => absurd x g, fun _ => ⟨⟨hM1, t0, by omega⟩, fun g1 => ⟨by omega, by omega, by omega, ?_⟩, fun g1 => ⟨⟨hM1, t0⟩, fun g2 => ?_, fun g2 => ?_⟩⟩⟩
      · have eT : lbT K (t :: pls (fun b => K.w b 8) (pline K) N c) = t :: lbT K (pls (fun b => K.w b 8) (pline K) N c) := cit_t g1
        have eP : lbP K (t :: pls (fun b => K.w b 8) (pline K) N c) cd = cd :: lbP K (pls (fun b => K.w b 8) (pline K) N c) cd := cit_t g1
        rw [eT] at e1
        rw [eP] at e2
        rw [lnC_lab g1] at e3
        refine hnx cd _ (lt1 ++ [t]) (lp1 ++ [cd]) (((hf.u (Or.inr (Or.inl ⟨by decide, by decide⟩))).u (Or.inr (Or.inl ⟨by decide, by decide⟩))).u (Or.inr (Or.inr ⟨rfl, rfl⟩))) (fun a x y => ?_) ?_ ?_ ?_ ?_ ?_ (fun x hx => ?_) ?_ ?_ e3 cd0
        · rw [ub_a x, ub_a (by omega), ub_a (by omega)]; exact hf2 a x y
        · rw [ub_s, len_app]; omega
        · exact (l1_up h1 h19 : L1 (up E 327 (E 226 19) t 327) (lt1 ++ [t]))
        · exact (l1_up h2 (by omega) : L1 (up E 328 (E 226 19) cd 328) (lp1 ++ [cd]))
        · rw [len_app, len_app, h3]
        · rw [len_app]; omega
        · rcases List.mem_append.mp hx with y | y
          · exact hgd x y
          · rw [List.mem_singleton.mp y]; exact ⟨t0, ht⟩
        · rw [List.append_assoc]; exact e1
        · rw [List.append_assoc]; exact e2
      · have eT : lbT K (t :: pls (fun b => K.w b 8) (pline K) N c) = lbT K (pls (fun b => K.w b 8) (pline K) N c) := cit_f g1
        have eP : lbP K (t :: pls (fun b => K.w b 8) (pline K) N c) cd = lbP K (pls (fun b => K.w b 8) (pline K) N c) cd := (cit_f g1).trans (cit_t g2)
        rw [eT] at e1
        rw [eP] at e2
        rw [lnC_cat g1 g2] at e3
        exact hnx cd E lt1 lp1 hf hf2 h19 h1 h2 h3 (by omega) hgd e1 e2 e3 cd0
      · have eT : lbT K (t :: pls (fun b => K.w b 8) (pline K) N c) = lbT K (pls (fun b => K.w b 8) (pline K) N c) := cit_f g1
        have eP : lbP K (t :: pls (fun b => K.w b 8) (pline K) N c) cd = lbP K (pls (fun b => K.w b 8) (pline K) N c) (cd + 1) := (cit_f g1).trans (cit_f g2)
        rw [eT] at e1
        rw [eP] at e2
        rw [lnC_ins g1 g2] at e3
        have hb3 := lnC_b (K := K) (pls (fun b => K.w b 8) (pline K) N c)
        exact ⟨by omega, hnx (cd + 1) E lt1 lp1 hf hf2 h19 h1 h2 h3 (by omega) hgd e1 e2 (by omega) (by omega)⟩
theorem cdm_c {K : TK} {ns lt lp : List Int} {b t : Int} {Y : XB} {D : Dt} (h : CdM Y D) (hY : YLn Y) : CdM (cY K ns lt lp b Y t) (up (up (up (up (up (up D 294 (D 273 5) b) 295 (D 273 5) (labA K lt lp (t + 1))) 296 (D 273 5) (labA K lt lp (t + 2))) 297 (D 273 5) (labA K lt lp (t + 3))) 298 (D 273 5) (clsT K ns (t + 4))) 273 5 (D 273 5 + 1)) := by
  obtain ⟨⟨ec3, ec4, ec5⟩, l0, l1, l3, l4, l5, ⟨k6, k7, k8, k9, k10⟩, hs, hs2⟩ := h
  obtain ⟨a1, ⟨a5, a6, a7, a8⟩, a9⟩ := hY
  refine ⟨⟨ec3, ec4, ?_⟩, l0, l1, l3, l4, l5, ⟨?_, ?_, ?_, ?_, ?_⟩, hs, hs2⟩
  · show D 273 5 + 1 = ((Y 6 ++ [_]).length : Int)
    rw [len_app]; omega
  · exact (l1_up k6 ec5 : L1 (up D 295 (D 273 5) (labA K lt lp (t + 1)) 295) (Y 6 ++ [labA K lt lp (t + 1)]))
  · exact (l1_up k7 (by omega) : L1 (up D 296 (D 273 5) (labA K lt lp (t + 2)) 296) (Y 7 ++ [labA K lt lp (t + 2)]))
  · exact (l1_up k8 (by omega) : L1 (up D 297 (D 273 5) (labA K lt lp (t + 3)) 297) (Y 8 ++ [labA K lt lp (t + 3)]))
  · exact (l1_up k9 (by omega) : L1 (up D 298 (D 273 5) (clsT K ns (t + 4)) 298) (Y 9 ++ [clsT K ns (t + 4)]))
  · exact (l1_up k10 (by omega) : L1 (up D 294 (D 273 5) b 294) (Y 10 ++ [b]))
/-- the second walk -/
theorem l269b {L c2 c3 c4 c5 c6 : Nat} {D : Dt} {Q : Out → Wd → Prop} {K : TK} {ns ab : List Int} {X : XB} {lt lp : List Int} {b en e : Int} {r : PR × XB} (b0 : 0 ≤ b) (b1 : b < (X 4).length)
    (Hz : ∀ E, FrN D E → r.1.1 = false → E 226 12 = r.1.2 → Q (.inl [vi 0]) (E, SS L 1 c2 c3 c4 c5 c6)) (Hk : ∀ E, FrJ D E → CdM r.2 E → r.1.1 = true → wp 269 131 [vr 226, vr 273, vi b, vu, vu, vi e, vi en, vu, vu] [] (E, SS L 1 c2 c3 c4 c5 c6) Q) :
    ∀ (N : Nat) (t s : Int) (E : Dt) (Y : XB) (pre : List Int), plp (fun b => K.w b 8) (pline K) N t = (true, e) → 0 ≤ t → FrJ D E → MW K ns ab X E → LbM K lt lp E → CdM Y E → YLn Y → lt = pre ++ lbT K (pls (fun b => K.w b 8) (pline K) N t) → (pre.length : Int) = s → (∀ x ∈ pre, x < t) → r = lnR K ns ab X lt lp b en (pls (fun b => K.w b 8) (pline K) N t) s Y → wp 269 131 [vr 226, vr 273, vi b, vu, vu, vi t, vi en, vu, vu] [] (E, SS L 1 c2 c3 c4 c5 c6) Q := by
  intro N
  induction N with
  | zero => intro t s E Y pre h; cases h
  | succ N ih =>
    intro t s E Y pre hp t0 hf hW hL hC hY elt es hpre er
    rcases Classical.em (K.w t 8) with g | g
    · have h2 : plp (fun b => K.w b 8) (pline K) (N + 1) t = (true, t) := plp_st (st := fun b => K.w b 8) g
      rw [h2] at hp
      have he : t = e := by cases hp; rfl
      rw [pls_st (st := fun b => K.w b 8) g] at er
      have er : r = ((true, 0), Y) := er
      have := Hk E hf (by rw [er]; exact hC) (by rw [er])
      rw [← he] at this
      exact this
    · unfold plp at hp
      rw [cit_f g] at hp
      obtain ⟨c, i1, i2⟩ := pb_t hp
      have hadv := adv_line K _ _ i1
      obtain ⟨hsn, hkind⟩ := pl_of (K := K) (l := t) (by rw [i1])
      have ht : t < K.n := hsn.1
      have hM1 := hW.1
      have hn := (mk_tok hM1 t0 ht).2.2.2.2.2
      rw [pls_go (st := fun b => K.w b 8) g, i1] at elt er
      dsimp only at elt er
      obtain ⟨v1, v2, v3, v4, v5, v6⟩ := hL
      have hnext : ∀ (s' : Int) (E' : Dt) (Y' : XB) (pre' : List Int), FrJ E E' → CdM Y' E' → YLn Y' → lt = pre' ++ lbT K (pls (fun b => K.w b 8) (pline K) N c) → (pre'.length : Int) = s' → (∀ x ∈ pre', x < c) → r = lnR K ns ab X lt lp b en (pls (fun b => K.w b 8) (pline K) N c) s' Y' → wp 269 224 [vr 226, vr 273, vi b, vu, vu, vi t, vi en, vu, vu] [] (E', SS L 1 c2 c3 c4 c5 c6) Q := by
        intro s' E' Y' pre' f hC' hY' e1 e2 e3 e4
        have := ih c s' E' Y' pre' i2 (by omega) (hf.t f) (hW.f f) (LbM.f ⟨v1, v2, v3, v4, v5, v6⟩ f) hC' hY' e1 e2 e3 e4
        refine r269_224 (K := K) ⟨⟨(hW.f f).1, t0, by rw [i1]⟩, ?_⟩
        rw [i1]
        dsimp only
        rw [show t + (c - t) = c by omega]
        exact ⟨by omega, this⟩
      have hbad : ∀ p, r.1 = (false, p) → Q (.inl [vi 0]) (up E 226 12 p, SS L 1 c2 c3 c4 c5 c6) := fun p h => Hz _ (hf.n.u (Or.inr (Or.inr ⟨rfl, Or.inl rfl⟩))) (by rw [h]) (by rw [h, ub_s])
      refine r269_131 (K := K) ⟨⟨hM1, t0⟩, fun x => absurd x g, fun _ => ⟨⟨hM1, t0, by omega⟩, fun g1 => ?_, fun g1 => ⟨⟨hM1, t0⟩, fun g2 => ?_, fun g2 => ?_⟩⟩⟩
      · -- a label
        have eT : lbT K (t :: pls (fun b => K.w b 8) (pline K) N c) = t :: lbT K (pls (fun b => K.w b 8) (pline K) N c) := cit_t g1
        rw [eT] at elt
        have els : lf lt s = t := by
          have := lf_app (p := pre) (l := t :: lbT K (pls (fun b => K.w b 8) (pline K) N c)) (i := 0) (Int.le_refl _)
          rw [← elt, es, show s + 0 = s by omega] at this
          rw [this]; rfl
        have hsl : s < lt.length := by
          rw [elt, List.length_append, List.length_cons]; omega
        rw [lnR_lab g1] at er
        refine ⟨(lt, lp), ⟨hM1, ⟨v1, v2, v3, v4, v5, v6⟩, t0, ht⟩, ?_⟩
        dsimp only
        rcases labK_b (K := K) (lt := lt) (t := t) with x | ⟨x1, x2, x3, x4⟩
        · exact absurd (show K.same t (lf lt s) by rw [els]; exact same_r K t) (fs_no (P := fun k => K.same t (lf lt k)) (k := 0) (n := lt.length) (by decide) (by show labK K lt t < 0; omega) s (by omega) hsl)
        · refine ⟨fun y => by omega, fun _ => ⟨(lt, lp), ⟨hM1, ⟨v1, v2, v3, v4, v5, v6⟩, t0, ht⟩, ?_⟩⟩
          dsimp only
          rw [v2 _ x1 x2]
          have hle : labK K lt t ≤ s := by
            by_cases c2 : s < labK K lt t
            · exact absurd (by rw [els]; exact same_r K t) (x4 s (by omega) c2)
            · omega
          have hiff : lf lt (labK K lt t) = t ↔ labK K lt t = s := by
            constructor
            · intro h
              by_cases c2 : labK K lt t < s
              · have h3 := lf_apl (p := pre) (l := t :: lbT K (pls (fun b => K.w b 8) (pline K) N c)) (i := labK K lt t) x1 (by omega)
                rw [← elt] at h3
                have h4 := hpre _ (lf_mem (l := pre) x1 (by omega))
                omega
              · omega
            · intro h
              rw [h]; exact els
          refine ⟨by omega, fun y => ?_, fun y => ?_⟩
          · rw [cit_t (hiff.mp y)] at er
            refine hnext (s + 1) E Y (pre ++ [t]) (FrJ.r E) hC hY ?_ ?_ (fun x hx => ?_) er
            · rw [List.append_assoc]; exact elt
            · rw [len_app]; omega
            · rcases List.mem_append.mp hx with z | z
              · have := hpre x z; omega
              · rw [List.mem_singleton.mp z]; omega
          · rw [cit_f (fun z => y (hiff.mpr z))] at er
            exact hbad t (by rw [er])
      · have eT : lbT K (t :: pls (fun b => K.w b 8) (pline K) N c) = lbT K (pls (fun b => K.w b 8) (pline K) N c) := cit_f g1
        rw [eT] at elt
        rw [lnR_cat g1 g2] at er
        have h4 : t + 4 < K.n := by
          rcases hkind with x | x | x
          · exact absurd x.1 g1
          · exact x.2.2.1
          · exact absurd g2 x.2.1
        have ec5 := hC.1.2.2
        have a8 := hY.2.2.2.2
        refine ⟨(ns, ab, lt, lp), ⟨hM1, hW.2.1, hW.2.2.1, ⟨v1, v2, v3, v4, v5, v6⟩, by omega, by omega, t0, h4⟩, fun x => ?_, fun x => ?_⟩
        · dsimp only at x ⊢
          have x' := x
          rw [ec5] at x'
          rw [cit_t x'] at er
          refine hnext s _ _ pre ?_ (cdm_c hC hY) (cY_l hY (by have := cfa_64 x'; omega)) elt es (fun x hx => by have := hpre x hx; omega) er
          exact ((((((FrJ.r E).u (Or.inr (Or.inl ⟨by decide, by decide⟩))).u (Or.inr (Or.inl ⟨by decide, by decide⟩))).u (Or.inr (Or.inl ⟨by decide, by decide⟩))).u (Or.inr (Or.inl ⟨by decide, by decide⟩))).u (Or.inr (Or.inl ⟨by decide, by decide⟩))).u (Or.inr (Or.inr (Or.inr ⟨rfl, Or.inl ⟨by decide, by decide⟩⟩)))
        · dsimp only at x ⊢
          have x' := x
          rw [ec5] at x' ⊢
          rw [cit_f x'] at er
          exact hbad _ (by rw [er]; exact PR_f x')
      · have eT : lbT K (t :: pls (fun b => K.w b 8) (pline K) N c) = lbT K (pls (fun b => K.w b 8) (pline K) N c) := cit_f g1
        rw [eT] at elt
        rw [lnR_ins g1 g2] at er
        have hop : 0 ≤ K.op t ∧ (pops K (K.op t) (t + 1)).1 = true := by
          rcases hkind with x | x | x
          · exact absurd x.1 g1
          · exact absurd x.2.1 g2
          · exact ⟨x.2.2.1, x.2.2.2.1⟩
        refine ⟨(ns, ab, X, lt, lp, Y), ⟨hW, ⟨v1, v2, v3, v4, v5, v6⟩, hC, hY, t0, ht, hop.1, oSy_i hop.2, b0, b1⟩, fun E' x => ?_, fun E' x => ?_⟩
        · dsimp only at x
          rw [cit_t x.1] at er
          exact hnext s E' _ pre x.2.1 x.2.2 (iY_l hY (ifa_q x.1).1 (ifa_q x.1).2) elt es (fun x hx => by have := hpre x hx; omega) er
        · dsimp only at x
          rw [cit_f x.1] at er
          refine Hz E' (hf.n.t x.2.1) ?_ ?_
          · rw [er, PR_f x.1]
          · rw [er]; exact x.2.2
def FeM (Y : XB) (D : Dt) : Prop := L1 (D 285) (Y 11) ∧ L1 (D 286) (Y 12)
theorem s269 {L c2 c3 c4 c5 c6 : Nat} {D : Dt} {Q : Out → Wd → Prop} {K : TK} {b : Int} (H : ∃ x : List Int × List Int × XB × XB, (MW K x.1 x.2.1 x.2.2.1 D ∧ CdM x.2.2.2 D ∧ YLn x.2.2.2 ∧ FeM x.2.2.2 D ∧ ((x.2.2.2 11).length = b ∧ (x.2.2.2 12).length = b) ∧ 0 ≤ b ∧ b < (x.2.2.1 4).length) ∧ (∀ E, ((bdR K x.1 x.2.1 x.2.2.1 b (lf (x.2.2.1 12) b) x.2.2.2).1.1 = true ∧ FrQ D E ∧ CdM (bdR K x.1 x.2.1 x.2.2.1 b (lf (x.2.2.1 12) b) x.2.2.2).2 E ∧ FeM (bdR K x.1 x.2.1 x.2.2.1 b (lf (x.2.2.1 12) b) x.2.2.2).2 E) → Q (.inl [vi 1]) (E, SS L 1 c2 c3 c4 c5 c6)) ∧ (∀ E, (¬ (bdR K x.1 x.2.1 x.2.2.1 b (lf (x.2.2.1 12) b) x.2.2.2).1.1 = true ∧ FrN D E ∧ E 226 12 = (bdR K x.1 x.2.1 x.2.2.1 b (lf (x.2.2.1 12) b) x.2.2.2).1.2) → Q (.inl [vi 0]) (E, SS L 1 c2 c3 c4 c5 c6))) : wp 269 0 [vr 226, vr 273, vi b, vu, vu, vu, vu, vu, vu] [] (D, SS L 1 c2 c3 c4 c5 c6) Q := by
  obtain ⟨⟨ns, ab, X, Y⟩, ⟨hW, hC, hY, hFe, ⟨hb11, hb12⟩, b0, b1⟩, Hk, Hz⟩ := H
  dsimp only at *
  have hl := hW.2.2.2.2.2.1
  have hB := hW.2.2.2.2.1
  have h48 := hB.1.2.2.1
  obtain ⟨o1, o2, o3, ⟨m0, m1, m2⟩, o5, o6⟩ := hW.2.2.2.2.2.2.1 b b0 b1
  have e326 : D 326 b = bbp K (lf (X 12) b) + 1 := by
    have := hB.2.2.2.2.2.1 b b0 (by rw [List.length_map]; have := hl.2.2.2.2.2.2.2; omega)
    rw [this, lf_map b0 (by have := hl.2.2.2.2.2.2.2; omega)]
  have hlt := o2.lt
  have ht0 := o2.1
  have hok := o2.ok
  have hpl : plp (fun b => K.w b 8) (pline K) (fu K (bbp K (lf (X 12) b) + 4)) (bbp K (lf (X 12) b) + 4) = (true, clO K (lf (X 12) b)) := hok.2.2.2.2.2.2.2.2.2.2.1
  have hcl : K.w (clO K (lf (X 12) b)) 8 := hok.2.2.2.2.2.2.2.2.2.2.2.1
  have hlen := pls_len (adv_line K) _ _ _ hpl
  have hlen : ((bLn K (lf (X 12) b)).length : Int) ≤ clO K (lf (X 12) b) - (bbp K (lf (X 12) b) + 4) := hlen
  have hcn : clO K (lf (X 12) b) < K.n := hcl.1
  have hn : K.n ≤ 16000 := (mk_tok hW.1 (j := lf (X 12) b) ht0 (by omega)).2.2.2.2.2
  have hlnC := lnC_b (K := K) (bLn K (lf (X 12) b))
  have hltl := lbT_len (K := K) (bLn K (lf (X 12) b))
  have ec3 := hC.1.1
  have a6 := hY.2.2.1
  have f0 : FrQ D (up (up D 285 b (D 273 3)) 226 19 0) := ((FrQ.r D).u (Or.inl ⟨by decide, by decide⟩)).u (Or.inr (Or.inr ⟨rfl, rfl⟩))
  have hM0 := (hW.q f0).1
  have e4 : bbp K (lf (X 12) b) + 1 + 3 = bbp K (lf (X 12) b) + 4 := by omega
  refine r269_0 (K := K) ?_
  rw [e326, e4]
  refine ⟨by omega, by omega, by omega, l269a (D := up (up D 285 b (D 273 3)) 226 19 0) (K := K) (b := b) (be := bbp K (lf (X 12) b) + 4) (e := clO K (lf (X 12) b)) (n0 := (Y 0).length + lnC K (bLn K (lf (X 12) b))) (lt := lbT K (bLn K (lf (X 12) b))) (lp := lbP K (bLn K (lf (X 12) b)) (Y 0).length) hM0 (by omega) (by omega) (by omega) ?_ (fu K (bbp K (lf (X 12) b) + 4)) _ _ _ [] [] hpl (by omega) (FrQ.r _) (fun _ _ _ => rfl) rfl (fun i i0 i1 => by have i1 : i < ((0 : Nat) : Int) := i1; omega) (fun i i0 i1 => by have i1 : i < ((0 : Nat) : Int) := i1; omega) rfl (by show ((0 : Nat) : Int) ≤ _; omega) (fun x hx => by cases hx) rfl ?_ ?_ (by omega)⟩
  · intro E f hf2 hL
    have f1 : FrQ D (up E 286 b ((Y 0).length + lnC K (bLn K (lf (X 12) b)))) := (f0.t f).u (Or.inl ⟨by decide, by decide⟩)
    have hL1 : LbM K (lbT K (bLn K (lf (X 12) b))) (lbP K (bLn K (lf (X 12) b)) (Y 0).length) (up E 286 b ((Y 0).length + lnC K (bLn K (lf (X 12) b)))) := by
      unfold LbM
      rw [ub_a (by decide), ub_a (by decide), ub_a (by decide)]
      exact hL
    have gE : ∀ a, ¬ a = 226 → ¬ a = 285 → ¬ a = 286 → ¬ (327 ≤ a ∧ a ≤ 328) → up E 286 b ((Y 0).length + lnC K (bLn K (lf (X 12) b))) a = D a := fun a h1 h2 h3 h4 => by
      rw [ub_a h3, hf2 a h1 h4, ub_a h1, ub_a h2]
    have hC1 : CdM (ap1 Y 11 (Y 0).length) (up E 286 b ((Y 0).length + lnC K (bLn K (lf (X 12) b)))) := by
      unfold CdM
      rw [gE 273 (by decide) (by decide) (by decide) (by decide), gE 288 (by decide) (by decide) (by decide) (by decide), gE 289 (by decide) (by decide) (by decide) (by decide), gE 290 (by decide) (by decide) (by decide) (by decide), gE 329 (by decide) (by decide) (by decide) (by decide), gE 291 (by decide) (by decide) (by decide) (by decide), gE 293 (by decide) (by decide) (by decide) (by decide), gE 295 (by decide) (by decide) (by decide) (by decide), gE 296 (by decide) (by decide) (by decide) (by decide), gE 297 (by decide) (by decide) (by decide) (by decide), gE 298 (by decide) (by decide) (by decide) (by decide), gE 294 (by decide) (by decide) (by decide) (by decide), gE 299 (by decide) (by decide) (by decide) (by decide)]
      exact hC
    refine l269b (D := up E 286 b ((Y 0).length + lnC K (bLn K (lf (X 12) b)))) (K := K) (ns := ns) (ab := ab) (X := X) (lt := lbT K (bLn K (lf (X 12) b))) (lp := lbP K (bLn K (lf (X 12) b)) (Y 0).length) (b := b) (e := clO K (lf (X 12) b)) (r := blR K ns ab X b (lf (X 12) b) Y) b0 b1 ?_ ?_ (fu K (bbp K (lf (X 12) b) + 4)) _ 0 _ (ap1 Y 11 (Y 0).length) [] hpl (by omega) (FrJ.r _) (hW.q f1) hL1 hC1 hY rfl rfl (fun x hx => by cases hx) rfl
    · intro E' f' hr he
      have e2 : bdR K ns ab X b (lf (X 12) b) Y = blR K ns ab X b (lf (X 12) b) Y := cit_f (by rw [hr]; decide)
      rw [e2] at Hz
      exact Hz E' ⟨by rw [hr]; decide, f1.n.t f', he⟩
    · intro E' f' hC' hr
      have e2 : bdR K ns ab X b (lf (X 12) b) Y = _ := cit_t hr
      obtain ⟨n1, n2, n3, n4⟩ := lnR_n (K := K) (ns := ns) (ab := ab) (X := X) (Y := ap1 Y 11 (Y 0).length) hY hr
      have n2 : (((blR K ns ab X b (lf (X 12) b) Y).2 0).length : Int) = (Y 0).length + lnC K (bLn K (lf (X 12) b)) := n2
      have n3 : (blR K ns ab X b (lf (X 12) b) Y).2 11 = Y 11 ++ [((Y 0).length : Int)] := n3
      have n4 : (blR K ns ab X b (lf (X 12) b) Y).2 12 = Y 12 := n4
      have n6 : ((blR K ns ab X b (lf (X 12) b) Y).2 0).length ≤ 1024 := n1.2.2.1
      have fDE : FrQ D E' := f1.t f'.q
      have e285 : E' 285 = up D 285 b (Y 0).length 285 := by
        rw [f'.1 285 (by decide) (by decide) (by decide) (by decide), ub_a (by decide), hf2 285 (by decide) (by decide), ub_a (by decide), ec3]
      have q285 : E' 285 b = (Y 0).length := by rw [e285, ub_s]
      have e286 : E' 286 = up D 286 b ((Y 0).length + lnC K (bLn K (lf (X 12) b))) 286 := by
        rw [f'.1 286 (by decide) (by decide) (by decide) (by decide)]
        funext i
        by_cases ei : i = b
        · rw [ei, ub_s, ub_s]
        · rw [ub_n ei, ub_n ei, hf2 286 (by decide) (by decide), ub_a (by decide), ub_a (by decide)]
      have hM' := (hW.q fDE).1
      have k288 : ∀ i : Int, 0 ≤ i → i < ((blR K ns ab X b (lf (X 12) b) Y).2 0).length → E' 288 i = lf ((blR K ns ab X b (lf (X 12) b) Y).2 0) i := hC'.2.1
      have hbad : ¬ (((Y 0).length : Int) < ((blR K ns ab X b (lf (X 12) b) Y).2 0).length ∧ ¬ goOn (lf ((blR K ns ab X b (lf (X 12) b) Y).2 0) ((((blR K ns ab X b (lf (X 12) b) Y).2 0).length : Int) - 1))) → Q (.inl [vi 0]) (up E' 226 12 (clO K (lf (X 12) b)), SS L 1 c2 c3 c4 c5 c6) := by
        intro h
        rw [cit_f h] at e2
        have := Hz (up E' 226 12 (clO K (lf (X 12) b))) ⟨(by rw [e2]; intro x; cases x), fDE.n.u (Or.inr (Or.inr ⟨rfl, Or.inl rfl⟩)), by rw [e2, ub_s]⟩
        exact this
      have hgood : (((Y 0).length : Int) < ((blR K ns ab X b (lf (X 12) b) Y).2 0).length ∧ ¬ goOn (lf ((blR K ns ab X b (lf (X 12) b) Y).2 0) ((((blR K ns ab X b (lf (X 12) b) Y).2 0).length : Int) - 1))) → Q (.inl [vi 1]) (E', SS L 1 c2 c3 c4 c5 c6) := by
        intro h
        rw [cit_t h] at e2
        rw [e2] at Hk
        dsimp only at Hk
        refine Hk E' ⟨rfl, fDE, hC', ?_, ?_⟩
        · show L1 (E' 285) ((blR K ns ab X b (lf (X 12) b) Y).2 11)
          rw [n3, e285]
          exact l1_up hFe.1 (by omega)
        · show L1 (E' 286) ((blR K ns ab X b (lf (X 12) b) Y).2 12 ++ [(((blR K ns ab X b (lf (X 12) b) Y).2 0).length : Int)])
          rw [n4, e286, n2]
          exact l1_up hFe.2 (by omega)
      refine r269_131 (K := K) ⟨⟨hM', by omega⟩, fun _ => ⟨by omega, ?_, ?_⟩, fun x => absurd hcl x⟩
      · intro g
        rw [q285] at g
        have ei : (Y 0).length + lnC K (bLn K (lf (X 12) b)) - 1 = (((blR K ns ab X b (lf (X 12) b) Y).2 0).length : Int) - 1 := by omega
        refine r269_254 (K := K) ⟨fun x => absurd x (by decide), fun _ => ?_⟩
        rw [ei, k288 _ (by omega) (by omega)]
        exact ⟨by omega, by omega, fun y => hgood ⟨by omega, fun z => z.1 y⟩, fun y1 => ⟨fun y => hgood ⟨by omega, fun z => z.2.1 y⟩, fun y2 => ⟨fun y => hgood ⟨by omega, fun z => z.2.2.1 y⟩, fun y3 => ⟨fun y => hgood ⟨by omega, fun z => z.2.2.2 y⟩, fun y4 => hbad fun z => z.2 ⟨y1, y2, y3, y4⟩⟩⟩⟩⟩
      · intro g
        rw [q285] at g
        exact r269_254 (K := K) ⟨fun _ => ⟨fun _ => hbad fun z => by omega, fun x => absurd rfl x⟩, fun x => absurd rfl x⟩
  · rw [ec3]; rfl
  · rw [ec3]; rfl
