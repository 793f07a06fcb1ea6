/-! names: the model's members -/
set_option maxRecDepth 100000
theorem pls_good {K : TK} {st : Int → Prop} {f : Int → PR} (hf : Adv K f) : ∀ (N : Nat) (a b : Int), plp st f N a = (true, b) → 0 ≤ a → ∀ x ∈ pls st f N a, 0 ≤ x ∧ (f x).1 = true
  | 0, _, _, h, _, _, _ => by cases h
  | N + 1, a, b, h, h0, x, hx => by
    unfold plp at h
    rcases Classical.em (st a) with h1 | h1
    · rw [pls_st h1] at hx; cases hx
    · rw [cit_f h1] at h
      rw [pls_go h1] at hx
      obtain ⟨c, h2, h3⟩ := pb_t h
      have h4 := hf a c h2
      rcases List.mem_cons.mp hx with e | e
      · rw [e, h2]; exact ⟨h0, rfl⟩
      · rw [h2] at e
        exact pls_good hf N c b h3 (by omega) x e
theorem cls_mems {K : TK} {a e : Int} (h : pcls K a = (true, e)) : (pmems K (a + 5)).1 = true := by
  unfold pcls at h
  obtain ⟨c1, g1, h⟩ := pb_t h
  obtain ⟨c2, g2, h⟩ := pb_t h
  obtain ⟨c3, g3, h⟩ := pb_t h
  obtain ⟨c4, g4, h⟩ := pb_t h
  obtain ⟨c5, g5, h⟩ := pb_t h
  obtain ⟨c6, g6, h⟩ := pb_t h
  have i1 := (pm_e g1).2
  have i2 := (pm_e g2).2
  have i3 := (pm_e g3).2
  have i4 := (pm_e g4).2
  have i5 := (pm_e g5).2
  rw [show a + 5 = c5 by omega, g6]
theorem cls_good {K : TK} (h : (pprog K).1 = true) : ∀ a ∈ lcls K, 0 ≤ a ∧ (pcls K a).1 = true := fun a ha => pls_good (adv_cls K) _ 0 _ (PR_t h) (by decide) a ha
theorem mem_good {K : TK} (l : List Int) (h : ∀ a ∈ l, 0 ≤ a ∧ (pcls K a).1 = true) : ∀ t ∈ allM K l, MG K t := by
  induction l with
  | nil => intro t ht; cases ht
  | cons a l ih =>
    intro t ht
    have ht : t ∈ lmems K (a + 5) ++ allM K l := ht
    rcases List.mem_append.mp ht with x | x
    · have ha := h a (List.mem_cons_self ..)
      exact pls_good (adv_mem K) _ _ _ (PR_t (cls_mems (PR_t ha.2))) (by omega) t x
    · exact ih (fun b hb => h b (List.mem_cons_of_mem _ hb)) t x
theorem mms_good {K : TK} (h : (pprog K).1 = true) : ∀ t ∈ mms K, MG K t := mem_good _ (cls_good h)
theorem lf_mid {p l : List Int} {v m : Int} (hm : (p.length : Int) = m) : lf (p ++ v :: l) m = v := by
  unfold lf
  rw [← hm, Int.toNat_natCast, List.getD_eq_getElem?_getD, List.getElem?_append_right (Nat.le_refl _), Nat.sub_self]
  rfl
def X0 : XB := fun _ => []
theorem gi_0 {K : TK} {ns ab : List Int} {c : Int} : GI K ns ab X0 c := by
  refine ⟨⟨⟨rfl, rfl, rfl⟩, ⟨rfl, rfl, rfl, rfl, rfl, rfl, rfl, rfl⟩, fun b b0 b1 => ?_, fun _ _ _ i j _ i0 i1 => ?_, by decide, by decide⟩, fun i i0 i1 => ?_, fun b b0 b1 => ?_, fun b b' b0 b1 => ?_⟩
  · have b1 : b < 0 := b1
    omega
  · have i1 : i < 0 := i1
    omega
  · have i1 : i < 0 := i1
    omega
  · have b1 : b < 0 := b1
    omega
  · have b1 : b < 0 := b1
    omega
theorem r258_0 {L c2 c3 c4 c5 c6 : Nat} {K : TK} {D : Dt} {Q : Out → Wd → Prop} (H : wp 258 15 [vr 226, vr 273, vu, vi 8] [] (up (up D 273 1 0) 273 2 0, SS L 1 c2 c3 c4 c5 c6) Q) : wp 258 0 [vr 226, vr 273, vu, vu] [] (D, SS L 1 c2 c3 c4 c5 c6) Q := vc_wp [5] 200 _ _ _ _ _ _ (show wp 258 5 [vr 226, vr 273, vu, vu] [] (up D 273 1 0, SS L 1 c2 c3 c4 c5 c6) Q from vc_wp [10] 200 _ _ _ _ _ _ (show wp 258 10 [vr 226, vr 273, vu, vu] [] (up (up D 273 1 0) 273 2 0, SS L 1 c2 c3 c4 c5 c6) Q from vc_wp [15] 200 _ _ _ _ _ _ (show wp 258 15 [vr 226, vr 273, vi 0, vi 8] [] (up (up D 273 1 0) 273 2 0, SS L 1 c2 c3 c4 c5 c6) Q from wp_d (Lle.k rfl (Lle.k rfl (Lle.v rfl (Lle.k rfl (Lle.nil))))) (H))))
theorem r258_15 {L c2 c3 c4 c5 c6 : Nat} {K : TK} {D : Dt} {Q : Out → Wd → Prop} {c : Int} (H : (0 ≤ D 273 0 ∧ D 273 0 ≤ 24) ∧ ((((c < 8 + D 273 0 → ((0 ≤ c ∧ c < 32) ∧ (((-2147483648) ≤ (D 323 c) + 4 ∧ (D 323 c) + 4 ≤ 2147483647) ∧ (wp 258 33 [vr 226, vr 273, vi ((D 323 c) + 4), vi c] [] (D, SS L 1 c2 c3 c4 c5 c6) Q)))) ∧ (¬ (c < 8 + D 273 0) → (Q (.inl [vi 1]) (D, SS L 1 c2 c3 c4 c5 c6))))))) : wp 258 15 [vr 226, vr 273, vu, vi c] [] (D, SS L 1 c2 c3 c4 c5 c6) Q := vc_wp [] 200 _ _ _ _ _ _ (show wp 254 0 [vr 226, vr 273] [] (D, SS L 1 c2 c3 c4 c5 c6) (aft wp 258 18 [vr 226, vr 273, vu, vi c] [vi c] Q) from s254 ⟨H.1, (show wp 258 21 [vr 226, vr 273, vu, vi c] [vi (8 + D 273 0), vi c] (D, SS L 1 c2 c3 c4 c5 c6) Q from vc_wp [28] 200 _ _ _ _ _ _ (show ((c < 8 + D 273 0 → (wp 258 28 [vr 226, vr 273, vu, vi c] [vr 323] (D, SS L 1 c2 c3 c4 c5 c6) Q)) ∧ (¬ (c < 8 + D 273 0) → (((0 : Int) ≤ 1 ∧ 1 ≤ (1 : Int)) ∧ (Q (.inl [vi 1]) (D, SS L 1 c2 c3 c4 c5 c6))))) from ⟨fun h4 => vc_wp [32] 200 _ _ _ _ _ _ (show (0 ≤ c ∧ c < 32) ∧ (wp 258 32 [vr 226, vr 273, vu, vi c] [vi (w32 ((D 323 c) + 4))] (D, SS L 1 c2 c3 c4 c5 c6) Q) from ⟨(H.2.1 h4).1, w32_i (fun z3 : Int => wp 258 32 [vr 226, vr 273, vu, vi c] [vi z3] (D, SS L 1 c2 c3 c4 c5 c6) Q) ((H.2.1 h4).2).1 (vc_wp [33] 200 _ _ _ _ _ _ (show wp 258 33 [vr 226, vr 273, vi ((D 323 c) + 4), vi c] [] (D, SS L 1 c2 c3 c4 c5 c6) Q from ((H.2.1 h4).2).2))⟩), fun h5 => ⟨(by decide), (H.2.2 h5)⟩⟩))⟩)
theorem r258_33 {L c2 c3 c4 c5 c6 : Nat} {K : TK} {D : Dt} {Q : Out → Wd → Prop} {t c : Int} (H : (MKp K (D 226 10) (D 321) (D 322) (D 320) ∧ 0 ≤ t) ∧ ((((K.w t 8 → (((-2147483648) ≤ c + 1 ∧ c + 1 ≤ 2147483647) ∧ (wp 258 15 [vr 226, vr 273, vu, vi (c + 1)] [] (D, SS L 1 c2 c3 c4 c5 c6) Q))) ∧ (¬ (K.w t 8) → ((MKp K (D 226 10) (D 321) (D 322) (D 320) ∧ 0 ≤ t) ∧ ((((K.w t 9 → (∃ (xf19 : List Int × List Int × List Int × List Int), (MKp K (D 226 10) (D 321) (D 322) (D 320) ∧ CM K xf19.1 (D 273 0) (D 323) ∧ L2p K (D 273 1) (D 276) (D 324) xf19.2.2.1 xf19.2.2.2 ∧ (ABp (D 274) xf19.2.1 ∧ ABw xf19.2.1 ∧ xf19.2.1.length ≤ 24) ∧ c < 8 + xf19.2.1.length ∧ 0 ≤ t ∧ K.ty (t + 2)) ∧ ((((ffa K xf19.1 xf19.2.1 xf19.2.2.1 xf19.2.2.2 c t).1 = true) → ((MKp K (D 226 10) (D 321) (D 322) (D 320) ∧ 0 ≤ t ∧ (pmem K t).1 = true) ∧ ((wp 258 33 [vr 226, vr 273, vi ((pmem K t).2), vi c] [] (up (up (up (up D 324 xf19.2.2.1.length (t + 1)) 276 xf19.2.2.1.length c) 277 xf19.2.2.1.length (mT (tyOf K xf19.1 (t + 2)))) 273 1 (xf19.2.2.1.length + 1), SS L 1 c2 c3 c4 c5 c6) Q)))) ∧ ((¬ (ffa K xf19.1 xf19.2.1 xf19.2.2.1 xf19.2.2.2 c t).1 = true) → (Q (.inl [vi 0]) (up D 226 12 ((ffa K xf19.1 xf19.2.1 xf19.2.2.1 xf19.2.2.2 c t).2), SS L 1 c2 c3 c4 c5 c6)))))) ∧ (¬ (K.w t 9) → (∃ (xm5 : List Int × List Int × XB × Int), (MKp K (D 226 10) (D 321) (D 322) (D 320) ∧ CM K xm5.1 (D 273 0) (D 323) ∧ (ABp (D 274) xm5.2.1 ∧ ABw xm5.2.1 ∧ xm5.2.1.length ≤ 24) ∧ 0 ≤ c ∧ c < 8 + xm5.2.1.length ∧ BM K xm5.2.2.1 D ∧ BLn xm5.2.2.1 ∧ BOK K xm5.2.2.1 ∧ MOK K t) ∧ ((∀ (E7 : Dt), ((hfa K xm5.1 xm5.2.1 xm5.2.2.1 c t).1 = true ∧ FrC D E7 ∧ BM K (bdA K xm5.1 xm5.2.2.1 c t xm5.2.2.2) E7) → ((MKp K (E7 226 10) (E7 321) (E7 322) (E7 320) ∧ 0 ≤ t ∧ (pmem K t).1 = true) ∧ ((wp 258 33 [vr 226, vr 273, vi ((pmem K t).2), vi c] [] (E7, SS L 1 c2 c3 c4 c5 c6) Q)))) ∧ (∀ (E13 : Dt), (¬ (hfa K xm5.1 xm5.2.1 xm5.2.2.1 c t).1 = true ∧ FrN D E13 ∧ E13 226 12 = (hfa K xm5.1 xm5.2.1 xm5.2.2.1 c t).2) → (Q (.inl [vi 0]) (E13, SS L 1 c2 c3 c4 c5 c6))))))))))))))) : wp 258 33 [vr 226, vr 273, vi t, vi c] [] (D, SS L 1 c2 c3 c4 c5 c6) Q := vc_wp [] 200 _ _ _ _ _ _ (show wp 235 0 [vr 226, vi t, vr 24, vu] [] (D, SS L 1 c2 c3 c4 c5 c6) (aft wp 258 37 [vr 226, vr 273, vi t, vi c] [] Q) from k235s24 ⟨H.1, (show wp 258 40 [vr 226, vr 273, vi t, vi c] [vi (ib (K.w t 8))] (D, SS L 1 c2 c3 c4 c5 c6) Q from vc_wp [90] 200 _ _ _ _ _ _ (show ((ib (K.w t 8) = 0 → (wp 235 0 [vr 226, vi t, vr 25, vu] [] (D, SS L 1 c2 c3 c4 c5 c6) (aft wp 258 47 [vr 226, vr 273, vi t, vi c] [] Q))) ∧ (¬ (ib (K.w t 8) = 0) → (wp 258 90 [vr 226, vr 273, vi t, vi (w32 (c + 1))] [] (D, SS L 1 c2 c3 c4 c5 c6) Q))) from ⟨fun h34 => k235s25 ⟨(H.2.2 ((ib_z).mp h34)).1, (show wp 258 50 [vr 226, vr 273, vi t, vi c] [vi (ib (K.w t 9))] (D, SS L 1 c2 c3 c4 c5 c6) Q from vc_wp [] 200 _ _ _ _ _ _ (show ((ib (K.w t 9) = 0 → (wp 263 0 [vr 226, vr 273, vi c, vi t, vu, vu, vu, vu, vu, vu, vu, vu] [] (D, SS L 1 c2 c3 c4 c5 c6) (aft wp 258 70 [vr 226, vr 273, vi t, vi c] [] Q))) ∧ (¬ (ib (K.w t 9) = 0) → (wp 259 0 [vr 226, vr 273, vi c, vi t, vu] [] (D, SS L 1 c2 c3 c4 c5 c6) (aft wp 258 57 [vr 226, vr 273, vi t, vi c] [] Q)))) from ⟨fun h31 => Exists.elim (((H.2.2 ((ib_z).mp h34)).2.2 ((ib_z).mp h31))) fun xm5 x6 => s263 ⟨xm5, x6.1, (fun E7 q8 => (show wp 258 73 [vr 226, vr 273, vi t, vi c] [vi 1] (E7, SS L 1 c2 c3 c4 c5 c6) Q from vc_wp [] 200 _ _ _ _ _ _ (show (((1 : Int) = 0 → (((0 : Int) ≤ 0 ∧ 0 ≤ (1 : Int)) ∧ (Q (.inl [vi 0]) (E7, SS L 1 c2 c3 c4 c5 c6)))) ∧ (¬ ((1 : Int) = 0) → (wp 267 0 [vr 226, vi t] [] (E7, SS L 1 c2 c3 c4 c5 c6) (aft wp 258 80 [vr 226, vr 273, vi t, vi c] [] Q)))) from ⟨fun h11 => absurd h11 (by decide), fun _ => s267 ⟨(x6.2.1 E7 q8).1, (show wp 258 83 [vr 226, vr 273, vi t, vi c] [vi ((pmem K t).2)] (E7, SS L 1 c2 c3 c4 c5 c6) Q from vc_wp [33] 200 _ _ _ _ _ _ (show wp 258 33 [vr 226, vr 273, vi ((pmem K t).2), vi c] [] (E7, SS L 1 c2 c3 c4 c5 c6) Q from (x6.2.1 E7 q8).2))⟩⟩))), (fun E13 q14 => (show wp 258 73 [vr 226, vr 273, vi t, vi c] [vi 0] (E13, SS L 1 c2 c3 c4 c5 c6) Q from vc_wp [] 200 _ _ _ _ _ _ (show (((0 : Int) = 0 → (((0 : Int) ≤ 0 ∧ 0 ≤ (1 : Int)) ∧ (Q (.inl [vi 0]) (E13, SS L 1 c2 c3 c4 c5 c6)))) ∧ (¬ ((0 : Int) = 0) → (wp 267 0 [vr 226, vi t] [] (E13, SS L 1 c2 c3 c4 c5 c6) (aft wp 258 80 [vr 226, vr 273, vi t, vi c] [] Q)))) from ⟨fun _ => ⟨(by decide), (x6.2.2 E13 q14)⟩, fun h18 => absurd (by decide) h18⟩)))⟩, fun h32 => Exists.elim (((H.2.2 ((ib_z).mp h34)).2.1 (Classical.not_not.mp (mt (ib_z).mpr h32)))) fun xf19 x20 => s259 ⟨xf19, x20.1, (fun q21 => (show wp 258 60 [vr 226, vr 273, vi t, vi c] [vi 1] (up (up (up (up D 324 xf19.2.2.1.length (t + 1)) 276 xf19.2.2.1.length c) 277 xf19.2.2.1.length (mT (tyOf K xf19.1 (t + 2)))) 273 1 (xf19.2.2.1.length + 1), SS L 1 c2 c3 c4 c5 c6) Q from vc_wp [] 200 _ _ _ _ _ _ (show (((1 : Int) = 0 → (((0 : Int) ≤ 0 ∧ 0 ≤ (1 : Int)) ∧ (Q (.inl [vi 0]) (up (up (up (up D 324 xf19.2.2.1.length (t + 1)) 276 xf19.2.2.1.length c) 277 xf19.2.2.1.length (mT (tyOf K xf19.1 (t + 2)))) 273 1 (xf19.2.2.1.length + 1), SS L 1 c2 c3 c4 c5 c6)))) ∧ (¬ ((1 : Int) = 0) → (wp 267 0 [vr 226, vi t] [] (up (up (up (up D 324 xf19.2.2.1.length (t + 1)) 276 xf19.2.2.1.length c) 277 xf19.2.2.1.length (mT (tyOf K xf19.1 (t + 2)))) 273 1 (xf19.2.2.1.length + 1), SS L 1 c2 c3 c4 c5 c6) (aft wp 258 80 [vr 226, vr 273, vi t, vi c] [] Q)))) from ⟨fun h24 => absurd h24 (by decide), fun _ => s267 ⟨(x20.2.1 q21).1, (show wp 258 83 [vr 226, vr 273, vi t, vi c] [vi ((pmem K t).2)] (up (up (up (up D 324 xf19.2.2.1.length (t + 1)) 276 xf19.2.2.1.length c) 277 xf19.2.2.1.length (mT (tyOf K xf19.1 (t + 2)))) 273 1 (xf19.2.2.1.length + 1), SS L 1 c2 c3 c4 c5 c6) Q from vc_wp [33] 200 _ _ _ _ _ _ (show wp 258 33 [vr 226, vr 273, vi ((pmem K t).2), vi c] [] (up (up (up (up D 324 xf19.2.2.1.length (t + 1)) 276 xf19.2.2.1.length c) 277 xf19.2.2.1.length (mT (tyOf K xf19.1 (t + 2)))) 273 1 (xf19.2.2.1.length + 1), SS L 1 c2 c3 c4 c5 c6) Q from (x20.2.1 q21).2))⟩⟩))), (fun q26 => (show wp 258 60 [vr 226, vr 273, vi t, vi c] [vi 0] (up D 226 12 ((ffa K xf19.1 xf19.2.1 xf19.2.2.1 xf19.2.2.2 c t).2), SS L 1 c2 c3 c4 c5 c6) Q from vc_wp [] 200 _ _ _ _ _ _ (show (((0 : Int) = 0 → (((0 : Int) ≤ 0 ∧ 0 ≤ (1 : Int)) ∧ (Q (.inl [vi 0]) (up D 226 12 ((ffa K xf19.1 xf19.2.1 xf19.2.2.1 xf19.2.2.2 c t).2), SS L 1 c2 c3 c4 c5 c6)))) ∧ (¬ ((0 : Int) = 0) → (wp 267 0 [vr 226, vi t] [] (up D 226 12 ((ffa K xf19.1 xf19.2.1 xf19.2.2.1 xf19.2.2.2 c t).2), SS L 1 c2 c3 c4 c5 c6) (aft wp 258 80 [vr 226, vr 273, vi t, vi c] [] Q)))) from ⟨fun _ => ⟨(by decide), (x20.2.2 q26)⟩, fun h30 => absurd (by decide) h30⟩)))⟩⟩))⟩, fun h35 => w32_i (fun z33 : Int => wp 258 90 [vr 226, vr 273, vi t, vi z33] [] (D, SS L 1 c2 c3 c4 c5 c6) Q) ((H.2.1 (Classical.not_not.mp (mt (ib_z).mpr h35)))).1 (vc_wp [15] 200 _ _ _ _ _ _ (show wp 258 15 [vr 226, vr 273, vi t, vi (c + 1)] [] (D, SS L 1 c2 c3 c4 c5 c6) Q from wp_d (Lle.k rfl (Lle.k rfl (Lle.v rfl (Lle.k rfl (Lle.nil))))) (((H.2.1 (Classical.not_not.mp (mt (ib_z).mpr h35)))).2)))⟩))⟩)
theorem FdM.st {K : TK} {ns ab : List Int} {X : XB} {c t : Int} {E : Dt} (hF : FdM K X E) (hfl : FLn X) (hB : BM K X E) (h48 : (X 0).length < 48) (ht : 0 ≤ t + 1 ∧ t + 1 < K.n) : FdM K (fdA K ns ab X c t) (up (up (up (up E 324 (X 0).length (t + 1)) 276 (X 0).length c) 277 (X 0).length (mT (tyOf K ns (t + 2)))) 273 1 ((X 0).length + 1)) ∧ BM K (fdA K ns ab X c t) (up (up (up (up E 324 (X 0).length (t + 1)) 276 (X 0).length c) 277 (X 0).length (mT (tyOf K ns (t + 2)))) 273 1 ((X 0).length + 1)) := by
  obtain ⟨q, q277⟩ := hF
  obtain ⟨f1, f2, f3⟩ := hfl
  refine ⟨⟨?_, ?_⟩, ?_⟩
  · refine L2p.a q ub_s h48 ?_ ?_ (fun i hi => ?_) (fun i hi => ?_) ht
    · show up _ 276 _ _ 276 _ = _
      exact ub_s
    · show up E 324 _ _ 324 _ = _
      exact ub_s
    · show up (up E 324 _ _) 276 _ _ 276 _ = _
      rw [ub_n (by omega)]
      rfl
    · show up E 324 _ _ 324 _ = _
      exact ub_n (by omega)
  · refine L1.m q277 ?_ (fun i hi => ?_)
    · show up _ 277 _ _ 277 _ = _
      rw [f2, ub_s]
    · show up (up (up E 324 _ _) 276 _ _) 277 _ _ 277 _ = _
      rw [ub_n (by omega)]
      rfl
  · obtain ⟨b4, b6, b7, b8, b9, b13, b12⟩ := hB
    refine ⟨b4, b6, b7, b8, b9, b13, fun b k b0 b1 k0 k1 => ?_⟩
    rw [fdA_n (by omega)] at k1 ⊢
    exact b12 b k b0 b1 k0 k1
theorem bdA_x {K : TK} {ns : List Int} {X : XB} {c t m : Int} (p : Nat) (hp : p < 4) : bdA K ns X c t m p = X p := by
  unfold bdA
  rw [nbq (p := p) (q := 4) (by omega), nbq (p := p) (q := 5) (by omega), nbq (p := p) (q := 6) (by omega), nbq (p := p) (q := 7) (by omega), nbq (p := p) (q := 8) (by omega), nbq (p := p) (q := 9) (by omega), nbq (p := p) (q := 10) (by omega), nbq (p := p) (q := 11) (by omega), nbq (p := p) (q := 12) (by omega), nbq (p := p) (q := 20 + (X 4).length) (by omega)]
  rfl
theorem l258 {L c2 c3 c4 c5 c6 : Nat} {D : Dt} {Q : Out → Wd → Prop} {K : TK} {ns ab : List Int} {c : Int} (hM : MKp K (D 226 10) (D 321) (D 322) (D 320)) (hC : CM K ns (D 273 0) (D 323)) (hA : ABp (D 274) ab ∧ ABw ab ∧ ab.length ≤ 24) (h8 : 8 ≤ c) (hc : c < 8 + ab.length) {r : Bool × Int × XB} (hg : ∀ t ∈ mms K, MG K t) (Hz : ∀ E, (FrN D E ∧ r.1 = false ∧ E 226 12 = r.2.1) → Q (.inl [vi 0]) (E, SS L 1 c2 c3 c4 c5 c6)) (Hk : ∀ E X, FrMm D E → GI K ns ab X c → FdM K X E → BM K X E → r = (true, 0, X) → wp 258 15 [vr 226, vr 273, vu, vi (c + 1)] [] (E, SS L 1 c2 c3 c4 c5 c6) Q) : ∀ (N : Nat) (t m : Int) (E : Dt) (X : XB) (pre rest : List Int), (K.n - t).toNat < N → 0 ≤ t → FrMm D E → GI K ns ab X c → FdM K X E → BM K X E → (plp (fun b => K.w b 8) (pmem K) N t).1 = true → mms K = pre ++ (pls (fun b => K.w b 8) (pmem K) N t ++ rest) → (pre.length : Int) = m → r = mF1 K ns ab c (pls (fun b => K.w b 8) (pmem K) N t) m X → wp 258 33 [vr 226, vr 273, vi t, vi c] [] (E, SS L 1 c2 c3 c4 c5 c6) Q := by
  intro N
  induction N with
  | zero => intro t m E X pre rest h; omega
  | succ N ih =>
    intro t m E X pre rest hN h0 hf hG hF hB hp hmm hpm hr
    have hM1 := mk_f hM hf.n
    have hC1 : CM K ns (E 273 0) (E 323) := by
      rw [hf.2 0 (by decide) (by decide), hf.1 323 (by omega) (by omega) (by omega)]; exact hC
    have hA1 : ABp (E 274) ab := by
      rw [hf.1 274 (by omega) (by omega) (by omega)]; exact hA.1
    refine r258_33 (K := K) ⟨⟨hM1, h0⟩, fun g => ⟨by omega, ?_⟩, fun g => ⟨⟨hM1, h0⟩, ?_⟩⟩
    · rw [pls_st (st := fun b => K.w b 8) g] at hr
      exact Hk E X hf hG hF hB hr
    · have hp2 := PR_t hp
      unfold plp at hp2
      rw [cit_f g] at hp2
      obtain ⟨e, h2, h3⟩ := pb_t hp2
      have hae := adv_mem K t e h2
      rw [pls_go (st := fun b => K.w b 8) g, h2] at hr hmm
      have htm : MG K t := ⟨h0, by rw [h2]⟩
      have hlm : lf (mms K) m = t := by rw [hmm]; exact lf_mid hpm
      have hmn : 0 ≤ m ∧ m < (mms K).length ∧ lf (mms K) m = t := by
        refine ⟨by omega, ?_, hlm⟩
        rw [hmm, List.length_append, List.length_append, List.length_cons]
        omega
      have hgo : (mst K ns ab X c t m).1 = true → ∀ E', FrMm D E' → FdM K (mst K ns ab X c t m).2.2 E' → BM K (mst K ns ab X c t m).2.2 E' → wp 258 33 [vr 226, vr 273, vi e, vi c] [] (E', SS L 1 c2 c3 c4 c5 c6) Q := by
        intro hs E' hf' hF' hB'
        have hr' : r = mF1 K ns ab c (pls (fun b => K.w b 8) (pmem K) N e) (m + 1) (mst K ns ab X c t m).2.2 := hr.trans (cit_t hs)
        refine ih e (m + 1) E' _ (pre ++ [t]) rest (fu_lt (adv_mem K) hN h2) (by omega) hf' (hG.m hA.2.1 h8 hc htm hmn hs) hF' hB' (by rw [h3]) ?_ ?_ hr'
        · rw [hmm, List.append_assoc]; rfl
        · rw [len_app]; omega
      have hbad : ∀ b, mst K ns ab X c t m = (false, b, X) → ∀ E', FrN D E' → E' 226 12 = b → Q (.inl [vi 0]) (E', SS L 1 c2 c3 c4 c5 c6) := by
        intro b hs E' hf' h12
        have hr' : r = (false, b, X) := (hr.trans (cit_f (by rw [hs]; exact Bool.noConfusion))).trans hs
        exact Hz E' ⟨hf', by rw [hr'], by rw [hr', h12]⟩
      refine ⟨fun h9 => ?_, fun h9 => ?_⟩
      · have hty := htm.ty h9
        refine ⟨(ns, ab, X 0, X 1), ⟨hM1, hC1, hF.1, ⟨hA1, hA.2⟩, hc, h0, hty.1⟩, fun g1 => ?_, fun g1 => ?_⟩
        · dsimp only at g1 ⊢
          have g2 := ffa_t g1
          have h48 := hF.1.2.2.1
          rw [h2]
          have hms : mst K ns ab X c t m = (true, 0, fdA K ns ab X c t) := (mst_f h9).trans (cit_t g1)
          have hst := hF.st (ns := ns) (ab := ab) (c := c) (t := t) hG.1.1 hB (by omega) ⟨by omega, by omega⟩
          refine ⟨⟨?_, h0, rfl⟩, ?_⟩
          · exact hM1
          · refine hgo (by rw [hms]) _ ?_ (by rw [hms]; exact hst.1) (by rw [hms]; exact hst.2)
            exact (((hf.u (Or.inr (Or.inl ⟨by decide, by decide⟩))).u (Or.inl ⟨by decide, by decide⟩)).u (Or.inl ⟨by decide, by decide⟩)).u (Or.inr (Or.inr ⟨rfl, Or.inl rfl⟩))
        · dsimp only at g1 ⊢
          exact hbad _ ((mst_f h9).trans (cit_f g1)) _ (hf.n.u (Or.inr (Or.inr ⟨rfl, Or.inl rfl⟩))) ub_s
      · refine ⟨(ns, ab, X, m), ⟨hM1, hC1, ⟨hA1, hA.2⟩, by omega, hc, hB, hG.1.2.1, hG.1.2.2.1, htm.mok h9⟩, fun E' g1 => ?_, fun E' g1 => ?_⟩
        · dsimp only at g1
          have hms : mst K ns ab X c t m = (true, 0, bdA K ns X c t m) := (mst_b h9).trans (cit_t g1.1)
          have hf' : FrMm D E' := hf.t g1.2.1.m
          refine ⟨⟨mk_f hM hf'.n, h0, by rw [h2]⟩, ?_⟩
          rw [h2]
          refine hgo (by rw [hms]) E' hf' ?_ (by rw [hms]; exact g1.2.2)
          rw [hms]
          have fc := g1.2.1
          show L2p K (E' 273 1) (E' 276) (E' 324) (bdA K ns X c t m 0) (bdA K ns X c t m 1) ∧ L1 (E' 277) ((bdA K ns X c t m 2).map mT)
          rw [bdA_x 0 (by decide), bdA_x 1 (by decide), bdA_x 2 (by decide), fc.2 1 (by decide), fc.1 276 (by decide) (by decide) (by decide) (by decide), fc.1 324 (by decide) (by decide) (by decide) (by decide), fc.1 277 (by decide) (by decide) (by decide) (by decide)]
          exact hF
        · dsimp only at g1
          exact hbad _ ((mst_b h9).trans (cit_f g1.1)) E' (hf.n.t g1.2.1) g1.2.2
theorem allM_c {K : TK} {a : Int} {l : List Int} : allM K (a :: l) = lmems K (a + 5) ++ allM K l := rfl
theorem s258 {L c2 c3 c4 c5 c6 : Nat} {D : Dt} {Q : Out → Wd → Prop} {K : TK} (H : ∃ x : List Int × List Int, (MKp K (D 226 10) (D 321) (D 322) (D 320) ∧ CM K x.1 (D 273 0) (D 323) ∧ (ABp (D 274) x.2 ∧ ABw x.2 ∧ x.2.length ≤ 24) ∧ (pprog K).1 = true ∧ x.1 = (lcls K).map (fun a => a + 1) ∧ x.1.length = x.2.length) ∧ (∀ E, ((mF2 K x.1 x.2 (lcls K) 8 0 X0).1 = true ∧ FrMm D E ∧ GI K x.1 x.2 (mF2 K x.1 x.2 (lcls K) 8 0 X0).2.2 (8 + x.2.length) ∧ FdM K (mF2 K x.1 x.2 (lcls K) 8 0 X0).2.2 E ∧ BM K (mF2 K x.1 x.2 (lcls K) 8 0 X0).2.2 E) → Q (.inl [vi 1]) (E, SS L 1 c2 c3 c4 c5 c6)) ∧ (∀ E, (FrN D E ∧ (mF2 K x.1 x.2 (lcls K) 8 0 X0).1 = false ∧ E 226 12 = (mF2 K x.1 x.2 (lcls K) 8 0 X0).2.1) → Q (.inl [vi 0]) (E, SS L 1 c2 c3 c4 c5 c6))) : wp 258 0 [vr 226, vr 273, vu, vu] [] (D, SS L 1 c2 c3 c4 c5 c6) Q := by
  obtain ⟨⟨ns, ab⟩, ⟨hM, hC, hA, hp, hns, hln⟩, Hok, Hz⟩ := H
  dsimp only at *
  have hg := mms_good hp
  have hcg := cls_good hp
  have hll : (lcls K).length = ab.length := by rw [← hln, hns, List.length_map]
  have hc1 := hC.1
  have hc2 := hC.2.1
  have hL : ∀ (l preC : List Int) (m : Int) (E : Dt) (X : XB) (pre : List Int), lcls K = preC ++ l → FrMm D E → GI K ns ab X (8 + preC.length) → FdM K X E → BM K X E → mms K = pre ++ allM K l → (pre.length : Int) = m → mF2 K ns ab (lcls K) 8 0 X0 = mF2 K ns ab l (8 + preC.length) m X → wp 258 15 [vr 226, vr 273, vu, vi (8 + preC.length)] [] (E, SS L 1 c2 c3 c4 c5 c6) Q := by
    intro l
    induction l with
    | nil =>
      intro preC m E X pre hl hf hG hF hB hmm hpm hr
      have e1 : preC.length = ab.length := by rw [← hll, hl, List.append_nil]
      have h0 : E 273 0 = D 273 0 := hf.2 0 (by decide) (by decide)
      refine r258_15 (K := K) ⟨by omega, fun g => by omega, fun _ => ?_⟩
      rw [hr] at Hok
      refine Hok E ⟨rfl, hf, ?_, hF, hB⟩
      exact hG.c (by omega)
    | cons a l ih =>
      intro preC m E X pre hl hf hG hF hB hmm hpm hr
      have e1 : preC.length + (l.length + 1) = ab.length := by rw [← hll, hl, List.length_append, List.length_cons]
      have h0 : E 273 0 = D 273 0 := hf.2 0 (by decide) (by decide)
      have ha := hcg a (by rw [hl]; exact List.mem_append_right _ (List.mem_cons_self ..))
      have h323 : E 323 (8 + preC.length) = a + 1 := by
        rw [hf.1 323 (by omega) (by omega) (by omega), show (8 : Int) + preC.length = (preC.length : Nat) + 8 by omega, (hC.2.2 preC.length (by omega)).1, hns]
        have : lf (preC ++ a :: l) preC.length = a := lf_mid rfl
        rw [hl, List.getD_eq_getElem?_getD, List.getElem?_map, List.getElem?_append_right (Nat.le_refl _), Nat.sub_self]
        rfl
      have hcl := cls_lt (PR_t ha.2)
      have hn := (mk_tok hM (j := 0) (by omega) (by omega)).2.2.2.2.2
      have hpm5 := cls_mems (PR_t ha.2)
      refine r258_15 (K := K) ⟨by omega, fun g => ?_, fun g => by omega⟩
      rw [h323]
      refine ⟨by omega, by omega, ?_⟩
      rw [show a + 1 + 4 = a + 5 by omega]
      rw [allM_c] at hmm
      refine l258 (r := mF1 K ns ab (8 + preC.length) (lmems K (a + 5)) m X) hM hC hA (by omega) (by omega) hg (fun E' h => ?_) (fun E' X' hf' hG' hF' hB' hr' => ?_) _ (a + 5) m E X pre (allM K l) (by unfold fu; omega) (by omega) hf hG hF hB hpm5 hmm hpm rfl
      · have hr2 : mF2 K ns ab (lcls K) 8 0 X0 = mF1 K ns ab (8 + preC.length) (lmems K (a + 5)) m X := hr.trans (cit_f (by rw [h.2.1]; exact Bool.noConfusion))
        rw [hr2] at Hz
        exact Hz E' h
      · have hr2 : mF2 K ns ab (lcls K) 8 0 X0 = mF2 K ns ab l (8 + preC.length + 1) (m + (lmems K (a + 5)).length) X' := by
          have := hr.trans (cit_t (by rw [hr']))
          rw [hr'] at this
          exact this
        have := ih (preC ++ [a]) (m + (lmems K (a + 5)).length) E' X' (pre ++ lmems K (a + 5)) (by rw [hl, List.append_assoc]; rfl) hf' ?_ hF' hB' (by rw [hmm, List.append_assoc]) (by rw [List.length_append]; omega) ?_
        · rw [len_app] at this
          rw [show (8 : Int) + (preC.length : Int) + 1 = 8 + ((preC.length + 1 : Nat) : Int) by omega]
          exact this
        · exact hG'.c (by rw [len_app]; omega)
        · rw [hr2, len_app, show (8 : Int) + (preC.length : Int) + 1 = 8 + ((preC.length + 1 : Nat) : Int) by omega]
  have := hL (lcls K) [] 0 (up (up D 273 1 0) 273 2 0) X0 [] rfl (((FrMm.r D).u (Or.inr (Or.inr ⟨rfl, Or.inl rfl⟩))).u (Or.inr (Or.inr ⟨rfl, Or.inr rfl⟩))) gi_0 ?_ ?_ rfl rfl rfl
  · exact r258_0 (K := K) this
  · exact ⟨⟨by rw [ub_n (by decide), ub_s]; rfl, rfl, by decide, fun i i0 i1 => by have i1 : i < 0 := i1; omega⟩, fun i i0 i1 => by have i1 : i < 0 := i1; omega⟩
  · exact ⟨⟨by rw [ub_s]; rfl, rfl, by decide, fun i i0 i1 => by have i1 : i < 0 := i1; omega⟩, fun i i0 i1 => by have i1 : i < 0 := i1; omega, fun i i0 i1 => by have i1 : i < 0 := i1; omega, fun i i0 i1 => by have i1 : i < 0 := i1; omega, fun i i0 i1 => by have i1 : i < 0 := i1; omega, fun i i0 i1 => by have i1 : i < 0 := i1; omega, fun i k i0 i1 => by have i1 : i < 0 := i1; omega⟩
