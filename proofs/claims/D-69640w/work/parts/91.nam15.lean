/-! names: the model's body, the whole -/
set_option maxRecDepth 100000
theorem l263d {L c2 c3 c4 c5 c6 : Nat} {D : Dt} {Q : Out → Wd → Prop} {K : TK} {ns : List Int} {X : XB} {c t m : Int} (hM : MKp K (D 226 10) (D 321) (D 322) (D 320)) (hC : CM K ns (D 273 0) (D 323)) (hl : BLn X) (hb : BOK K X) (ht : MOK K t) (hN : (X 4).length < 48) (H1 : (tyF K ns t 0 < 0 ∧ (K.w (bbp K t + 1) 14 ∨ ¬ tyOf K ns (bbp K t + 1) < 0) ∧ (pcO K t ≤ K.val (bbp K t + 2) ∧ K.val (bbp K t + 2) ≤ 12)) → ∀ E, (FrC D E ∧ BM K (bdA K ns X c t m) E) → Q (.inl [vi 1]) (E, SS L 1 c2 c3 c4 c5 c6)) (H2 : (tyF K ns t 0 < 0 ∧ (K.w (bbp K t + 1) 14 ∨ ¬ tyOf K ns (bbp K t + 1) < 0) ∧ ¬ (pcO K t ≤ K.val (bbp K t + 2) ∧ K.val (bbp K t + 2) ≤ 12)) → ∀ E, (FrN D E ∧ E 226 12 = bbp K t + 2) → Q (.inl [vi 0]) (E, SS L 1 c2 c3 c4 c5 c6)) (H3 : (tyF K ns t 0 < 0 ∧ ¬ (K.w (bbp K t + 1) 14 ∨ ¬ tyOf K ns (bbp K t + 1) < 0)) → ∀ E, (FrN D E ∧ E 226 12 = bbp K t + 1) → Q (.inl [vi 0]) (E, SS L 1 c2 c3 c4 c5 c6)) (H4 : ¬ tyF K ns t 0 < 0 → ∀ E, (FrN D E ∧ E 226 12 = t + 3 + tyF K ns t 0) → Q (.inl [vi 0]) (E, SS L 1 c2 c3 c4 c5 c6)) : ∀ (M : Nat) (j : Int) (E : Dt), (tcO K t - j).toNat = M → 0 ≤ j → j ≤ tcO K t → FrC D E → PM K ns X c t (ib (K.w t 11) + j) E → tyF K ns t 0 = tyF K ns t j → wp 263 159 [vr 226, vr 273, vi c, vi t, vi (ib (K.w t 11)), vu, vu, vi (X 4).length, vi (ib (K.w t 11) + j), vi (t + 3 + j), vu, vu] [] (E, SS L 1 c2 c3 c4 c5 c6) Q := by
  have lt := ht.lt
  have t0 := ht.1
  have to := ht.ok
  have hi := ib_01 (K.w t 11)
  have hn : K.n ≤ 16000 := by have h2 := hM.1.2.1; have h3 := hM.2.2.1; dsimp only at h2; omega
  intro M
  induction M with
  | zero =>
    intro j E e h0 h1 hf hp hty
    have ej : j = tcO K t := by omega
    have hM1 := mk_f hM hf.n
    have hC1 : CM K ns (E 273 0) (E 323) := by
      rw [hf.2 0 (by decide), hf.1 323 (by omega) (by omega) (by omega) (by omega)]; exact hC
    have hno : tyF K ns t 0 < 0 := by
      rw [hty, show tyF K ns t j = -1 from fs_n (by omega)]; decide
    have e1 : t + 3 + j = bbp K t := by omega
    have e2 : ib (K.w t 11) + j = pcO K t := by unfold pcO; omega
    rw [e2] at hp ⊢
    refine r263_159 (K := K) ?_
    rw [e1]
    refine ⟨⟨hM1, by omega⟩, fun _ => ⟨by omega, ⟨hM1, by omega⟩, fun g => ?_, fun g => ⟨ns, ⟨hM1, hC1, by omega, to.2.2.2.2.2.2.2.1.elim (fun x => absurd x g) id⟩, ?_⟩⟩, fun g => absurd to.2.2.2.2.2.2.1 g⟩
    · exact l263e hM hl ht hN hf hp (by rw [show rsO K ns t = -1 from cit_t g]; rfl) (fun x => H1 ⟨hno, x⟩) (fun x => H2 ⟨hno, x⟩) (fun x => H3 ⟨hno, x⟩)
    · exact l263e hM hl ht hN hf hp (by rw [show rsO K ns t = tyOf K ns (bbp K t + 1) from cit_f g]) (fun x => H1 ⟨hno, x⟩) (fun x => H2 ⟨hno, x⟩) (fun x => H3 ⟨hno, x⟩)
  | succ M ih =>
    intro j E e h0 h1 hf hp hty
    have hj : j < tcO K t := by omega
    have hM1 := mk_f hM hf.n
    have hC1 : CM K ns (E 273 0) (E 323) := by
      rw [hf.2 0 (by decide), hf.1 323 (by omega) (by omega) (by omega) (by omega)]; exact hC
    have hkt := to.2.2.2.2.2.1 (t + 3 + j) (by omega) (by omega)
    refine r263_159 (K := K) ⟨⟨hM1, by omega⟩, fun g => absurd g hkt.2, fun _ => ⟨ns, ⟨hM1, hC1, by omega, hkt.1⟩, fun g => ?_, fun g => ⟨fun g1 => ⟨by omega, by omega, by omega, r263_213 (K := K) ⟨by omega, by omega, ?_⟩⟩, fun g1 => r263_213 (K := K) ⟨by omega, by omega, ?_⟩⟩⟩⟩
    · have hy : tyF K ns t 0 = j := hty.trans (fs_y (P := fun j => tyOf K ns (t + 3 + j) < 0) hj (mT_neg.mp g))
      have := H4 (by rw [hy]; omega) (up E 226 12 (t + 3 + j)) ⟨hf.n.u (Or.inr (Or.inr ⟨rfl, Or.inl rfl⟩)), by rw [hy, ub_s]⟩
      exact this
    · rw [show ib (K.w t 11) + j + 1 = ib (K.w t 11) + (j + 1) by omega, show t + 3 + j + 1 = t + 3 + (j + 1) by omega]
      obtain ⟨⟨q, b6, b7, b8, b9, b13, b12⟩, p11⟩ := hp
      have hN2 := q.1
      refine ih (j + 1) _ (by omega) (by omega) (by omega) (hf.u (Or.inr (Or.inr (Or.inl ⟨by decide, by decide⟩)))) ⟨⟨q, b6, b7, b8, b9, b13, fun b k b0 b1 k0 k1 => ?_⟩, fun k k0 k1 k2 => ?_⟩ (hty.trans (fs_s (P := fun j => tyOf K ns (t + 3 + j) < 0) hj (fun x => g (mT_neg.mpr x))))
      · have hl12 := (hb b b0 b1).1
        rw [ub_n (by omega)]
        exact b12 b k b0 b1 k0 k1
      · by_cases ek : k = ib (K.w t 11) + j
        · have hpk : k < pcO K t := by unfold pcO; omega
          rw [pyO_k k0 hpk, show ((X 4).length : Int) * 12 + k = ((X 4).length : Int) * 12 + (ib (K.w t 11) + j) by omega, ub_s, show t + 3 + k - ib (K.w t 11) = t + 3 + j by omega]
          refine congrArg mT (cit_f fun x => ?_).symm
          rw [ib_t x.1] at ek
          have := x.2
          omega
        · rw [ub_n (by omega)]
          exact p11 k k0 (by omega) k2
    · rw [show ib (K.w t 11) + j + 1 = ib (K.w t 11) + (j + 1) by omega, show t + 3 + j + 1 = t + 3 + (j + 1) by omega]
      exact ih (j + 1) E (by omega) (by omega) (by omega) hf ⟨hp.1, fun k k0 k1 k2 => hp.2 k k0 (by omega) k2⟩ (hty.trans (fs_s (P := fun j => tyOf K ns (t + 3 + j) < 0) hj (fun x => g (mT_neg.mpr x))))
theorem s263 {L c2 c3 c4 c5 c6 : Nat} {D : Dt} {Q : Out → Wd → Prop} {K : TK} {c t : Int} (H : ∃ x : List Int × List Int × XB × Int, (MKp K (D 226 10) (D 321) (D 322) (D 320) ∧ CM K x.1 (D 273 0) (D 323) ∧ (ABp (D 274) x.2.1 ∧ ABw x.2.1 ∧ x.2.1.length ≤ 24) ∧ 0 ≤ c ∧ c < 8 + x.2.1.length ∧ BM K x.2.2.1 D ∧ BLn x.2.2.1 ∧ BOK K x.2.2.1 ∧ MOK K t) ∧ (∀ E, ((hfa K x.1 x.2.1 x.2.2.1 c t).1 = true ∧ FrC D E ∧ BM K (bdA K x.1 x.2.2.1 c t x.2.2.2) E) → Q (.inl [vi 1]) (E, SS L 1 c2 c3 c4 c5 c6)) ∧ (∀ E, (¬ (hfa K x.1 x.2.1 x.2.2.1 c t).1 = true ∧ FrN D E ∧ E 226 12 = (hfa K x.1 x.2.1 x.2.2.1 c t).2) → Q (.inl [vi 0]) (E, SS L 1 c2 c3 c4 c5 c6))) : wp 263 0 [vr 226, vr 273, vi c, vi t, vu, vu, vu, vu, vu, vu, vu, vu] [] (D, SS L 1 c2 c3 c4 c5 c6) Q := by
  obtain ⟨⟨ns, ab, X, m⟩, ⟨hM, hC, ⟨hA, hw, hal⟩, hc0, hc, hB, hl, hb, ht⟩, Hok, Hz⟩ := H
  dsimp only at *
  have lt := ht.lt
  have t0 := ht.1
  have to := ht.ok
  have hi := ib_01 (K.w t 11)
  have hk := mk_tok hM (j := t + 1) (by omega) (by omega)
  have hn := hk.2.2.2.2.2
  have hB' := hB
  obtain ⟨⟨q1, q2, q3, q4⟩, b6, b7, b8, b9, b13, b12⟩ := hB
  have hl' := hl
  obtain ⟨l5, l6, l7, l8, l9, l10, l11, l12⟩ := hl'
  have hzz : ∀ E b, FrN D E → E 226 12 = b → hfa K ns ab X c t = (false, b) → Q (.inl [vi 0]) (E, SS L 1 c2 c3 c4 c5 c6) := fun E b hf h2 e => by
    refine Hz E ⟨by rw [e]; exact Bool.noConfusion, hf, ?_⟩
    rw [h2, e]
  have hno : ¬ (hd1 K ab X c t ∧ (X 4).length < 48) → wp 263 109 [vr 226, vr 273, vu, vi t, vu, vu, vu, vu, vu, vu, vu, vu] [] (D, SS L 1 c2 c3 c4 c5 c6) Q := fun h =>
    r263_109 (K := K) ⟨by omega, hzz _ _ ((FrN.r D).u (Or.inr (Or.inr ⟨rfl, Or.inl rfl⟩))) ub_s (cit_f h)⟩
  have h154 : hd1 K ab X c t → (X 4).length < 48 → ∀ E, FrC D E → PM K ns X c t (ib (K.w t 11) + 0) E → wp 263 154 [vr 226, vr 273, vi c, vi t, vi (ib (K.w t 11)), vu, vu, vi (X 4).length, vi (ib (K.w t 11)), vu, vu, vu] [] (E, SS L 1 c2 c3 c4 c5 c6) Q := by
    intro h1 h48 E hf hp
    have HA : hd1 K ab X c t ∧ (X 4).length < 48 := ⟨h1, h48⟩
    have h5 := l263d (m := m) (Q := Q) hM hC hl hb ht h48 (fun x E' hE' => Hok E' ⟨by unfold hfa; rw [cit_t HA, cit_t x.1, cit_t x.2.1, cit_t x.2.2], hE'.1, hE'.2⟩) (fun x E' hE' => hzz E' _ hE'.1 hE'.2 (by unfold hfa; rw [cit_t HA, cit_t x.1, cit_t x.2.1, cit_f x.2.2])) (fun x E' hE' => hzz E' _ hE'.1 hE'.2 (by unfold hfa; rw [cit_t HA, cit_t x.1, cit_f x.2])) (fun x E' hE' => hzz E' _ hE'.1 hE'.2 (by unfold hfa; rw [cit_t HA, cit_f x])) _ 0 E rfl (by omega) lt.1 hf hp rfl
    rw [show ib (K.w t 11) + 0 = ib (K.w t 11) by omega, show t + 3 + 0 = t + 3 by omega] at h5
    exact r263_154 (K := K) ⟨by omega, h5⟩
  have h88 : ∀ R s0 : Int, R = nea K ab (X 4) (X 5) c (K.tf (t + 1)) (K.tt (t + 1)) → (¬ R < 0 → (s0 = 0 ↔ ¬ hd1 K ab X c t)) → wp 263 88 [vr 226, vr 273, vi c, vi t, vi (ib (K.w t 11)), vi R, vu, vu, vu, vu, vu, vu] [vi s0] (D, SS L 1 c2 c3 c4 c5 c6) Q := by
    intro R s0 hR hs
    have hgo : hd1 K ab X c t → ¬ D 273 2 = 48 → ((ib (K.w t 11) = 0 → ((ib (K.w t 11) = 0 → (wp 263 154 [vr 226, vr 273, vi c, vi t, vi (ib (K.w t 11)), vu, vu, vi (D 273 2), vi 0, vu, vu, vu] [] (D, SS L 1 c2 c3 c4 c5 c6) Q)) ∧ (¬ (ib (K.w t 11) = 0) → ((-2147483648 ≤ D 273 2 * 12 ∧ D 273 2 * 12 ≤ 2147483647) ∧ ((-2147483648 ≤ 8 + c ∧ 8 + c ≤ 2147483647) ∧ ((0 ≤ (D 273 2) * 12 ∧ (D 273 2) * 12 < 576) ∧ (wp 263 154 [vr 226, vr 273, vi c, vi t, vi (ib (K.w t 11)), vu, vu, vi (D 273 2), vi 0, vu, vu, vu] [] (up D 282 ((D 273 2) * 12) (8 + c), SS L 1 c2 c3 c4 c5 c6) Q))))))) ∧ (¬ (ib (K.w t 11) = 0) → ((ib (K.w t 11) = 0 → (wp 263 154 [vr 226, vr 273, vi c, vi t, vi (ib (K.w t 11)), vu, vu, vi (D 273 2), vi 1, vu, vu, vu] [] (D, SS L 1 c2 c3 c4 c5 c6) Q)) ∧ (¬ (ib (K.w t 11) = 0) → ((-2147483648 ≤ D 273 2 * 12 ∧ D 273 2 * 12 ≤ 2147483647) ∧ ((-2147483648 ≤ 8 + c ∧ 8 + c ≤ 2147483647) ∧ ((0 ≤ (D 273 2) * 12 ∧ (D 273 2) * 12 < 576) ∧ (wp 263 154 [vr 226, vr 273, vi c, vi t, vi (ib (K.w t 11)), vu, vu, vi (D 273 2), vi 1, vu, vu, vu] [] (up D 282 ((D 273 2) * 12) (8 + c), SS L 1 c2 c3 c4 c5 c6) Q)))))))) := by
      intro h1 h2
      rw [q1] at h2 ⊢
      have h48 : (X 4).length < 48 := by omega
      refine ⟨fun h0 => ⟨fun _ => ?_, fun x => absurd h0 x⟩, fun h0 => ⟨fun x => absurd x h0, fun _ => ⟨by omega, by omega, by omega, ?_⟩⟩⟩
      · have h5 := h154 h1 h48 D (FrC.r D) ⟨hB', fun k k0 k1 => by omega⟩
        rw [h0] at h5 ⊢
        exact h5
      · have e : ib (K.w t 11) = 1 := by omega
        have h5 := h154 h1 h48 (up D 282 (((X 4).length : Int) * 12) (8 + c)) ((FrC.r D).u (Or.inr (Or.inr (Or.inl ⟨by decide, by decide⟩)))) ⟨⟨⟨q1, q2, q3, q4⟩, b6, b7, b8, b9, b13, fun b k b0 b1 k0 k1 => ?_⟩, fun k k0 k1 k2 => ?_⟩
        · rw [e] at h5 ⊢
          exact h5
        · have hl12 := (hb b b0 b1).1
          rw [ub_n (by omega)]
          exact b12 b k b0 b1 k0 k1
        · have k3 : k = 0 := by omega
          rw [k3, pyO_k (by omega) (by unfold pcO; omega), cit_t ⟨ib_o.mp e, rfl⟩, show ((X 4).length : Int) * 12 + 0 = ((X 4).length : Int) * 12 by omega, ub_s]
          exact (mT_c hc0 (by omega)).symm
    refine r263_88 (K := K) ⟨fun g => ⟨fun g1 => hno fun x => ?_, fun g1 => hgo ((hd1_m hw hc0 hc).mpr (Or.inl (by rw [← hR]; exact g))) g1⟩, fun g => ⟨fun g1 => hno fun x => (hs g).mp g1 x.1, fun g1 => ⟨fun g2 => hno fun x => ?_, fun g2 => hgo (Classical.not_not.mp (mt (hs g).mpr g1)) g2⟩⟩⟩
    · rw [q1] at g1; omega
    · rw [q1] at g2; omega
  refine r263_0 (K := K) ?_
  rw [hk.1, hk.2.1]
  refine ⟨⟨hM, t0⟩, by omega, by omega, by omega, by omega, (ab, X 4, X 5), ⟨hM, ⟨q1, q2, q3, q4⟩, ⟨hA, hw, hal⟩, hc, by omega, by omega, by omega, by omega⟩, fun g => h88 _ 0 rfl (fun x => absurd g x), fun g => ?_⟩
  dsimp only at g ⊢
  rcases nea_b (K := K) (l1 := X 4) (l2 := X 5) (a := K.tf (t + 1)) (b := K.tt (t + 1)) hw _ c (Nat.lt_succ_self _) hc with ⟨r1, _⟩ | ⟨r1, r2, _, _⟩
  · exact absurd (by rw [r1]; decide) g
  · have hm := hd1_m (K := K) (X := X) (t := t) hw hc0 hc
    have y0 := fun h => h88 _ 0 rfl (fun _ => ⟨fun _ => h, fun _ => rfl⟩)
    have y1 := fun h => h88 _ 1 rfl (fun _ => ⟨fun x => absurd x (by decide), fun x => absurd h x⟩)
    generalize hR : nea K ab (X 4) (X 5) c (K.tf (t + 1)) (K.tt (t + 1)) = R at *
    obtain ⟨o1, o2, o3, o4, o5, o6⟩ := hb R r1 r2
    have e280 : D 280 R = ib (K.w (lf (X 12) R) 11) := (b6 R r1 (by omega)).trans o5
    have e279 : D 279 R = lf (X 4) R := (q4 R r1 r2).1
    have e325 : D 325 R = lf (X 12) R + 1 := (q4 R r1 r2).2.1.trans o3
    have lt2 := o2.lt
    have t02 := o2.1
    rw [e280, e279, e325]
    refine ⟨by omega, fun g1 => y0 fun x => ?_, fun g1 => ⟨fun g2 => ⟨by omega, fun g3 => y0 fun x => ?_, fun g3 => ⟨by omega, by omega, by omega, (t, lf (X 12) R), ⟨hM, ht, o2, rfl, by dsimp only; omega⟩, fun g4 => y1 (hm.mpr (Or.inr ⟨g1, g2, Classical.not_not.mp (mt ib_z.mpr g3), g4⟩)), fun g4 => y0 fun x => ?_⟩⟩, fun g2 => y0 fun x => ?_⟩⟩
    · exact (hm.mp x).elim g fun y => y.1 g1
    · exact (hm.mp x).elim g fun y => ib_z.mp g3 y.2.2.1
    · exact (hm.mp x).elim g fun y => g4 y.2.2.2
    · exact (hm.mp x).elim g fun y => g2 y.2.1
