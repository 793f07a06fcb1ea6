/-! names: SafeCode's readHead, the whole -/
set_option maxRecDepth 100000
theorem w1011 {K : TK} {t : Int} (h : K.w t 10) : ¬ K.w t 11 := fun h' => by
  have e1 := (w_fc h (by decide)).trans (by decide : (sbt 10).getD 0 0 = 115)
  have e2 := (w_fc h' (by decide)).trans (by decide : (sbt 11).getD 0 0 = 109)
  omega
theorem mkd_2 {K : TK} {t : Int} (h : MOK K t) : mkd K t = 2 ↔ K.w t 11 := by
  have h1 := h.ok.1
  unfold mkd
  rw [cit_f h.2.1]
  rcases Classical.em (K.w t 10) with g | g
  · rw [cit_t g]
    exact ⟨fun x => by omega, fun x => absurd x (w1011 g)⟩
  · rw [cit_f g]
    exact ⟨fun _ => h1.elim (fun x => absurd x g) id, fun _ => rfl⟩
theorem s79 {L c3 c4 c5 c6 : Nat} {D : Dt} {Q : Out → Wd → Prop} {K : TK} {m na c : Int} (H : ∃ x : List Int × List Int × XB, (SKp K (D 54) (D 55) (D 56) (D 57) (D 224) ∧ CS K x.1 (D 197 0) (D 60) ∧ (ABp (D 198) x.2.1 ∧ ABw x.2.1 ∧ x.2.1.length ≤ 24) ∧ 0 ≤ c ∧ c < 8 + x.2.1.length ∧ BS K x.2.2 D ∧ BLn x.2.2 ∧ BOK K x.2.2 ∧ SYN K D ∧ 0 ≤ m ∧ m < (mms K).length ∧ MOK K (lf (mms K) m) ∧ na = lf (mms K) m + 1 ∧ K.n ≤ 4000) ∧ (∀ E, ((hfa K x.1 x.2.1 x.2.2 c (lf (mms K) m)).1 = true ∧ FrB D E ∧ BS K (bdA K x.1 x.2.2 c (lf (mms K) m) m) E) → Q (.inl []) (E, SS L 1 2 c3 c4 c5 c6)) ∧ (∀ E, (¬ (hfa K x.1 x.2.1 x.2.2 c (lf (mms K) m)).1 = true ∧ FrK D E) → Q (.inr 52) (up (up E 51 1 3) 51 2 (hfa K x.1 x.2.1 x.2.2 c (lf (mms K) m)).2, SS L 1 2 c3 c4 c5 c6))) : wp 79 0 [vr 79, vi m, vi na, vi c, vu, vu, vu, vu, vu, vu, vu, vu, vu, vu, vu] [] (D, SS L 1 2 c3 c4 c5 c6) Q := by
  obtain ⟨⟨ns, ab, X⟩, ⟨hS, hC, ⟨hA, hw, hal⟩, hc0, hc, hB, hl, hb, hY, hm0, hm, ht, hna, hn⟩, Hok, Hz⟩ := H
  dsimp only at *
  generalize et : lf (mms K) m = t at *
  subst hna
  have lt := ht.lt
  have t0 := ht.1
  have to := ht.ok
  have hi := ib_01 (K.w t 11)
  obtain ⟨⟨y64, y66, y68, y70, y72⟩, s64, s66, s68, s72, s70⟩ := hY m hm0 hm
  rw [et] at s64 s66 s68 s72
  have hk := sk_tok hS (j := t + 1) (by omega) (by omega)
  have hB' := hB
  obtain ⟨⟨q1, q2, q3, q4⟩, b6, b7, b8, b9, b10, b11, b12⟩ := hB
  have hl' := hl
  obtain ⟨l5, l6, l7, l8, l9, l10, l11, l12⟩ := hl'
  have hv : ∀ i : Int, 0 ≤ i → i < (X 4).length → 0 ≤ lf (X 5) i ∧ lf (X 5) i < K.n := fun i i0 i1 => (q4 i i0 i1).2.2
  have hzz : ∀ E b, FrK D E → hfa K ns ab X c t = (false, b) → Q (.inr 52) (up (up E 51 1 3) 51 2 b, SS L 1 2 c3 c4 c5 c6) := fun E b hf e => by
    have := Hz E ⟨by rw [e]; exact Bool.noConfusion, hf⟩
    rw [e] at this
    exact this
  have hno : ¬ (hd1 K ab X c t ∧ (X 4).length < 48) → Q (.inr 52) (up (up D 51 1 3) 51 2 (t + 1), SS L 1 2 c3 c4 c5 c6) := fun h => hzz D _ (FrK.r D) (cit_f h)
  -- the types, the result and the locals
  have h250 : hd1 K ab X c t → (X 4).length < 48 → ∀ E, FrB D E → PC K ns X c t m (ib (K.w t 11) + 0) E → wp 79 250 [vr 79, vu, vi (t + 1), vu, vu, vu, vu, vu, vu, vi (X 4).length, vi (tcO K t), vi (ib (K.w t 11)), vu, vu, vu] [] (E, SS L 1 2 c3 c4 c5 c6) Q := by
    intro h1 h48 E hf hp
    have HA : hd1 K ab X c t ∧ (X 4).length < 48 := ⟨h1, h48⟩
    refine r79_250 (K := K) (l79d (ab := ab) hS hC hn hl hb ht h48 hv ?_ ?_ ?_ ?_ _ 0 E rfl (by omega) lt.1 hf hp rfl)
    · rintro ⟨g1, g2, g3⟩ E' hE'
      exact Hok E' ⟨by unfold hfa; rw [cit_t HA, cit_t g1, cit_t g2, cit_t g3], hE'.1, hE'.2⟩
    · rintro ⟨g1, g2, g3⟩ E' hE'
      exact hzz E' _ hE' (by unfold hfa; rw [cit_t HA, cit_t g1, cit_t g2, cit_f g3])
    · rintro ⟨g1, g2⟩ E' hE'
      exact hzz E' _ hE' (by unfold hfa; rw [cit_t HA, cit_t g1, cit_f g2])
    · intro g1 E' hE'
      exact hzz E' _ hE' (by unfold hfa; rw [cit_t HA, cit_f g1])
  have hf4 : FrB D (up (up (up (up D 81 (X 4).length (t + 1)) 82 (X 4).length m) 203 (X 4).length c) 205 (X 4).length (ib (K.w t 11))) := ((((FrB.r D).u (Or.inl rfl)).u (Or.inr (Or.inl rfl))).u (Or.inr (Or.inr (Or.inl ⟨by decide, by decide⟩)))).u (Or.inr (Or.inr (Or.inl ⟨by decide, by decide⟩)))
  have hpc : ∀ (E : Dt), (∀ b, ¬ b = 207 → E b = up (up (up (up D 81 (X 4).length (t + 1)) 82 (X 4).length m) 203 (X 4).length c) 205 (X 4).length (ib (K.w t 11)) b) → (∀ i : Int, i < ((X 4).length : Int) * 12 → E 207 i = D 207 i) → (K.w t 11 → E 207 (((X 4).length : Int) * 12) = 16 + c) → PC K ns X c t m (ib (K.w t 11) + 0) E := by
    intro E h1 h2 h3
    refine ⟨?_, ?_, ?_, ?_, ?_, ?_, ?_, ?_, ?_, fun b k b0 b1 k0 k1 => ?_, fun k k0 k1 k2 => ?_⟩
    · rw [h1 197 (by decide)]; exact q1
    · rw [h1 203 (by decide)]
      refine L1.a (f := D 203) (fun i i0 i1 => (q4 i i0 i1).1) ?_ (fun i hi => ?_)
      · rw [ub_a (by decide), ub_s]
      · rw [ub_a (by decide), ub_n (by omega), ub_a (by decide), ub_a (by decide)]
    · rw [h1 81 (by decide)]
      refine L1.a (f := D 81) (fun i i0 i1 => (q4 i i0 (by omega)).2.1) ?_ (fun i hi => ?_)
      · rw [ub_a (by decide), ub_a (by decide), ub_a (by decide), l5, ub_s]
      · rw [ub_a (by decide), ub_a (by decide), ub_a (by decide), ub_n (by omega)]
    · rw [h1 205 (by decide)]
      refine L1.a b6 ?_ (fun i hi => ?_)
      · rw [l6, ub_s]
      · rw [ub_n (by omega), ub_a (by decide), ub_a (by decide), ub_a (by decide)]
    · rw [h1 206 (by decide)]; exact b7
    · rw [h1 208 (by decide)]; exact b8
    · rw [h1 209 (by decide)]; exact b9
    · rw [h1 82 (by decide)]
      refine L1.a b10 ?_ (fun i hi => ?_)
      · rw [ub_a (by decide), ub_a (by decide), l10, ub_s]
      · rw [ub_a (by decide), ub_a (by decide), ub_n (by omega), ub_a (by decide)]
    · rw [h1 204 (by decide)]; exact b11
    · have hl12 := (hb b b0 b1).1
      rw [h2 _ (by omega)]
      exact b12 b k b0 b1 k0 k1
    · have hw11 : K.w t 11 := Classical.byContradiction fun h => by rw [ib_f h] at k1; omega
      have k3 : k = 0 := by rw [ib_t hw11] at k1; omega
      rw [k3, pyO_k (by omega) (by unfold pcO; rw [ib_t hw11]; omega), cit_t ⟨hw11, rfl⟩, show ((X 4).length : Int) * 12 + 0 = ((X 4).length : Int) * 12 by omega]
      exact h3 hw11
  -- whether it may stand there
  have h113 : ∀ s0 : Int, (s0 = 0 ↔ ¬ (nea K ab (X 4) (X 5) (abF ab c) (K.tf (t + 1)) (K.tt (t + 1)) < 0 ∨ (K.w t 11 ∧ K.w (lf (X 12) (nea K ab (X 4) (X 5) (abF ab c) (K.tf (t + 1)) (K.tt (t + 1)))) 11 ∧ shd K t (lf (X 12) (nea K ab (X 4) (X 5) (abF ab c) (K.tf (t + 1)) (K.tt (t + 1))))))) → wp 79 113 [vr 79, vi m, vi (t + 1), vi c, vi (K.tf (t + 1)), vi (K.tt (t + 1)), vi (ib (K.w t 11)), vu, vu, vu, vu, vu, vu, vu, vu] [vi s0] (D, SS L 1 2 c3 c4 c5 c6) Q := by
    intro s0 hs0
    refine r79_113 (K := K) ⟨(X 4, X 5), ⟨hS, ⟨q1, q2, q3, q4⟩, by omega⟩, fun g => ⟨fun g1 => hno fun x => hs0.mp g1 x.1.2, fun g1 => ⟨fun g2 => ?_, fun g2 => hno fun x => g2 (by rw [q1]; omega)⟩⟩, fun g => hno fun x => g x.1.1⟩
    have hh : hd1 K ab X c t := ⟨g, Classical.not_not.mp (mt hs0.mpr g1)⟩
    rw [q1] at g2 ⊢
    rw [s68]
    have h48 : (X 4).length < 48 := by omega
    refine ⟨by omega, by omega, by omega, hi, by omega, by omega, fun h0 => ⟨fun _ => ?_, fun x => absurd h0 x⟩, fun h0 => ⟨fun x => absurd x h0, fun _ => ⟨by omega, by omega, by omega, ?_⟩⟩⟩
    · have h5 := h250 hh h48 _ hf4 (hpc _ (fun _ _ => rfl) (fun i _ => by rw [ub_a (by decide), ub_a (by decide), ub_a (by decide), ub_a (by decide)]) (fun x => by rw [ib_t x] at h0; omega))
      have e : ib (K.w t 11) = 0 := h0
      rw [e] at h5 ⊢
      exact h5
    · have e : ib (K.w t 11) = 1 := by omega
      have h5 := h250 hh h48 (up (up (up (up (up D 81 (X 4).length (t + 1)) 82 (X 4).length m) 203 (X 4).length c) 205 (X 4).length (ib (K.w t 11))) 207 (((X 4).length : Int) * 12) (16 + c)) (hf4.u (Or.inr (Or.inr (Or.inl ⟨by decide, by decide⟩)))) (hpc _ (fun b hb => ub_a hb) (fun i hi => by rw [ub_n (by omega), ub_a (by decide), ub_a (by decide), ub_a (by decide), ub_a (by decide)]) (fun _ => ub_s))
      rw [e] at h5 ⊢
      exact h5
  have h49 : wp 79 49 [vr 79, vi m, vi (t + 1), vi c, vi (K.tf (t + 1)), vi (K.tt (t + 1)), vu, vu, vu, vu, vu, vu, vu, vu, vu] [vi (ib (K.w t 11))] (D, SS L 1 2 c3 c4 c5 c6) Q := by
    have hac := abF_w hw hc0 hc
    refine r79_49 (K := K) ?_
    rw [abF_e hA hc0 hc]
    have y1 := fun h => h113 1 ⟨fun x => absurd x (by decide), fun x => absurd h x⟩
    have y0 := fun h => h113 0 ⟨fun _ => h, fun _ => rfl⟩
    refine ⟨by omega, (ab, X 4, X 5), ⟨hS, ⟨q1, q2, q3, q4⟩, ⟨hA, hw, hal⟩, (show abF ab c < 8 + (ab.length : Int) by omega), by omega⟩, fun g => y1 (Or.inl g), fun g => ?_⟩
    dsimp only
    rcases nea_b (K := K) (l1 := X 4) (l2 := X 5) (a := K.tf (t + 1)) (b := K.tt (t + 1)) hw _ (abF ab c) (Nat.lt_succ_self _) (by omega) with ⟨r1, _⟩ | ⟨r1, r2, _, _⟩
    · exact absurd (by rw [r1]; decide) g
    · generalize hR : nea K ab (X 4) (X 5) (abF ab c) (K.tf (t + 1)) (K.tt (t + 1)) = R at *
      obtain ⟨o1, o2, o3, o4, o5, o6⟩ := hb R r1 r2
      obtain ⟨⟨_, z66, z68, _, _⟩, _, w66, w68, _, _⟩ := hY (lf (X 10) R) o4.1 o4.2.1
      rw [o4.2.2] at w66 w68
      have e205 : D 205 R = ib (K.w (lf (X 12) R) 11) := (b6 R r1 (by omega)).trans o5
      have e82 : D 82 R = lf (X 10) R := b10 R r1 (by omega)
      rw [e205, e82]
      refine ⟨fun g1 => y0 fun x => x.elim g fun y => ib_z.mp g1 y.1, fun g1 => ⟨by omega, fun g2 => y0 fun x => x.elim g fun y => ib_z.mp g2 y.2.1, fun g2 => ⟨by omega, (t, lf (X 12) R), ⟨hS, ht, o2, hn, ⟨hm0, y68, y66, s68, s66⟩, ⟨o4.1, z68, z66, w68, w66⟩⟩, fun g3 => y1 (Or.inr ⟨Classical.not_not.mp (mt ib_z.mpr g1), Classical.not_not.mp (mt ib_z.mpr g2), g3⟩), fun g3 => y0 fun x => x.elim g fun y => g3 y.2.2⟩⟩⟩
  refine r79_0 (K := K) ?_
  rw [hk.1, hk.2.1, s64]
  refine ⟨by omega, by omega, by omega, fun g => ?_, fun g => ?_⟩
  · rw [ib_t ((mkd_2 ht).mp g)] at h49; exact h49
  · rw [ib_f (fun x => g ((mkd_2 ht).mpr x))] at h49; exact h49
