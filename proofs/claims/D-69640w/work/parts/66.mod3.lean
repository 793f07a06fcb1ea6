/-! the model: numbers; words in both -/
set_option maxRecDepth 100000
theorem r244_0 {L c2 c3 c4 c5 c6 : Nat} {D : Dt} {Q : Out → Wd → Prop} {t : Int} (H : (0 ≤ t ∧ t < 16002) ∧ ((0 ≤ D 321 t ∧ D 321 t < 16000) ∧ ((D 320 (D 321 t) = 45 → ((0 ≤ t ∧ t < 16002) ∧ (((-2147483648) ≤ (D 321 t) + 1 ∧ (D 321 t) + 1 ≤ 2147483647) ∧ (wp 244 47 [vr 226, vi t, vi 1, vl 0, vu, vi ((D 321 t) + 1)] [] (D, SS L 1 c2 c3 c4 c5 c6) Q)))) ∧ (¬ (D 320 (D 321 t) = 45) → ((0 ≤ t ∧ t < 16002) ∧ (wp 244 47 [vr 226, vi t, vi 0, vl 0, vu, vi (D 321 t)] [] (D, SS L 1 c2 c3 c4 c5 c6) Q)))))) : wp 244 0 [vr 226, vi t, vu, vu, vu, vu] [] (D, SS L 1 c2 c3 c4 c5 c6) Q := vc_wp [4] 200 _ _ _ _ _ _ (show wp 244 4 [vr 226, vi t, vu, vu, vu, vu] [vr 320] (D, SS L 1 c2 c3 c4 c5 c6) Q from vc_wp [8] 200 _ _ _ _ _ _ (show wp 244 8 [vr 226, vi t, vu, vu, vu, vu] [vr 321, vr 320] (D, SS L 1 c2 c3 c4 c5 c6) Q from vc_wp [32, 43] 200 _ _ _ _ _ _ (show (0 ≤ t ∧ t < 16002) ∧ ((0 ≤ D 321 t ∧ D 321 t < 16000) ∧ ((D 320 (D 321 t) = 45 → (((1 : Int) = 0 → (wp 244 43 [vr 226, vi t, vi 1, vl 0, vu, vu] [vr 321] (D, SS L 1 c2 c3 c4 c5 c6) Q)) ∧ (¬ ((1 : Int) = 0) → (wp 244 32 [vr 226, vi t, vi 1, vl 0, vu, vu] [vr 321] (D, SS L 1 c2 c3 c4 c5 c6) Q)))) ∧ (¬ (D 320 (D 321 t) = 45) → (((0 : Int) = 0 → (wp 244 43 [vr 226, vi t, vi 0, vl 0, vu, vu] [vr 321] (D, SS L 1 c2 c3 c4 c5 c6) Q)) ∧ (¬ ((0 : Int) = 0) → (wp 244 32 [vr 226, vi t, vi 0, vl 0, vu, vu] [vr 321] (D, SS L 1 c2 c3 c4 c5 c6) Q)))))) from ⟨H.1, ⟨H.2.1, ⟨fun h7 => ⟨fun h2 => absurd h2 (by decide), fun _ => vc_wp [36] 200 _ _ _ _ _ _ (show (0 ≤ t ∧ t < 16002) ∧ (wp 244 36 [vr 226, vi t, vi 1, vl 0, vu, vu] [vi (w32 ((D 321 t) + 1))] (D, SS L 1 c2 c3 c4 c5 c6) Q) from ⟨(H.2.2.1 h7).1, w32_i (fun z1 : Int => wp 244 36 [vr 226, vi t, vi 1, vl 0, vu, vu] [vi z1] (D, SS L 1 c2 c3 c4 c5 c6) Q) ((H.2.2.1 h7).2).1 (vc_wp [47] 200 _ _ _ _ _ _ (show wp 244 47 [vr 226, vi t, vi 1, vl 0, vu, vi ((D 321 t) + 1)] [] (D, SS L 1 c2 c3 c4 c5 c6) Q from ((H.2.2.1 h7).2).2))⟩)⟩, fun h8 => ⟨fun _ => vc_wp [47] 200 _ _ _ _ _ _ (show (0 ≤ t ∧ t < 16002) ∧ (wp 244 47 [vr 226, vi t, vi 0, vl 0, vu, vi (D 321 t)] [] (D, SS L 1 c2 c3 c4 c5 c6) Q) from ⟨(H.2.2.2 h8).1, (H.2.2.2 h8).2⟩), fun h6 => absurd (by decide) h6⟩⟩⟩⟩)))
theorem r244_47 {L c2 c3 c4 c5 c6 : Nat} {D : Dt} {Q : Out → Wd → Prop} {t mi v k : Int} (H : (0 ≤ t ∧ t < 16002) ∧ ((k < D 322 t → (((-9223372036854775808) ≤ 10 * v ∧ 10 * v ≤ 9223372036854775807) ∧ ((0 ≤ k ∧ k < 16000) ∧ (((-9223372036854775808) ≤ (10 * v) + (D 320 k) ∧ (10 * v) + (D 320 k) ≤ 9223372036854775807) ∧ (((-9223372036854775808) ≤ ((10 * v) + (D 320 k)) - 48 ∧ ((10 * v) + (D 320 k)) - 48 ≤ 9223372036854775807) ∧ (((-2147483648) ≤ k + 1 ∧ k + 1 ≤ 2147483647) ∧ (wp 244 47 [vr 226, vi t, vi mi, vl (((10 * v) + (D 320 k)) - 48), vu, vi (k + 1)] [] (D, SS L 1 c2 c3 c4 c5 c6) Q))))))) ∧ (¬ (k < D 322 t) → ((mi = 0 → (Q (.inl [vl v]) (D, SS L 1 c2 c3 c4 c5 c6))) ∧ (¬ (mi = 0) → (((-9223372036854775808) ≤ -v ∧ -v ≤ 9223372036854775807) ∧ (Q (.inl [vl (-v)]) (D, SS L 1 c2 c3 c4 c5 c6)))))))) : wp 244 47 [vr 226, vi t, vi mi, vl v, vu, vi k] [] (D, SS L 1 c2 c3 c4 c5 c6) Q := vc_wp [53] 200 _ _ _ _ _ _ (show wp 244 53 [vr 226, vi t, vi mi, vl v, vu, vi k] [vr 322, vi k] (D, SS L 1 c2 c3 c4 c5 c6) Q from vc_wp [63, 89] 200 _ _ _ _ _ _ (show (0 ≤ t ∧ t < 16002) ∧ ((k < D 322 t → (wp 244 63 [vr 226, vi t, vi mi, vl v, vu, vi k] [vl (w64 (10 * v))] (D, SS L 1 c2 c3 c4 c5 c6) Q)) ∧ (¬ (k < D 322 t) → ((mi = 0 → (Q (.inl [vl v]) (D, SS L 1 c2 c3 c4 c5 c6))) ∧ (¬ (mi = 0) → (wp 244 89 [vr 226, vi t, vi mi, vl v, vu, vi k] [vl (w64 (-v))] (D, SS L 1 c2 c3 c4 c5 c6) Q))))) from ⟨H.1, ⟨fun h8 => w64_i (fun z4 : Int => wp 244 63 [vr 226, vi t, vi mi, vl v, vu, vi k] [vl z4] (D, SS L 1 c2 c3 c4 c5 c6) Q) ((H.2.1 h8)).1 (vc_wp [67] 200 _ _ _ _ _ _ (show wp 244 67 [vr 226, vi t, vi mi, vl v, vu, vi k] [vr 320, vl (10 * v)] (D, SS L 1 c2 c3 c4 c5 c6) Q from vc_wp [72] 200 _ _ _ _ _ _ (show (0 ≤ k ∧ k < 16000) ∧ (wp 244 72 [vr 226, vi t, vi mi, vl v, vu, vi k] [vl (w64 ((10 * v) + (D 320 k)))] (D, SS L 1 c2 c3 c4 c5 c6) Q) from ⟨((H.2.1 h8)).2.1, w64_i (fun z3 : Int => wp 244 72 [vr 226, vi t, vi mi, vl v, vu, vi k] [vl z3] (D, SS L 1 c2 c3 c4 c5 c6) Q) (((H.2.1 h8)).2.2).1 (vc_wp [76] 200 _ _ _ _ _ _ (show wp 244 76 [vr 226, vi t, vi mi, vl v, vu, vi k] [vl (w64 (((10 * v) + (D 320 k)) - 48))] (D, SS L 1 c2 c3 c4 c5 c6) Q from w64_i (fun z2 : Int => wp 244 76 [vr 226, vi t, vi mi, vl v, vu, vi k] [vl z2] (D, SS L 1 c2 c3 c4 c5 c6) Q) ((((H.2.1 h8)).2.2).2).1 (vc_wp [80] 200 _ _ _ _ _ _ (show wp 244 80 [vr 226, vi t, vi mi, vl (((10 * v) + (D 320 k)) - 48), vu, vi (w32 (k + 1))] [] (D, SS L 1 c2 c3 c4 c5 c6) Q from w32_i (fun z1 : Int => wp 244 80 [vr 226, vi t, vi mi, vl (((10 * v) + (D 320 k)) - 48), vu, vi z1] [] (D, SS L 1 c2 c3 c4 c5 c6) Q) (((((H.2.1 h8)).2.2).2).2).1 (vc_wp [47] 200 _ _ _ _ _ _ (show wp 244 47 [vr 226, vi t, vi mi, vl (((10 * v) + (D 320 k)) - 48), vu, vi (k + 1)] [] (D, SS L 1 c2 c3 c4 c5 c6) Q from (((((H.2.1 h8)).2.2).2).2).2))))))⟩))), fun h9 => ⟨fun h6 => ((H.2.2 h9).1 h6), fun h7 => w64_i (fun z5 : Int => wp 244 89 [vr 226, vi t, vi mi, vl v, vu, vi k] [vl z5] (D, SS L 1 c2 c3 c4 c5 c6) Q) (((H.2.2 h9).2 h7)).1 (vc_wp [] 200 _ _ _ _ _ _ (show Q (.inl [vl (-v)]) (D, SS L 1 c2 c3 c4 c5 c6) from (((H.2.2 h9).2 h7)).2))⟩⟩⟩))
theorem l244 {L c2 c3 c4 c5 c6 : Nat} {D : Dt} {Q : Out → Wd → Prop} {t mi v k : Int} (hT : TokM (D 226) (D 321) (D 322) ∧ 0 ≤ t ∧ t < D 226 10) (h0 : 0 ≤ k) (hl : D 322 t - k ≤ 10) (hd : allP (fun j => 48 ≤ D 320 j ∧ D 320 j ≤ 57) k (D 322 t)) (hv : 0 ≤ v ∧ v < (10 : Int) ^ (10 - (D 322 t - k).toNat)) (H : Q (.inl [vl (if mi = 0 then valN (D 320) (D 322 t - k).toNat k v else -(valN (D 320) (D 322 t - k).toNat k v))]) (D, SS L 1 c2 c3 c4 c5 c6)) : wp 244 47 [vr 226, vi t, vi mi, vl v, vu, vi k] [] (D, SS L 1 c2 c3 c4 c5 c6) Q := by
  obtain ⟨⟨t1, t2, t6⟩, u0, u1⟩ := hT
  have h6 := t6 t u0 u1
  induction e : (D 322 t - k).toNat generalizing k v with
  | zero =>
    rw [e] at H hv
    have hp := p10 (j := 10 - 0) (by omega)
    refine r244_47 ⟨by omega, fun h => by omega, fun h => ⟨fun hm => ?_, fun hm => ⟨by omega, ?_⟩⟩⟩
    · rw [if_pos hm] at H; exact H
    · rw [if_neg hm] at H; exact H
  | succ N ih =>
    rw [e] at H hv
    have hk : k < D 322 t := by omega
    have hN : N ≤ 9 := by omega
    have hp := p10 (j := 10 - (N + 1)) (by omega)
    have hpp : (10 : Int) ^ (10 - N) = 10 ^ (10 - (N + 1)) * 10 := by
      rw [← Int.pow_succ]
      congr 1
      omega
    have hp2 := p10 (j := 10 - N) (by omega)
    have hc := hd k (by omega) hk
    refine r244_47 ⟨by omega, fun h => ⟨by omega, by omega, by omega, by omega, by omega, ?_⟩, fun h => by omega⟩
    have e2 : (D 322 t - (k + 1)).toNat = N := by omega
    refine ih (by omega) (by omega) (fun j h1 h2 => hd j (by omega) h2) ?_ ?_ e2
    · rw [e2, hpp]; omega
    · rw [e2]; exact H
theorem s244 {L c2 c3 c4 c5 c6 : Nat} {D : Dt} {Q : Out → Wd → Prop} {t : Int} (H : ((TokM (D 226) (D 321) (D 322) ∧ 0 ≤ t ∧ t < D 226 10) ∧ digs (D 320) (D 321 t) (D 322 t)) ∧ Q (.inl [vl (valF (D 320) (D 321 t) (D 322 t))]) (D, SS L 1 c2 c3 c4 c5 c6)) : wp 244 0 [vr 226, vi t, vu, vu, vu, vu] [] (D, SS L 1 c2 c3 c4 c5 c6) Q := by
  obtain ⟨⟨hT, hd⟩, H⟩ := H
  have hT' := hT
  obtain ⟨⟨t1, t2, t6⟩, u0, u1⟩ := hT'
  have h6 := t6 t u0 u1
  have hd1 := hd.1
  have hd2 := hd.2
  unfold nBeg at hd1 hd2
  refine r244_0 ⟨by omega, by omega, fun h => ⟨by omega, by omega, ?_⟩, fun h => ⟨by omega, ?_⟩⟩
  · rw [if_pos h] at hd1 hd2
    refine l244 hT (by omega) (by omega) hd2 ⟨by omega, by have := (p10 (j := 10 - (D 322 t - (D 321 t + 1)).toNat) (by omega)).1; omega⟩ ?_
    unfold valF at H
    rw [if_pos h] at H
    exact H
  · rw [if_neg h] at hd1 hd2
    refine l244 hT (by omega) (by omega) hd2 ⟨by omega, by have := (p10 (j := 10 - (D 322 t - D 321 t).toNat) (by omega)).1; omega⟩ ?_
    unfold valF at H
    rw [if_neg h] at H
    exact H
theorem r243_0 {L c2 c3 c4 c5 c6 : Nat} {D : Dt} {Q : Out → Wd → Prop} {t : Int} (H : ((t < D 226 10 → ((0 ≤ t ∧ t < 16002) ∧ ((0 ≤ D 321 t ∧ D 321 t < 16000) ∧ ((D 320 (D 321 t) = 45 → ((0 ≤ t ∧ t < 16002) ∧ (((-2147483648) ≤ (D 321 t) + 1 ∧ (D 321 t) + 1 ≤ 2147483647) ∧ ((0 ≤ t ∧ t < 16002) ∧ (((-2147483648) ≤ (D 322 t) - ((D 321 t) + 1) ∧ (D 322 t) - ((D 321 t) + 1) ≤ 2147483647) ∧ (((D 322 t) - ((D 321 t) + 1) < 1 → (Q (.inl [vi 0]) (D, SS L 1 c2 c3 c4 c5 c6))) ∧ (¬ ((D 322 t) - ((D 321 t) + 1) < 1) → ((0 ≤ t ∧ t < 16002) ∧ (((-2147483648) ≤ (D 322 t) - ((D 321 t) + 1) ∧ (D 322 t) - ((D 321 t) + 1) ≤ 2147483647) ∧ ((10 < (D 322 t) - ((D 321 t) + 1) → (Q (.inl [vi 0]) (D, SS L 1 c2 c3 c4 c5 c6))) ∧ (¬ (10 < (D 322 t) - ((D 321 t) + 1)) → (wp 243 73 [vr 226, vi t, vu, vi ((D 321 t) + 1), vu] [] (D, SS L 1 c2 c3 c4 c5 c6) Q)))))))))))) ∧ (¬ (D 320 (D 321 t) = 45) → ((0 ≤ t ∧ t < 16002) ∧ ((0 ≤ t ∧ t < 16002) ∧ (((-2147483648) ≤ (D 322 t) - (D 321 t) ∧ (D 322 t) - (D 321 t) ≤ 2147483647) ∧ (((D 322 t) - (D 321 t) < 1 → (Q (.inl [vi 0]) (D, SS L 1 c2 c3 c4 c5 c6))) ∧ (¬ ((D 322 t) - (D 321 t) < 1) → ((0 ≤ t ∧ t < 16002) ∧ (((-2147483648) ≤ (D 322 t) - (D 321 t) ∧ (D 322 t) - (D 321 t) ≤ 2147483647) ∧ ((10 < (D 322 t) - (D 321 t) → (Q (.inl [vi 0]) (D, SS L 1 c2 c3 c4 c5 c6))) ∧ (¬ (10 < (D 322 t) - (D 321 t)) → (wp 243 73 [vr 226, vi t, vu, vi (D 321 t), vu] [] (D, SS L 1 c2 c3 c4 c5 c6) Q))))))))))))))) ∧ (¬ (t < D 226 10) → (Q (.inl [vi 0]) (D, SS L 1 c2 c3 c4 c5 c6))))) : wp 243 0 [vr 226, vi t, vu, vu, vu] [] (D, SS L 1 c2 c3 c4 c5 c6) Q := vc_wp [14] 200 _ _ _ _ _ _ (show ((t < D 226 10 → (wp 243 14 [vr 226, vi t, vu, vu, vu] [vr 320] (D, SS L 1 c2 c3 c4 c5 c6) Q)) ∧ (¬ (t < D 226 10) → (((0 : Int) ≤ 0 ∧ 0 ≤ (1 : Int)) ∧ (Q (.inl [vi 0]) (D, SS L 1 c2 c3 c4 c5 c6))))) from ⟨fun h16 => vc_wp [18] 200 _ _ _ _ _ _ (show wp 243 18 [vr 226, vi t, vu, vu, vu] [vr 321, vr 320] (D, SS L 1 c2 c3 c4 c5 c6) Q from vc_wp [30, 41] 200 _ _ _ _ _ _ (show (0 ≤ t ∧ t < 16002) ∧ ((0 ≤ D 321 t ∧ D 321 t < 16000) ∧ ((D 320 (D 321 t) = 45 → (wp 243 30 [vr 226, vi t, vu, vu, vu] [vr 321] (D, SS L 1 c2 c3 c4 c5 c6) Q)) ∧ (¬ (D 320 (D 321 t) = 45) → (wp 243 41 [vr 226, vi t, vu, vu, vu] [vr 321] (D, SS L 1 c2 c3 c4 c5 c6) Q)))) from ⟨(H.1 h16).1, ⟨(H.1 h16).2.1, ⟨fun h14 => vc_wp [34] 200 _ _ _ _ _ _ (show (0 ≤ t ∧ t < 16002) ∧ (wp 243 34 [vr 226, vi t, vu, vu, vu] [vi (w32 ((D 321 t) + 1))] (D, SS L 1 c2 c3 c4 c5 c6) Q) from ⟨((H.1 h16).2.2.1 h14).1, w32_i (fun z7 : Int => wp 243 34 [vr 226, vi t, vu, vu, vu] [vi z7] (D, SS L 1 c2 c3 c4 c5 c6) Q) (((H.1 h16).2.2.1 h14).2).1 (vc_wp [48] 200 _ _ _ _ _ _ (show wp 243 48 [vr 226, vi t, vi ((D 321 t) + 1), vu, vu] [vr 322] (D, SS L 1 c2 c3 c4 c5 c6) Q from vc_wp [52] 200 _ _ _ _ _ _ (show (0 ≤ t ∧ t < 16002) ∧ (wp 243 52 [vr 226, vi t, vi ((D 321 t) + 1), vu, vu] [vi (w32 ((D 322 t) - ((D 321 t) + 1)))] (D, SS L 1 c2 c3 c4 c5 c6) Q) from ⟨(((H.1 h16).2.2.1 h14).2).2.1, w32_i (fun z6 : Int => wp 243 52 [vr 226, vi t, vi ((D 321 t) + 1), vu, vu] [vi z6] (D, SS L 1 c2 c3 c4 c5 c6) Q) ((((H.1 h16).2.2.1 h14).2).2.2).1 (vc_wp [60] 200 _ _ _ _ _ _ (show (((D 322 t) - ((D 321 t) + 1) < 1 → (((0 : Int) ≤ 0 ∧ 0 ≤ (1 : Int)) ∧ (Q (.inl [vi 0]) (D, SS L 1 c2 c3 c4 c5 c6)))) ∧ (¬ ((D 322 t) - ((D 321 t) + 1) < 1) → (wp 243 60 [vr 226, vi t, vi ((D 321 t) + 1), vu, vu] [vr 322] (D, SS L 1 c2 c3 c4 c5 c6) Q))) from ⟨fun h4 => ⟨(by decide), (((((H.1 h16).2.2.1 h14).2).2.2).2.1 h4)⟩, fun h5 => vc_wp [64] 200 _ _ _ _ _ _ (show (0 ≤ t ∧ t < 16002) ∧ (wp 243 64 [vr 226, vi t, vi ((D 321 t) + 1), vu, vu] [vi (w32 ((D 322 t) - ((D 321 t) + 1)))] (D, SS L 1 c2 c3 c4 c5 c6) Q) from ⟨(((((H.1 h16).2.2.1 h14).2).2.2).2.2 h5).1, w32_i (fun z3 : Int => wp 243 64 [vr 226, vi t, vi ((D 321 t) + 1), vu, vu] [vi z3] (D, SS L 1 c2 c3 c4 c5 c6) Q) ((((((H.1 h16).2.2.1 h14).2).2.2).2.2 h5).2).1 (vc_wp [73] 200 _ _ _ _ _ _ (show ((10 < (D 322 t) - ((D 321 t) + 1) → (((0 : Int) ≤ 0 ∧ 0 ≤ (1 : Int)) ∧ (Q (.inl [vi 0]) (D, SS L 1 c2 c3 c4 c5 c6)))) ∧ (¬ (10 < (D 322 t) - ((D 321 t) + 1)) → (wp 243 73 [vr 226, vi t, vi ((D 321 t) + 1), vi ((D 321 t) + 1), vu] [] (D, SS L 1 c2 c3 c4 c5 c6) Q))) from ⟨fun h1 => ⟨(by decide), (((((((H.1 h16).2.2.1 h14).2).2.2).2.2 h5).2).2.1 h1)⟩, fun h2 => wp_d (Lle.k rfl (Lle.k rfl (Lle.v rfl (Lle.k rfl (Lle.k rfl (Lle.nil)))))) ((((((((H.1 h16).2.2.1 h14).2).2.2).2.2 h5).2).2.2 h2))⟩))⟩)⟩))⟩)))⟩), fun h15 => vc_wp [48] 200 _ _ _ _ _ _ (show (0 ≤ t ∧ t < 16002) ∧ (wp 243 48 [vr 226, vi t, vi (D 321 t), vu, vu] [vr 322] (D, SS L 1 c2 c3 c4 c5 c6) Q) from ⟨((H.1 h16).2.2.2 h15).1, vc_wp [52] 200 _ _ _ _ _ _ (show (0 ≤ t ∧ t < 16002) ∧ (wp 243 52 [vr 226, vi t, vi (D 321 t), vu, vu] [vi (w32 ((D 322 t) - (D 321 t)))] (D, SS L 1 c2 c3 c4 c5 c6) Q) from ⟨((H.1 h16).2.2.2 h15).2.1, w32_i (fun z13 : Int => wp 243 52 [vr 226, vi t, vi (D 321 t), vu, vu] [vi z13] (D, SS L 1 c2 c3 c4 c5 c6) Q) (((H.1 h16).2.2.2 h15).2.2).1 (vc_wp [60] 200 _ _ _ _ _ _ (show (((D 322 t) - (D 321 t) < 1 → (((0 : Int) ≤ 0 ∧ 0 ≤ (1 : Int)) ∧ (Q (.inl [vi 0]) (D, SS L 1 c2 c3 c4 c5 c6)))) ∧ (¬ ((D 322 t) - (D 321 t) < 1) → (wp 243 60 [vr 226, vi t, vi (D 321 t), vu, vu] [vr 322] (D, SS L 1 c2 c3 c4 c5 c6) Q))) from ⟨fun h11 => ⟨(by decide), ((((H.1 h16).2.2.2 h15).2.2).2.1 h11)⟩, fun h12 => vc_wp [64] 200 _ _ _ _ _ _ (show (0 ≤ t ∧ t < 16002) ∧ (wp 243 64 [vr 226, vi t, vi (D 321 t), vu, vu] [vi (w32 ((D 322 t) - (D 321 t)))] (D, SS L 1 c2 c3 c4 c5 c6) Q) from ⟨((((H.1 h16).2.2.2 h15).2.2).2.2 h12).1, w32_i (fun z10 : Int => wp 243 64 [vr 226, vi t, vi (D 321 t), vu, vu] [vi z10] (D, SS L 1 c2 c3 c4 c5 c6) Q) (((((H.1 h16).2.2.2 h15).2.2).2.2 h12).2).1 (vc_wp [73] 200 _ _ _ _ _ _ (show ((10 < (D 322 t) - (D 321 t) → (((0 : Int) ≤ 0 ∧ 0 ≤ (1 : Int)) ∧ (Q (.inl [vi 0]) (D, SS L 1 c2 c3 c4 c5 c6)))) ∧ (¬ (10 < (D 322 t) - (D 321 t)) → (wp 243 73 [vr 226, vi t, vi (D 321 t), vi (D 321 t), vu] [] (D, SS L 1 c2 c3 c4 c5 c6) Q))) from ⟨fun h8 => ⟨(by decide), ((((((H.1 h16).2.2.2 h15).2.2).2.2 h12).2).2.1 h8)⟩, fun h9 => wp_d (Lle.k rfl (Lle.k rfl (Lle.v rfl (Lle.k rfl (Lle.k rfl (Lle.nil)))))) (((((((H.1 h16).2.2.2 h15).2.2).2.2 h12).2).2.2 h9))⟩))⟩)⟩))⟩)⟩)⟩⟩⟩)), fun h17 => ⟨(by decide), (H.2 h17)⟩⟩)
theorem r243_73 {L c2 c3 c4 c5 c6 : Nat} {D : Dt} {Q : Out → Wd → Prop} {t k : Int} (H : (0 ≤ t ∧ t < 16002) ∧ ((k < D 322 t → ((0 ≤ k ∧ k < 16000) ∧ ((D 320 k < 48 → (Q (.inl [vi 0]) (D, SS L 1 c2 c3 c4 c5 c6))) ∧ (¬ (D 320 k < 48) → ((0 ≤ k ∧ k < 16000) ∧ ((57 < D 320 k → (Q (.inl [vi 0]) (D, SS L 1 c2 c3 c4 c5 c6))) ∧ (¬ (57 < D 320 k) → (((-2147483648) ≤ k + 1 ∧ k + 1 ≤ 2147483647) ∧ (wp 243 73 [vr 226, vi t, vu, vi (k + 1), vu] [] (D, SS L 1 c2 c3 c4 c5 c6) Q))))))))) ∧ (¬ (k < D 322 t) → (((TokM (D 226) (D 321) (D 322) ∧ 0 ≤ t ∧ t < D 226 10) ∧ digs (D 320) (D 321 t) (D 322 t)) ∧ ((((valF (D 320) (D 321 t) (D 322 t) < (-2147483648) → (Q (.inl [vi 0]) (D, SS L 1 c2 c3 c4 c5 c6))) ∧ (¬ (valF (D 320) (D 321 t) (D 322 t) < (-2147483648)) → ((2147483647 < valF (D 320) (D 321 t) (D 322 t) → (Q (.inl [vi 0]) (D, SS L 1 c2 c3 c4 c5 c6))) ∧ (¬ (2147483647 < valF (D 320) (D 321 t) (D 322 t)) → (Q (.inl [vi 1]) (D, SS L 1 c2 c3 c4 c5 c6)))))))))))) : wp 243 73 [vr 226, vi t, vu, vi k, vu] [] (D, SS L 1 c2 c3 c4 c5 c6) Q := vc_wp [78] 200 _ _ _ _ _ _ (show wp 243 78 [vr 226, vi t, vu, vi k, vu] [vr 322, vi k] (D, SS L 1 c2 c3 c4 c5 c6) Q from vc_wp [87] 200 _ _ _ _ _ _ (show (0 ≤ t ∧ t < 16002) ∧ ((k < D 322 t → (wp 243 87 [vr 226, vi t, vu, vi k, vu] [vr 320] (D, SS L 1 c2 c3 c4 c5 c6) Q)) ∧ (¬ (k < D 322 t) → (wp 244 0 [vr 226, vi t, vu, vu, vu, vu] [] (D, SS L 1 c2 c3 c4 c5 c6) (aft wp 243 115 [vr 226, vi t, vu, vi k, vu] [] Q)))) from ⟨H.1, ⟨fun h11 => vc_wp [98] 200 _ _ _ _ _ _ (show (0 ≤ k ∧ k < 16000) ∧ ((D 320 k < 48 → (((0 : Int) ≤ 0 ∧ 0 ≤ (1 : Int)) ∧ (Q (.inl [vi 0]) (D, SS L 1 c2 c3 c4 c5 c6)))) ∧ (¬ (D 320 k < 48) → (wp 243 98 [vr 226, vi t, vu, vi k, vu] [vr 320] (D, SS L 1 c2 c3 c4 c5 c6) Q))) from ⟨(H.2.1 h11).1, ⟨fun h4 => ⟨(by decide), ((H.2.1 h11).2.1 h4)⟩, fun h5 => vc_wp [110] 200 _ _ _ _ _ _ (show (0 ≤ k ∧ k < 16000) ∧ ((57 < D 320 k → (((0 : Int) ≤ 0 ∧ 0 ≤ (1 : Int)) ∧ (Q (.inl [vi 0]) (D, SS L 1 c2 c3 c4 c5 c6)))) ∧ (¬ (57 < D 320 k) → (wp 243 110 [vr 226, vi t, vu, vi (w32 (k + 1)), vu] [] (D, SS L 1 c2 c3 c4 c5 c6) Q))) from ⟨((H.2.1 h11).2.2 h5).1, ⟨fun h2 => ⟨(by decide), (((H.2.1 h11).2.2 h5).2.1 h2)⟩, fun h3 => w32_i (fun z1 : Int => wp 243 110 [vr 226, vi t, vu, vi z1, vu] [] (D, SS L 1 c2 c3 c4 c5 c6) Q) ((((H.2.1 h11).2.2 h5).2.2 h3)).1 (vc_wp [73] 200 _ _ _ _ _ _ (show wp 243 73 [vr 226, vi t, vu, vi (k + 1), vu] [] (D, SS L 1 c2 c3 c4 c5 c6) Q from ((((H.2.1 h11).2.2 h5).2.2 h3)).2))⟩⟩)⟩⟩), fun h12 => s244 ⟨(H.2.2 h12).1, (show wp 243 118 [vr 226, vi t, vu, vi k, vu] [vl (valF (D 320) (D 321 t) (D 322 t))] (D, SS L 1 c2 c3 c4 c5 c6) Q from vc_wp [] 200 _ _ _ _ _ _ (show ((lcmp (valF (D 320) (D 321 t) (D 322 t)) (-2147483648) < 0 → (((0 : Int) ≤ 0 ∧ 0 ≤ (1 : Int)) ∧ (Q (.inl [vi 0]) (D, SS L 1 c2 c3 c4 c5 c6)))) ∧ (¬ (lcmp (valF (D 320) (D 321 t) (D 322 t)) (-2147483648) < 0) → ((0 < lcmp (valF (D 320) (D 321 t) (D 322 t)) 2147483647 → (((0 : Int) ≤ 0 ∧ 0 ≤ (1 : Int)) ∧ (Q (.inl [vi 0]) (D, SS L 1 c2 c3 c4 c5 c6)))) ∧ (¬ (0 < lcmp (valF (D 320) (D 321 t) (D 322 t)) 2147483647) → (((0 : Int) ≤ 1 ∧ 1 ≤ (1 : Int)) ∧ (Q (.inl [vi 1]) (D, SS L 1 c2 c3 c4 c5 c6))))))) from ⟨fun h9 => ⟨(by decide), ((H.2.2 h12).2.1 ((lc_l).mp h9))⟩, fun h10 => ⟨fun h7 => ⟨(by decide), (((H.2.2 h12).2.2 (mt (lc_l).mpr h10)).1 ((lc_g).mp h7))⟩, fun h8 => ⟨(by decide), (((H.2.2 h12).2.2 (mt (lc_l).mpr h10)).2 (mt (lc_g).mpr h8))⟩⟩⟩))⟩⟩⟩))
theorem l243 {L c2 c3 c4 c5 c6 : Nat} {D : Dt} {Q : Out → Wd → Prop} {t k : Int} (hT : TokM (D 226) (D 321) (D 322) ∧ 0 ≤ t ∧ t < D 226 10) (hl : 1 ≤ D 322 t - nBeg (D 320) (D 321 t) ∧ D 322 t - nBeg (D 320) (D 321 t) ≤ 10) (hk : nBeg (D 320) (D 321 t) ≤ k) (hd : allP (fun j => 48 ≤ D 320 j ∧ D 320 j ≤ 57) (nBeg (D 320) (D 321 t)) k) (hkb : k ≤ D 322 t) (H : Q (.inl [vi (ib (isNUM (D 320) (D 321) (D 322) (D 226 10) t))]) (D, SS L 1 c2 c3 c4 c5 c6)) : wp 243 73 [vr 226, vi t, vu, vi k, vu] [] (D, SS L 1 c2 c3 c4 c5 c6) Q := by
  have hT' := hT
  obtain ⟨⟨t1, t2, t6⟩, u0, u1⟩ := hT'
  have h6 := t6 t u0 u1
  have hb0 : D 321 t ≤ nBeg (D 320) (D 321 t) := by unfold nBeg; split <;> omega
  induction e : (D 322 t - k).toNat generalizing k with
  | zero =>
    have ek : k = D 322 t := by omega
    have hdg : digs (D 320) (D 321 t) (D 322 t) := ⟨hl.2, ek ▸ hd⟩
    refine r243_73 ⟨by omega, fun h => by omega, fun h => ⟨⟨hT, hdg⟩, fun h1 => ?_, fun h1 => ⟨fun h2 => ?_, fun h2 => ?_⟩⟩⟩
    · exact q_i H (ib_f fun x => by have := x.2.2.2.1; omega)
    · exact q_i H (ib_f fun x => by have := x.2.2.2.2; omega)
    · exact q_i H (ib_t ⟨u1, hl.1, hdg, by omega, by omega⟩)
  | succ N ih =>
    have hkk : k < D 322 t := by omega
    refine r243_73 ⟨by omega, fun h => ⟨by omega, fun h1 => ?_, fun h1 => ⟨by omega, fun h2 => ?_, fun h2 => ⟨by omega, ?_⟩⟩⟩, fun h => by omega⟩
    · exact q_i H (ib_f fun x => by have := x.2.2.1.2 k hk hkk; omega)
    · exact q_i H (ib_f fun x => by have := x.2.2.1.2 k hk hkk; omega)
    · refine ih (by omega) (fun j hj1 hj2 => ?_) (by omega) (by omega)
      by_cases ej : j = k
      · rw [ej]; exact ⟨by omega, by omega⟩
      · exact hd j hj1 (by omega)
theorem s243 {L c2 c3 c4 c5 c6 : Nat} {D : Dt} {Q : Out → Wd → Prop} {t : Int} (H : (TokM (D 226) (D 321) (D 322) ∧ 0 ≤ t) ∧ Q (.inl [vi (ib (isNUM (D 320) (D 321) (D 322) (D 226 10) t))]) (D, SS L 1 c2 c3 c4 c5 c6)) : wp 243 0 [vr 226, vi t, vu, vu, vu] [] (D, SS L 1 c2 c3 c4 c5 c6) Q := by
  obtain ⟨⟨hT, u0⟩, H⟩ := H
  have hT' := hT
  obtain ⟨t1, t2, t6⟩ := hT'
  refine r243_0 ⟨fun u1 => ?_, fun h => q_i H (ib_f fun x => h x.1)⟩
  have h6 := t6 t u0 u1
  refine ⟨by omega, by omega, fun h => ?_, fun h => ?_⟩
  · have hb : nBeg (D 320) (D 321 t) = D 321 t + 1 := if_pos h
    refine ⟨by omega, by omega, by omega, by omega, fun h1 => ?_, fun h1 => ⟨by omega, by omega, fun h2 => ?_, fun h2 => ?_⟩⟩
    · exact q_i H (ib_f fun x => by have := x.2.1; omega)
    · exact q_i H (ib_f fun x => by have := x.2.2.1.1; omega)
    · exact l243 ⟨hT, u0, u1⟩ (by omega) (by omega) (fun j h1 h2 => by omega) (by omega) H
  · have hb : nBeg (D 320) (D 321 t) = D 321 t := if_neg h
    refine ⟨by omega, by omega, by omega, fun h1 => ?_, fun h1 => ⟨by omega, by omega, fun h2 => ?_, fun h2 => ?_⟩⟩
    · exact q_i H (ib_f fun x => by have := x.2.1; omega)
    · exact q_i H (ib_f fun x => by have := x.2.2.1.1; omega)
    · exact l243 ⟨hT, u0, u1⟩ (by omega) (by omega) (fun j h1 h2 => by omega) (by omega) H
/-! words -/
/-- which of some words a part of the text is, counted from n on -/
noncomputable def widx (tx : Int → Int) (a b : Int) : List (List Int) → Int → Int
  | [], _ => -1
  | w :: ws, n => cit (strR tx a b w 0 w.length) n (widx tx a b ws (n + 1))
def flat : List (List Int) → List Int
  | [] => []
  | w :: ws => w ++ 32 :: flat ws
def opW : List (List Int) := [[112, 117, 115, 104], [110, 117, 108, 108], [108, 111, 97, 100], [115, 116, 111, 114, 101], [105, 110, 99], [100, 117, 112], [112, 111, 112], [115, 119, 97, 112], [97, 100, 100], [115, 117, 98], [109, 117, 108], [100, 105, 118], [114, 101, 109], [97, 110, 100], [111, 114], [120, 111, 114], [115, 104, 108], [115, 104, 114], [110, 101, 103], [103, 111, 116, 111], [101, 113], [110, 101], [108, 116], [108, 101], [103, 116], [103, 101], [105, 115, 110, 117, 108, 108], [110, 111, 116, 110, 117, 108, 108], [115, 97, 109, 101], [111, 116, 104, 101, 114], [110, 101, 119], [97, 114, 114, 97, 121], [108, 101, 110, 103, 116, 104], [97, 108, 111, 97, 100], [97, 115, 116, 111, 114, 101], [103, 101, 116], [112, 117, 116], [99, 97, 115, 116], [105, 115], [99, 97, 108, 108], [115, 101, 110, 100], [116, 104, 114, 111, 119], [103, 105, 118, 101], [98, 97, 99, 107], [114, 101, 97, 100], [119, 114, 105, 116, 101]]
def knW : List (List Int) := [[79, 98, 106, 101, 99, 116], [69, 114, 114, 111, 114], [78, 117, 108, 108, 69, 114, 114, 111, 114], [73, 110, 100, 101, 120, 69, 114, 114, 111, 114], [83, 105, 122, 101, 69, 114, 114, 111, 114], [68, 105, 118, 105, 100, 101, 69, 114, 114, 111, 114], [67, 97, 115, 116, 69, 114, 114, 111, 114], [83, 116, 111, 114, 101, 69, 114, 114, 111, 114]]
theorem opW_s : sbt 17 = flat opW := by decide +kernel
theorem opW_m : sbt 32 = 32 :: flat opW := by decide +kernel
theorem knW_s : sbt 19 = flat knW := by decide +kernel
theorem knW_m : sbt 36 = 32 :: flat knW := by decide +kernel
def noB (ws : List (List Int)) : Prop := ∀ w ∈ ws, ∀ c ∈ w, ¬ c = 32
theorem opW_n : noB opW := by unfold noB; decide
theorem knW_n : noB knW := by unfold noB; decide
/-- a place in a row of words: so many characters into the first word -/
theorem drop_get {s t : List Int} {g : Nat} (h : s.drop g = t) (i : Nat) : s.getD (g + i) 0 = t.getD i 0 := by
  subst h
  simp only [List.getD_eq_getElem?_getD, List.getElem?_drop]
theorem get_w {w r : List Int} {i : Nat} (h : i < w.length) : (w ++ r).getD i 0 = w.getD i 0 := by
  simp only [List.getD_eq_getElem?_getD, List.getElem?_append_left h]
theorem get_b {w r : List Int} : (w ++ 32 :: r).getD w.length 0 = 32 := by
  simp [List.getD_eq_getElem?_getD]
theorem get_mem {w : List Int} {i : Nat} (h : i < w.length) : w.getD i 0 ∈ w := by
  simp only [List.getD_eq_getElem?_getD, List.getElem?_eq_getElem h, Option.getD_some]
  exact List.getElem_mem h
theorem strR_w {tx : Int → Int} {a b : Int} {s w r : List Int} {g : Nat} (h : s.drop g = w ++ 32 :: r) : strR tx a b s g (g + w.length : Int) ↔ strR tx a b w 0 w.length := by
  have key : ∀ j, a ≤ j → j < b → b - a = w.length → s.getD ((g : Int) + j - a).toNat 0 = w.getD (0 + j - a).toNat 0 := by
    intro j h1 h2 h3
    rw [show ((g : Int) + j - a).toNat = g + (0 + j - a).toNat by omega, drop_get h, get_w (by omega)]
  constructor
  · rintro ⟨h1, h2⟩
    refine ⟨by omega, fun j h3 h4 => ?_⟩
    have h5 : tx j = s.getD ((g : Int) + j - a).toNat 0 := h2 j h3 h4
    rw [key j h3 h4 (by omega)] at h5
    exact h5
  · rintro ⟨h1, h2⟩
    refine ⟨by omega, fun j h3 h4 => ?_⟩
    show tx j = s.getD ((g : Int) + j - a).toNat 0
    rw [key j h3 h4 (by omega)]
    exact h2 j h3 h4
theorem drop_next {s w r : List Int} {g : Nat} (h : s.drop g = w ++ 32 :: r) : s.drop (g + w.length + 1) = r := by
  rw [Nat.add_assoc, ← List.drop_drop, h]
  simp
theorem drop_len {s t : List Int} {g : Nat} (h : s.drop g = t) (hg : g ≤ s.length) : s.length = g + t.length := by
  have := congrArg List.length h
  rw [List.length_drop] at this
  omega
/-- SafeCode's search, in a row of words -/
theorem wOf_w {tx : Int → Int} {a b : Int} {s w : List Int} {r : List Int} {g : Nat} {n : Int} (h : s.drop g = w ++ 32 :: r) (hw : ∀ c ∈ w, ¬ c = 32) : ∀ (M i N : Nat), w.length - i = M → i ≤ w.length → wOfN tx a b s (N + M + 1) (g + i) n g = cit (strR tx a b w 0 w.length) n (wOfN tx a b s N (g + w.length + 1) (n + 1) (g + w.length + 1)) := by
  intro M
  induction M with
  | zero =>
    intro i N e hi
    have e2 : i = w.length := by omega
    subst e2
    have hc : s.getD ((g : Int) + w.length).toNat 0 = 32 := by
      rw [show ((g : Int) + w.length).toNat = g + w.length by omega, drop_get h, get_b]
    show (if s.getD ((g : Int) + w.length).toNat 0 = 32 then cit (strR tx a b s g (g + w.length)) n (wOfN tx a b s N (g + w.length + 1) (n + 1) (g + w.length + 1)) else _) = _
    rw [if_pos hc, propext (strR_w h)]
  | succ M ih =>
    intro i N e hi
    have hc : ¬ s.getD ((g : Int) + i).toNat 0 = 32 := by
      rw [show ((g : Int) + i).toNat = g + i by omega, drop_get h, get_w (by omega)]
      exact hw _ (get_mem (by omega))
    show (if s.getD ((g : Int) + i).toNat 0 = 32 then _ else wOfN tx a b s (N + M + 1) (g + i + 1) n g) = _
    rw [if_neg hc]
    have := ih (i + 1) N (by omega) (by omega)
    rw [show ((g : Int) + ((i + 1 : Nat) : Int)) = g + i + 1 by omega] at this
    exact this
theorem wOf_ws {tx : Int → Int} {a b : Int} {s : List Int} : ∀ (ws : List (List Int)) (g : Nat) (n : Int), s.drop g = flat ws → noB ws → wOfN tx a b s (flat ws).length g n g = widx tx a b ws n
  | [], _, _, _, _ => rfl
  | w :: ws, g, n, h, hb => by
    have h' : s.drop g = w ++ 32 :: flat ws := h
    have hl : (flat (w :: ws)).length = (flat ws).length + w.length + 1 := by
      show (w ++ 32 :: flat ws).length = _
      rw [List.length_append, List.length_cons]
      omega
    have h1 := wOf_w (tx := tx) (a := a) (b := b) (n := n) h' (hb w List.mem_cons_self) w.length 0 (flat ws).length (by omega) (by omega)
    have h2 := wOf_ws (tx := tx) (a := a) (b := b) ws (g + w.length + 1) (n + 1) (drop_next h') (fun x hx => hb x (List.mem_cons_of_mem _ hx))
    rw [show (g : Int) + ((0 : Nat) : Int) = g by omega] at h1
    rw [hl, h1]
    show cit _ n _ = cit _ n (widx tx a b ws (n + 1))
    rw [← h2]
    rfl
theorem wOf17 {tx : Int → Int} {a b : Int} : wOfN tx a b (sbt 17) 213 0 0 0 = widx tx a b opW 0 := by
  have h := wOf_ws (tx := tx) (a := a) (b := b) (s := sbt 17) opW 0 0 (by rw [opW_s]; rfl) opW_n
  rw [show (flat opW).length = 213 by decide +kernel] at h
  exact h
theorem wOf19 {tx : Int → Int} {a b : Int} : wOfN tx a b (sbt 19) 77 0 0 0 = widx tx a b knW 0 := by
  have h := wOf_ws (tx := tx) (a := a) (b := b) (s := sbt 19) knW 0 0 (by rw [knW_s]; rfl) knW_n
  rw [show (flat knW).length = 77 by decide +kernel] at h
  exact h
theorem r248_0s32 {L c2 c3 c4 c5 c6 : Nat} {D : Dt} {Q : Out → Wd → Prop} {a b : Int} (H : wp 248 6 [vr 226, vi a, vi b, vr 32, vi 0, vi 1, vu, vu, vu] [] (D, SS L 1 c2 c3 c4 c5 c6) Q) : wp 248 0 [vr 226, vi a, vi b, vr 32, vu, vu, vu, vu, vu] [] (D, SS L 1 c2 c3 c4 c5 c6) Q := vc_wp [6] 200 _ _ _ _ _ _ (show wp 248 6 [vr 226, vi a, vi b, vr 32, vi 0, vi 1, vu, vu, vu] [] (D, SS L 1 c2 c3 c4 c5 c6) Q from H)
theorem r248_6s32 {L c2 c3 c4 c5 c6 : Nat} {D : Dt} {Q : Out → Wd → Prop} {a b nu k : Int} (H : ((k < 214 → (wp 248 19 [vr 226, vi a, vi b, vr 32, vi nu, vi k, vi k, vu, vu] [] (D, SS L 1 c2 c3 c4 c5 c6) Q)) ∧ (¬ (k < 214) → (Q (.inl [vi (-1)]) (D, SS L 1 c2 c3 c4 c5 c6))))) : wp 248 6 [vr 226, vi a, vi b, vr 32, vi nu, vi k, vu, vu, vu] [] (D, SS L 1 c2 c3 c4 c5 c6) Q := vc_wp [] 200 _ _ _ _ _ _ (show wp 248 12 [vr 226, vi a, vi b, vr 32, vi nu, vi k, vu, vu, vu] [vi 214, vi k] (D, SS L 1 c2 c3 c4 c5 c6) Q from vc_wp [19] 200 _ _ _ _ _ _ (show ((k < 214 → (wp 248 19 [vr 226, vi a, vi b, vr 32, vi nu, vi k, vi k, vu, vu] [] (D, SS L 1 c2 c3 c4 c5 c6) Q)) ∧ (¬ (k < 214) → (Q (.inl [vi (-1)]) (D, SS L 1 c2 c3 c4 c5 c6)))) from ⟨fun h1 => (H.1 h1), fun h2 => (H.2 h2)⟩))
theorem r248_19s32 {L c2 c3 c4 c5 c6 : Nat} {D : Dt} {Q : Out → Wd → Prop} {a b nu k e : Int} (H : (0 ≤ e ∧ e < 214) ∧ (((sbt 32).getD e.toNat 0 = 32 → (((-2147483648) ≤ e - k ∧ e - k ≤ 2147483647) ∧ (((-2147483648) ≤ b - a ∧ b - a ≤ 2147483647) ∧ ((e - k = b - a → (wp 248 57 [vr 226, vi a, vi b, vr 32, vi nu, vi k, vi e, vi 1, vi 0] [] (D, SS L 1 c2 c3 c4 c5 c6) Q)) ∧ (¬ (e - k = b - a) → (wp 248 57 [vr 226, vi a, vi b, vr 32, vi nu, vi k, vi e, vi 0, vi 0] [] (D, SS L 1 c2 c3 c4 c5 c6) Q)))))) ∧ (¬ ((sbt 32).getD e.toNat 0 = 32) → (((-2147483648) ≤ e + 1 ∧ e + 1 ≤ 2147483647) ∧ (wp 248 19 [vr 226, vi a, vi b, vr 32, vi nu, vi k, vi (e + 1), vu, vu] [] (D, SS L 1 c2 c3 c4 c5 c6) Q))))) : wp 248 19 [vr 226, vi a, vi b, vr 32, vi nu, vi k, vi e, vu, vu] [] (D, SS L 1 c2 c3 c4 c5 c6) Q := vc_wp [] 200 _ _ _ _ _ _ (show (0 ≤ e ∧ e < 214) ∧ (wp 248 25 [vr 226, vi a, vi b, vr 32, vi nu, vi k, vi e, vu, vu] [vi ((sbt 32).getD e.toNat 0)] (D, SS L 1 c2 c3 c4 c5 c6) Q) from ⟨H.1, vc_wp [33, 41] 200 _ _ _ _ _ _ (show (((sbt 32).getD e.toNat 0 = 32 → (wp 248 41 [vr 226, vi a, vi b, vr 32, vi nu, vi k, vi e, vu, vu] [vi (w32 (e - k))] (D, SS L 1 c2 c3 c4 c5 c6) Q)) ∧ (¬ ((sbt 32).getD e.toNat 0 = 32) → (wp 248 33 [vr 226, vi a, vi b, vr 32, vi nu, vi k, vi (w32 (e + 1)), vu, vu] [] (D, SS L 1 c2 c3 c4 c5 c6) Q))) from ⟨fun h6 => w32_i (fun z4 : Int => wp 248 41 [vr 226, vi a, vi b, vr 32, vi nu, vi k, vi e, vu, vu] [vi z4] (D, SS L 1 c2 c3 c4 c5 c6) Q) ((H.2.1 h6)).1 (vc_wp [44] 200 _ _ _ _ _ _ (show wp 248 44 [vr 226, vi a, vi b, vr 32, vi nu, vi k, vi e, vu, vu] [vi (w32 (b - a)), vi (e - k)] (D, SS L 1 c2 c3 c4 c5 c6) Q from w32_i (fun z3 : Int => wp 248 44 [vr 226, vi a, vi b, vr 32, vi nu, vi k, vi e, vu, vu] [vi z3, vi (e - k)] (D, SS L 1 c2 c3 c4 c5 c6) Q) (((H.2.1 h6)).2).1 (vc_wp [57] 200 _ _ _ _ _ _ (show ((e - k = b - a → (wp 248 57 [vr 226, vi a, vi b, vr 32, vi nu, vi k, vi e, vi 1, vi 0] [] (D, SS L 1 c2 c3 c4 c5 c6) Q)) ∧ (¬ (e - k = b - a) → (wp 248 57 [vr 226, vi a, vi b, vr 32, vi nu, vi k, vi e, vi 0, vi 0] [] (D, SS L 1 c2 c3 c4 c5 c6) Q))) from ⟨fun h1 => ((((H.2.1 h6)).2).2.1 h1), fun h2 => ((((H.2.1 h6)).2).2.2 h2)⟩)))), fun h7 => w32_i (fun z5 : Int => wp 248 33 [vr 226, vi a, vi b, vr 32, vi nu, vi k, vi z5, vu, vu] [] (D, SS L 1 c2 c3 c4 c5 c6) Q) ((H.2.2 h7)).1 (vc_wp [19] 200 _ _ _ _ _ _ (show wp 248 19 [vr 226, vi a, vi b, vr 32, vi nu, vi k, vi (e + 1), vu, vu] [] (D, SS L 1 c2 c3 c4 c5 c6) Q from ((H.2.2 h7)).2))⟩)⟩)
theorem r248_57s32 {L c2 c3 c4 c5 c6 : Nat} {D : Dt} {Q : Out → Wd → Prop} {a b nu k e sm j : Int} (H : ((sm = 0 → ((sm = 0 → (((-2147483648) ≤ nu + 1 ∧ nu + 1 ≤ 2147483647) ∧ (((-2147483648) ≤ e + 1 ∧ e + 1 ≤ 2147483647) ∧ (wp 248 6 [vr 226, vi a, vi b, vr 32, vi (nu + 1), vi (e + 1), vu, vu, vu] [] (D, SS L 1 c2 c3 c4 c5 c6) Q)))) ∧ (¬ (sm = 0) → (Q (.inl [vi nu]) (D, SS L 1 c2 c3 c4 c5 c6))))) ∧ (¬ (sm = 0) → (((-2147483648) ≤ b - a ∧ b - a ≤ 2147483647) ∧ ((j < b - a → (((-2147483648) ≤ a + j ∧ a + j ≤ 2147483647) ∧ ((0 ≤ a + j ∧ a + j < 16000) ∧ (((-2147483648) ≤ k + j ∧ k + j ≤ 2147483647) ∧ ((0 ≤ k + j ∧ k + j < 214) ∧ ((D 320 (a + j) = (sbt 32).getD (k + j).toNat 0 → (((-2147483648) ≤ j + 1 ∧ j + 1 ≤ 2147483647) ∧ (wp 248 57 [vr 226, vi a, vi b, vr 32, vi nu, vi k, vi e, vi 1, vi (j + 1)] [] (D, SS L 1 c2 c3 c4 c5 c6) Q))) ∧ (¬ (D 320 (a + j) = (sbt 32).getD (k + j).toNat 0) → (((-2147483648) ≤ j + 1 ∧ j + 1 ≤ 2147483647) ∧ (wp 248 57 [vr 226, vi a, vi b, vr 32, vi nu, vi k, vi e, vi 0, vi (j + 1)] [] (D, SS L 1 c2 c3 c4 c5 c6) Q))))))))) ∧ (¬ (j < b - a) → ((sm = 0 → (((-2147483648) ≤ nu + 1 ∧ nu + 1 ≤ 2147483647) ∧ (((-2147483648) ≤ e + 1 ∧ e + 1 ≤ 2147483647) ∧ (wp 248 6 [vr 226, vi a, vi b, vr 32, vi (nu + 1), vi (e + 1), vu, vu, vu] [] (D, SS L 1 c2 c3 c4 c5 c6) Q)))) ∧ (¬ (sm = 0) → (Q (.inl [vi nu]) (D, SS L 1 c2 c3 c4 c5 c6)))))))))) : wp 248 57 [vr 226, vi a, vi b, vr 32, vi nu, vi k, vi e, vi sm, vi j] [] (D, SS L 1 c2 c3 c4 c5 c6) Q := vc_wp [67, 115] 200 _ _ _ _ _ _ (show ((sm = 0 → ((sm = 0 → (wp 248 115 [vr 226, vi a, vi b, vr 32, vi (w32 (nu + 1)), vi k, vi e, vi sm, vi j] [] (D, SS L 1 c2 c3 c4 c5 c6) Q)) ∧ (¬ (sm = 0) → (Q (.inl [vi nu]) (D, SS L 1 c2 c3 c4 c5 c6))))) ∧ (¬ (sm = 0) → (wp 248 67 [vr 226, vi a, vi b, vr 32, vi nu, vi k, vi e, vi sm, vi j] [vi (w32 (b - a)), vi j] (D, SS L 1 c2 c3 c4 c5 c6) Q))) from ⟨fun h18 => ⟨fun h3 => w32_i (fun z2 : Int => wp 248 115 [vr 226, vi a, vi b, vr 32, vi z2, vi k, vi e, vi sm, vi j] [] (D, SS L 1 c2 c3 c4 c5 c6) Q) (((H.1 h18).1 h3)).1 (vc_wp [119] 200 _ _ _ _ _ _ (show wp 248 119 [vr 226, vi a, vi b, vr 32, vi (nu + 1), vi k, vi e, vi sm, vi j] [vi (w32 (e + 1))] (D, SS L 1 c2 c3 c4 c5 c6) Q from w32_i (fun z1 : Int => wp 248 119 [vr 226, vi a, vi b, vr 32, vi (nu + 1), vi k, vi e, vi sm, vi j] [vi z1] (D, SS L 1 c2 c3 c4 c5 c6) Q) ((((H.1 h18).1 h3)).2).1 (vc_wp [6] 200 _ _ _ _ _ _ (show wp 248 6 [vr 226, vi a, vi b, vr 32, vi (nu + 1), vi (e + 1), vi e, vi sm, vi j] [] (D, SS L 1 c2 c3 c4 c5 c6) Q from wp_d (Lle.k rfl (Lle.k rfl (Lle.k rfl (Lle.k rfl (Lle.k rfl (Lle.k rfl (Lle.v rfl (Lle.v rfl (Lle.v rfl (Lle.nil)))))))))) (((((H.1 h18).1 h3)).2).2))))), fun h4 => ((H.1 h18).2 h4)⟩, fun h19 => w32_i (fun z17 : Int => wp 248 67 [vr 226, vi a, vi b, vr 32, vi nu, vi k, vi e, vi sm, vi j] [vi z17, vi j] (D, SS L 1 c2 c3 c4 c5 c6) Q) ((H.2 h19)).1 (vc_wp [74, 115] 200 _ _ _ _ _ _ (show ((j < b - a → (wp 248 74 [vr 226, vi a, vi b, vr 32, vi nu, vi k, vi e, vi sm, vi j] [vr 320] (D, SS L 1 c2 c3 c4 c5 c6) Q)) ∧ (¬ (j < b - a) → ((sm = 0 → (wp 248 115 [vr 226, vi a, vi b, vr 32, vi (w32 (nu + 1)), vi k, vi e, vi sm, vi j] [] (D, SS L 1 c2 c3 c4 c5 c6) Q)) ∧ (¬ (sm = 0) → (Q (.inl [vi nu]) (D, SS L 1 c2 c3 c4 c5 c6)))))) from ⟨fun h15 => vc_wp [78] 200 _ _ _ _ _ _ (show wp 248 78 [vr 226, vi a, vi b, vr 32, vi nu, vi k, vi e, vi sm, vi j] [vi (w32 (a + j)), vr 320] (D, SS L 1 c2 c3 c4 c5 c6) Q from w32_i (fun z10 : Int => wp 248 78 [vr 226, vi a, vi b, vr 32, vi nu, vi k, vi e, vi sm, vi j] [vi z10, vr 320] (D, SS L 1 c2 c3 c4 c5 c6) Q) ((((H.2 h19)).2.1 h15)).1 (vc_wp [85] 200 _ _ _ _ _ _ (show (0 ≤ a + j ∧ a + j < 16000) ∧ (wp 248 85 [vr 226, vi a, vi b, vr 32, vi nu, vi k, vi e, vi sm, vi j] [vi (w32 (k + j)), vr 32, vi (D 320 (a + j))] (D, SS L 1 c2 c3 c4 c5 c6) Q) from ⟨((((H.2 h19)).2.1 h15)).2.1, w32_i (fun z9 : Int => wp 248 85 [vr 226, vi a, vi b, vr 32, vi nu, vi k, vi e, vi sm, vi j] [vi z9, vr 32, vi (D 320 (a + j))] (D, SS L 1 c2 c3 c4 c5 c6) Q) (((((H.2 h19)).2.1 h15)).2.2).1 (vc_wp [] 200 _ _ _ _ _ _ (show (0 ≤ k + j ∧ k + j < 214) ∧ (wp 248 88 [vr 226, vi a, vi b, vr 32, vi nu, vi k, vi e, vi sm, vi j] [vi ((sbt 32).getD (k + j).toNat 0), vi (D 320 (a + j))] (D, SS L 1 c2 c3 c4 c5 c6) Q) from ⟨(((((H.2 h19)).2.1 h15)).2.2).2.1, vc_wp [101] 200 _ _ _ _ _ _ (show ((D 320 (a + j) = (sbt 32).getD (k + j).toNat 0 → (wp 248 101 [vr 226, vi a, vi b, vr 32, vi nu, vi k, vi e, vi 1, vi (w32 (j + 1))] [] (D, SS L 1 c2 c3 c4 c5 c6) Q)) ∧ (¬ (D 320 (a + j) = (sbt 32).getD (k + j).toNat 0) → (wp 248 101 [vr 226, vi a, vi b, vr 32, vi nu, vi k, vi e, vi 0, vi (w32 (j + 1))] [] (D, SS L 1 c2 c3 c4 c5 c6) Q))) from ⟨fun h7 => w32_i (fun z5 : Int => wp 248 101 [vr 226, vi a, vi b, vr 32, vi nu, vi k, vi e, vi 1, vi z5] [] (D, SS L 1 c2 c3 c4 c5 c6) Q) (((((((H.2 h19)).2.1 h15)).2.2).2.2.1 h7)).1 (vc_wp [57] 200 _ _ _ _ _ _ (show wp 248 57 [vr 226, vi a, vi b, vr 32, vi nu, vi k, vi e, vi 1, vi (j + 1)] [] (D, SS L 1 c2 c3 c4 c5 c6) Q from (((((((H.2 h19)).2.1 h15)).2.2).2.2.1 h7)).2)), fun h8 => w32_i (fun z6 : Int => wp 248 101 [vr 226, vi a, vi b, vr 32, vi nu, vi k, vi e, vi 0, vi z6] [] (D, SS L 1 c2 c3 c4 c5 c6) Q) (((((((H.2 h19)).2.1 h15)).2.2).2.2.2 h8)).1 (vc_wp [57] 200 _ _ _ _ _ _ (show wp 248 57 [vr 226, vi a, vi b, vr 32, vi nu, vi k, vi e, vi 0, vi (j + 1)] [] (D, SS L 1 c2 c3 c4 c5 c6) Q from (((((((H.2 h19)).2.1 h15)).2.2).2.2.2 h8)).2))⟩)⟩))⟩))), fun h16 => ⟨fun h13 => w32_i (fun z12 : Int => wp 248 115 [vr 226, vi a, vi b, vr 32, vi z12, vi k, vi e, vi sm, vi j] [] (D, SS L 1 c2 c3 c4 c5 c6) Q) (((((H.2 h19)).2.2 h16).1 h13)).1 (vc_wp [119] 200 _ _ _ _ _ _ (show wp 248 119 [vr 226, vi a, vi b, vr 32, vi (nu + 1), vi k, vi e, vi sm, vi j] [vi (w32 (e + 1))] (D, SS L 1 c2 c3 c4 c5 c6) Q from w32_i (fun z11 : Int => wp 248 119 [vr 226, vi a, vi b, vr 32, vi (nu + 1), vi k, vi e, vi sm, vi j] [vi z11] (D, SS L 1 c2 c3 c4 c5 c6) Q) ((((((H.2 h19)).2.2 h16).1 h13)).2).1 (vc_wp [6] 200 _ _ _ _ _ _ (show wp 248 6 [vr 226, vi a, vi b, vr 32, vi (nu + 1), vi (e + 1), vi e, vi sm, vi j] [] (D, SS L 1 c2 c3 c4 c5 c6) Q from wp_d (Lle.k rfl (Lle.k rfl (Lle.k rfl (Lle.k rfl (Lle.k rfl (Lle.k rfl (Lle.v rfl (Lle.v rfl (Lle.v rfl (Lle.nil)))))))))) (((((((H.2 h19)).2.2 h16).1 h13)).2).2))))), fun h14 => ((((H.2 h19)).2.2 h16).2 h14)⟩⟩))⟩)
theorem n248s32 : (sbt 32).length = 214 := by decide +kernel
theorem l248s32 {L c2 c3 c4 c5 c6 : Nat} {D : Dt} {Q : Out → Wd → Prop} {a b : Int} (hab : 0 ≤ a ∧ a ≤ 16000 ∧ 0 ≤ b ∧ b ≤ 16000) : ∀ (ws : List (List Int)) (k : Nat) (nu : Int), (sbt 32).drop k = flat ws → noB ws → k ≤ 214 → 0 ≤ nu → nu ≤ k → Q (.inl [vi (widx (D 320) a b ws nu)]) (D, SS L 1 c2 c3 c4 c5 c6) → wp 248 6 [vr 226, vi a, vi b, vr 32, vi nu, vi k, vu, vu, vu] [] (D, SS L 1 c2 c3 c4 c5 c6) Q := by
  intro ws
  induction ws with
  | nil =>
    intro k nu hd _ hk h0 h1 H
    have hl := drop_len hd (by rw [n248s32]; exact hk)
    rw [n248s32] at hl
    have hl' : (214 : Nat) = k + 0 := hl
    exact r248_6s32 ⟨fun h => by omega, fun _ => H⟩
  | cons w ws ih =>
    intro k nu hd hb hk h0 h1 H
    have hd' : (sbt 32).drop k = w ++ 32 :: flat ws := hd
    have hl := drop_len hd' (by rw [n248s32]; exact hk)
    rw [n248s32, List.length_append, List.length_cons] at hl
    have hw := hb w List.mem_cons_self
    have hnext : ¬ strR (D 320) a b w 0 w.length → wp 248 6 [vr 226, vi a, vi b, vr 32, vi (nu + 1), vi ((k : Int) + w.length + 1), vu, vu, vu] [] (D, SS L 1 c2 c3 c4 c5 c6) Q := by
      intro hn
      have h := ih (k + w.length + 1) (nu + 1) (drop_next hd') (fun x hx => hb x (List.mem_cons_of_mem _ hx)) (by omega) (by omega) (by omega) (q_i H (cit_f hn))
      rw [show ((k + w.length + 1 : Nat) : Int) = (k : Int) + w.length + 1 by omega] at h
      exact h
    have hyes : strR (D 320) a b w 0 w.length → Q (.inl [vi nu]) (D, SS L 1 c2 c3 c4 c5 c6) := fun hy => q_i H (cit_t hy)
    have hw57 : ∀ j : Int, 0 ≤ j → j < w.length → (sbt 32).getD ((k : Int) + j).toNat 0 = w.getD j.toNat 0 := by
      intro j h2 h3
      rw [show ((k : Int) + j).toNat = k + j.toNat by omega, drop_get hd', get_w (by omega)]
    have j0 : ∀ j : Int, ¬ strR (D 320) a b w 0 w.length → wp 248 57 [vr 226, vi a, vi b, vr 32, vi nu, vi k, vi ((k : Int) + w.length), vi 0, vi j] [] (D, SS L 1 c2 c3 c4 c5 c6) Q := by
      intro j hn
      exact r248_57s32 ⟨fun _ => ⟨fun _ => ⟨by omega, by omega, hnext hn⟩, fun h => absurd rfl h⟩, fun h => absurd rfl h⟩
    have j1 : b - a = w.length → ∀ (M : Nat) (j : Int), (b - a - j).toNat = M → 0 ≤ j → j ≤ b - a → allP (fun j => D 320 (a + j) = w.getD j.toNat 0) 0 j → wp 248 57 [vr 226, vi a, vi b, vr 32, vi nu, vi k, vi ((k : Int) + w.length), vi 1, vi j] [] (D, SS L 1 c2 c3 c4 c5 c6) Q := by
      intro hba M
      induction M with
      | zero =>
        intro j e1 e2 e3 ha
        refine r248_57s32 ⟨fun h => absurd h (by decide), fun _ => ⟨by omega, fun h => by omega, fun h => ⟨fun h => absurd h (by decide), fun _ => hyes (strR_j hba ?_)⟩⟩⟩
        rw [← hba, show b - a = j by omega]
        exact ha
      | succ M ihM =>
        intro j e1 e2 e3 ha
        refine r248_57s32 ⟨fun h => absurd h (by decide), fun _ => ⟨by omega, fun h => ⟨by omega, by omega, by omega, by omega, fun hp => ⟨by omega, ?_⟩, fun hp => ⟨by omega, ?_⟩⟩, fun h => by omega⟩⟩
        · rw [hw57 j e2 (by omega)] at hp
          refine ihM (j + 1) (by omega) (by omega) (by omega) fun i h2 h3 => ?_
          by_cases ei : i = j
          · rw [ei]; exact hp
          · exact ha i h2 (by omega)
        · rw [hw57 j e2 (by omega)] at hp
          exact j0 _ fun hs => hp ((strR_i hs).2 j e2 (by omega))
    have j19 : ∀ (M i : Nat), w.length - i = M → i ≤ w.length → wp 248 19 [vr 226, vi a, vi b, vr 32, vi nu, vi k, vi ((k : Int) + i), vu, vu] [] (D, SS L 1 c2 c3 c4 c5 c6) Q := by
      intro M
      induction M with
      | zero =>
        intro i e1 e2
        have e3 : i = w.length := by omega
        subst e3
        have hc : (sbt 32).getD ((k : Int) + w.length).toNat 0 = 32 := by
          rw [show ((k : Int) + w.length).toNat = k + w.length by omega, drop_get hd', get_b]
        refine r248_19s32 ⟨by omega, fun _ => ⟨by omega, by omega, fun h => ?_, fun h => ?_⟩, fun h => absurd hc h⟩
        · exact j1 (by omega) _ 0 rfl (by omega) (by omega) (fun i h2 h3 => by omega)
        · exact j0 0 fun hs => h (by have := (strR_i hs).1; omega)
      | succ M ihM =>
        intro i e1 e2
        have hc : ¬ (sbt 32).getD ((k : Int) + i).toNat 0 = 32 := by
          rw [show ((k : Int) + i).toNat = k + i by omega, drop_get hd', get_w (by omega)]
          exact hw _ (get_mem (by omega))
        refine r248_19s32 ⟨by omega, fun h => absurd h hc, fun _ => ⟨by omega, ?_⟩⟩
        have := ihM (i + 1) (by omega) (by omega)
        rw [show ((k : Int) + ((i + 1 : Nat) : Int)) = k + i + 1 by omega] at this
        exact this
    refine r248_6s32 ⟨fun _ => ?_, fun h => by omega⟩
    have := j19 w.length 0 (by omega) (by omega)
    rw [show ((k : Int) + ((0 : Nat) : Int)) = k by omega] at this
    exact this
theorem s248s32 {L c2 c3 c4 c5 c6 : Nat} {D : Dt} {Q : Out → Wd → Prop} {a b : Int} (H : (0 ≤ a ∧ a ≤ 16000 ∧ 0 ≤ b ∧ b ≤ 16000) ∧ Q (.inl [vi (widx (D 320) a b opW 0)]) (D, SS L 1 c2 c3 c4 c5 c6)) : wp 248 0 [vr 226, vi a, vi b, vr 32, vu, vu, vu, vu, vu] [] (D, SS L 1 c2 c3 c4 c5 c6) Q := r248_0s32 (l248s32 H.1 opW 1 0 (by rw [opW_m]; rfl) opW_n (by omega) (by omega) (by omega) H.2)
theorem r248_0s36 {L c2 c3 c4 c5 c6 : Nat} {D : Dt} {Q : Out → Wd → Prop} {a b : Int} (H : wp 248 6 [vr 226, vi a, vi b, vr 36, vi 0, vi 1, vu, vu, vu] [] (D, SS L 1 c2 c3 c4 c5 c6) Q) : wp 248 0 [vr 226, vi a, vi b, vr 36, vu, vu, vu, vu, vu] [] (D, SS L 1 c2 c3 c4 c5 c6) Q := vc_wp [6] 200 _ _ _ _ _ _ (show wp 248 6 [vr 226, vi a, vi b, vr 36, vi 0, vi 1, vu, vu, vu] [] (D, SS L 1 c2 c3 c4 c5 c6) Q from H)
theorem r248_6s36 {L c2 c3 c4 c5 c6 : Nat} {D : Dt} {Q : Out → Wd → Prop} {a b nu k : Int} (H : ((k < 78 → (wp 248 19 [vr 226, vi a, vi b, vr 36, vi nu, vi k, vi k, vu, vu] [] (D, SS L 1 c2 c3 c4 c5 c6) Q)) ∧ (¬ (k < 78) → (Q (.inl [vi (-1)]) (D, SS L 1 c2 c3 c4 c5 c6))))) : wp 248 6 [vr 226, vi a, vi b, vr 36, vi nu, vi k, vu, vu, vu] [] (D, SS L 1 c2 c3 c4 c5 c6) Q := vc_wp [] 200 _ _ _ _ _ _ (show wp 248 12 [vr 226, vi a, vi b, vr 36, vi nu, vi k, vu, vu, vu] [vi 78, vi k] (D, SS L 1 c2 c3 c4 c5 c6) Q from vc_wp [19] 200 _ _ _ _ _ _ (show ((k < 78 → (wp 248 19 [vr 226, vi a, vi b, vr 36, vi nu, vi k, vi k, vu, vu] [] (D, SS L 1 c2 c3 c4 c5 c6) Q)) ∧ (¬ (k < 78) → (Q (.inl [vi (-1)]) (D, SS L 1 c2 c3 c4 c5 c6)))) from ⟨fun h1 => (H.1 h1), fun h2 => (H.2 h2)⟩))
theorem r248_19s36 {L c2 c3 c4 c5 c6 : Nat} {D : Dt} {Q : Out → Wd → Prop} {a b nu k e : Int} (H : (0 ≤ e ∧ e < 78) ∧ (((sbt 36).getD e.toNat 0 = 32 → (((-2147483648) ≤ e - k ∧ e - k ≤ 2147483647) ∧ (((-2147483648) ≤ b - a ∧ b - a ≤ 2147483647) ∧ ((e - k = b - a → (wp 248 57 [vr 226, vi a, vi b, vr 36, vi nu, vi k, vi e, vi 1, vi 0] [] (D, SS L 1 c2 c3 c4 c5 c6) Q)) ∧ (¬ (e - k = b - a) → (wp 248 57 [vr 226, vi a, vi b, vr 36, vi nu, vi k, vi e, vi 0, vi 0] [] (D, SS L 1 c2 c3 c4 c5 c6) Q)))))) ∧ (¬ ((sbt 36).getD e.toNat 0 = 32) → (((-2147483648) ≤ e + 1 ∧ e + 1 ≤ 2147483647) ∧ (wp 248 19 [vr 226, vi a, vi b, vr 36, vi nu, vi k, vi (e + 1), vu, vu] [] (D, SS L 1 c2 c3 c4 c5 c6) Q))))) : wp 248 19 [vr 226, vi a, vi b, vr 36, vi nu, vi k, vi e, vu, vu] [] (D, SS L 1 c2 c3 c4 c5 c6) Q := vc_wp [] 200 _ _ _ _ _ _ (show (0 ≤ e ∧ e < 78) ∧ (wp 248 25 [vr 226, vi a, vi b, vr 36, vi nu, vi k, vi e, vu, vu] [vi ((sbt 36).getD e.toNat 0)] (D, SS L 1 c2 c3 c4 c5 c6) Q) from ⟨H.1, vc_wp [33, 41] 200 _ _ _ _ _ _ (show (((sbt 36).getD e.toNat 0 = 32 → (wp 248 41 [vr 226, vi a, vi b, vr 36, vi nu, vi k, vi e, vu, vu] [vi (w32 (e - k))] (D, SS L 1 c2 c3 c4 c5 c6) Q)) ∧ (¬ ((sbt 36).getD e.toNat 0 = 32) → (wp 248 33 [vr 226, vi a, vi b, vr 36, vi nu, vi k, vi (w32 (e + 1)), vu, vu] [] (D, SS L 1 c2 c3 c4 c5 c6) Q))) from ⟨fun h6 => w32_i (fun z4 : Int => wp 248 41 [vr 226, vi a, vi b, vr 36, vi nu, vi k, vi e, vu, vu] [vi z4] (D, SS L 1 c2 c3 c4 c5 c6) Q) ((H.2.1 h6)).1 (vc_wp [44] 200 _ _ _ _ _ _ (show wp 248 44 [vr 226, vi a, vi b, vr 36, vi nu, vi k, vi e, vu, vu] [vi (w32 (b - a)), vi (e - k)] (D, SS L 1 c2 c3 c4 c5 c6) Q from w32_i (fun z3 : Int => wp 248 44 [vr 226, vi a, vi b, vr 36, vi nu, vi k, vi e, vu, vu] [vi z3, vi (e - k)] (D, SS L 1 c2 c3 c4 c5 c6) Q) (((H.2.1 h6)).2).1 (vc_wp [57] 200 _ _ _ _ _ _ (show ((e - k = b - a → (wp 248 57 [vr 226, vi a, vi b, vr 36, vi nu, vi k, vi e, vi 1, vi 0] [] (D, SS L 1 c2 c3 c4 c5 c6) Q)) ∧ (¬ (e - k = b - a) → (wp 248 57 [vr 226, vi a, vi b, vr 36, vi nu, vi k, vi e, vi 0, vi 0] [] (D, SS L 1 c2 c3 c4 c5 c6) Q))) from ⟨fun h1 => ((((H.2.1 h6)).2).2.1 h1), fun h2 => ((((H.2.1 h6)).2).2.2 h2)⟩)))), fun h7 => w32_i (fun z5 : Int => wp 248 33 [vr 226, vi a, vi b, vr 36, vi nu, vi k, vi z5, vu, vu] [] (D, SS L 1 c2 c3 c4 c5 c6) Q) ((H.2.2 h7)).1 (vc_wp [19] 200 _ _ _ _ _ _ (show wp 248 19 [vr 226, vi a, vi b, vr 36, vi nu, vi k, vi (e + 1), vu, vu] [] (D, SS L 1 c2 c3 c4 c5 c6) Q from ((H.2.2 h7)).2))⟩)⟩)
theorem r248_57s36 {L c2 c3 c4 c5 c6 : Nat} {D : Dt} {Q : Out → Wd → Prop} {a b nu k e sm j : Int} (H : ((sm = 0 → ((sm = 0 → (((-2147483648) ≤ nu + 1 ∧ nu + 1 ≤ 2147483647) ∧ (((-2147483648) ≤ e + 1 ∧ e + 1 ≤ 2147483647) ∧ (wp 248 6 [vr 226, vi a, vi b, vr 36, vi (nu + 1), vi (e + 1), vu, vu, vu] [] (D, SS L 1 c2 c3 c4 c5 c6) Q)))) ∧ (¬ (sm = 0) → (Q (.inl [vi nu]) (D, SS L 1 c2 c3 c4 c5 c6))))) ∧ (¬ (sm = 0) → (((-2147483648) ≤ b - a ∧ b - a ≤ 2147483647) ∧ ((j < b - a → (((-2147483648) ≤ a + j ∧ a + j ≤ 2147483647) ∧ ((0 ≤ a + j ∧ a + j < 16000) ∧ (((-2147483648) ≤ k + j ∧ k + j ≤ 2147483647) ∧ ((0 ≤ k + j ∧ k + j < 78) ∧ ((D 320 (a + j) = (sbt 36).getD (k + j).toNat 0 → (((-2147483648) ≤ j + 1 ∧ j + 1 ≤ 2147483647) ∧ (wp 248 57 [vr 226, vi a, vi b, vr 36, vi nu, vi k, vi e, vi 1, vi (j + 1)] [] (D, SS L 1 c2 c3 c4 c5 c6) Q))) ∧ (¬ (D 320 (a + j) = (sbt 36).getD (k + j).toNat 0) → (((-2147483648) ≤ j + 1 ∧ j + 1 ≤ 2147483647) ∧ (wp 248 57 [vr 226, vi a, vi b, vr 36, vi nu, vi k, vi e, vi 0, vi (j + 1)] [] (D, SS L 1 c2 c3 c4 c5 c6) Q))))))))) ∧ (¬ (j < b - a) → ((sm = 0 → (((-2147483648) ≤ nu + 1 ∧ nu + 1 ≤ 2147483647) ∧ (((-2147483648) ≤ e + 1 ∧ e + 1 ≤ 2147483647) ∧ (wp 248 6 [vr 226, vi a, vi b, vr 36, vi (nu + 1), vi (e + 1), vu, vu, vu] [] (D, SS L 1 c2 c3 c4 c5 c6) Q)))) ∧ (¬ (sm = 0) → (Q (.inl [vi nu]) (D, SS L 1 c2 c3 c4 c5 c6)))))))))) : wp 248 57 [vr 226, vi a, vi b, vr 36, vi nu, vi k, vi e, vi sm, vi j] [] (D, SS L 1 c2 c3 c4 c5 c6) Q := vc_wp [67, 115] 200 _ _ _ _ _ _ (show ((sm = 0 → ((sm = 0 → (wp 248 115 [vr 226, vi a, vi b, vr 36, vi (w32 (nu + 1)), vi k, vi e, vi sm, vi j] [] (D, SS L 1 c2 c3 c4 c5 c6) Q)) ∧ (¬ (sm = 0) → (Q (.inl [vi nu]) (D, SS L 1 c2 c3 c4 c5 c6))))) ∧ (¬ (sm = 0) → (wp 248 67 [vr 226, vi a, vi b, vr 36, vi nu, vi k, vi e, vi sm, vi j] [vi (w32 (b - a)), vi j] (D, SS L 1 c2 c3 c4 c5 c6) Q))) from ⟨fun h18 => ⟨fun h3 => w32_i (fun z2 : Int => wp 248 115 [vr 226, vi a, vi b, vr 36, vi z2, vi k, vi e, vi sm, vi j] [] (D, SS L 1 c2 c3 c4 c5 c6) Q) (((H.1 h18).1 h3)).1 (vc_wp [119] 200 _ _ _ _ _ _ (show wp 248 119 [vr 226, vi a, vi b, vr 36, vi (nu + 1), vi k, vi e, vi sm, vi j] [vi (w32 (e + 1))] (D, SS L 1 c2 c3 c4 c5 c6) Q from w32_i (fun z1 : Int => wp 248 119 [vr 226, vi a, vi b, vr 36, vi (nu + 1), vi k, vi e, vi sm, vi j] [vi z1] (D, SS L 1 c2 c3 c4 c5 c6) Q) ((((H.1 h18).1 h3)).2).1 (vc_wp [6] 200 _ _ _ _ _ _ (show wp 248 6 [vr 226, vi a, vi b, vr 36, vi (nu + 1), vi (e + 1), vi e, vi sm, vi j] [] (D, SS L 1 c2 c3 c4 c5 c6) Q from wp_d (Lle.k rfl (Lle.k rfl (Lle.k rfl (Lle.k rfl (Lle.k rfl (Lle.k rfl (Lle.v rfl (Lle.v rfl (Lle.v rfl (Lle.nil)))))))))) (((((H.1 h18).1 h3)).2).2))))), fun h4 => ((H.1 h18).2 h4)⟩, fun h19 => w32_i (fun z17 : Int => wp 248 67 [vr 226, vi a, vi b, vr 36, vi nu, vi k, vi e, vi sm, vi j] [vi z17, vi j] (D, SS L 1 c2 c3 c4 c5 c6) Q) ((H.2 h19)).1 (vc_wp [74, 115] 200 _ _ _ _ _ _ (show ((j < b - a → (wp 248 74 [vr 226, vi a, vi b, vr 36, vi nu, vi k, vi e, vi sm, vi j] [vr 320] (D, SS L 1 c2 c3 c4 c5 c6) Q)) ∧ (¬ (j < b - a) → ((sm = 0 → (wp 248 115 [vr 226, vi a, vi b, vr 36, vi (w32 (nu + 1)), vi k, vi e, vi sm, vi j] [] (D, SS L 1 c2 c3 c4 c5 c6) Q)) ∧ (¬ (sm = 0) → (Q (.inl [vi nu]) (D, SS L 1 c2 c3 c4 c5 c6)))))) from ⟨fun h15 => vc_wp [78] 200 _ _ _ _ _ _ (show wp 248 78 [vr 226, vi a, vi b, vr 36, vi nu, vi k, vi e, vi sm, vi j] [vi (w32 (a + j)), vr 320] (D, SS L 1 c2 c3 c4 c5 c6) Q from w32_i (fun z10 : Int => wp 248 78 [vr 226, vi a, vi b, vr 36, vi nu, vi k, vi e, vi sm, vi j] [vi z10, vr 320] (D, SS L 1 c2 c3 c4 c5 c6) Q) ((((H.2 h19)).2.1 h15)).1 (vc_wp [85] 200 _ _ _ _ _ _ (show (0 ≤ a + j ∧ a + j < 16000) ∧ (wp 248 85 [vr 226, vi a, vi b, vr 36, vi nu, vi k, vi e, vi sm, vi j] [vi (w32 (k + j)), vr 36, vi (D 320 (a + j))] (D, SS L 1 c2 c3 c4 c5 c6) Q) from ⟨((((H.2 h19)).2.1 h15)).2.1, w32_i (fun z9 : Int => wp 248 85 [vr 226, vi a, vi b, vr 36, vi nu, vi k, vi e, vi sm, vi j] [vi z9, vr 36, vi (D 320 (a + j))] (D, SS L 1 c2 c3 c4 c5 c6) Q) (((((H.2 h19)).2.1 h15)).2.2).1 (vc_wp [] 200 _ _ _ _ _ _ (show (0 ≤ k + j ∧ k + j < 78) ∧ (wp 248 88 [vr 226, vi a, vi b, vr 36, vi nu, vi k, vi e, vi sm, vi j] [vi ((sbt 36).getD (k + j).toNat 0), vi (D 320 (a + j))] (D, SS L 1 c2 c3 c4 c5 c6) Q) from ⟨(((((H.2 h19)).2.1 h15)).2.2).2.1, vc_wp [101] 200 _ _ _ _ _ _ (show ((D 320 (a + j) = (sbt 36).getD (k + j).toNat 0 → (wp 248 101 [vr 226, vi a, vi b, vr 36, vi nu, vi k, vi e, vi 1, vi (w32 (j + 1))] [] (D, SS L 1 c2 c3 c4 c5 c6) Q)) ∧ (¬ (D 320 (a + j) = (sbt 36).getD (k + j).toNat 0) → (wp 248 101 [vr 226, vi a, vi b, vr 36, vi nu, vi k, vi e, vi 0, vi (w32 (j + 1))] [] (D, SS L 1 c2 c3 c4 c5 c6) Q))) from ⟨fun h7 => w32_i (fun z5 : Int => wp 248 101 [vr 226, vi a, vi b, vr 36, vi nu, vi k, vi e, vi 1, vi z5] [] (D, SS L 1 c2 c3 c4 c5 c6) Q) (((((((H.2 h19)).2.1 h15)).2.2).2.2.1 h7)).1 (vc_wp [57] 200 _ _ _ _ _ _ (show wp 248 57 [vr 226, vi a, vi b, vr 36, vi nu, vi k, vi e, vi 1, vi (j + 1)] [] (D, SS L 1 c2 c3 c4 c5 c6) Q from (((((((H.2 h19)).2.1 h15)).2.2).2.2.1 h7)).2)), fun h8 => w32_i (fun z6 : Int => wp 248 101 [vr 226, vi a, vi b, vr 36, vi nu, vi k, vi e, vi 0, vi z6] [] (D, SS L 1 c2 c3 c4 c5 c6) Q) (((((((H.2 h19)).2.1 h15)).2.2).2.2.2 h8)).1 (vc_wp [57] 200 _ _ _ _ _ _ (show wp 248 57 [vr 226, vi a, vi b, vr 36, vi nu, vi k, vi e, vi 0, vi (j + 1)] [] (D, SS L 1 c2 c3 c4 c5 c6) Q from (((((((H.2 h19)).2.1 h15)).2.2).2.2.2 h8)).2))⟩)⟩))⟩))), fun h16 => ⟨fun h13 => w32_i (fun z12 : Int => wp 248 115 [vr 226, vi a, vi b, vr 36, vi z12, vi k, vi e, vi sm, vi j] [] (D, SS L 1 c2 c3 c4 c5 c6) Q) (((((H.2 h19)).2.2 h16).1 h13)).1 (vc_wp [119] 200 _ _ _ _ _ _ (show wp 248 119 [vr 226, vi a, vi b, vr 36, vi (nu + 1), vi k, vi e, vi sm, vi j] [vi (w32 (e + 1))] (D, SS L 1 c2 c3 c4 c5 c6) Q from w32_i (fun z11 : Int => wp 248 119 [vr 226, vi a, vi b, vr 36, vi (nu + 1), vi k, vi e, vi sm, vi j] [vi z11] (D, SS L 1 c2 c3 c4 c5 c6) Q) ((((((H.2 h19)).2.2 h16).1 h13)).2).1 (vc_wp [6] 200 _ _ _ _ _ _ (show wp 248 6 [vr 226, vi a, vi b, vr 36, vi (nu + 1), vi (e + 1), vi e, vi sm, vi j] [] (D, SS L 1 c2 c3 c4 c5 c6) Q from wp_d (Lle.k rfl (Lle.k rfl (Lle.k rfl (Lle.k rfl (Lle.k rfl (Lle.k rfl (Lle.v rfl (Lle.v rfl (Lle.v rfl (Lle.nil)))))))))) (((((((H.2 h19)).2.2 h16).1 h13)).2).2))))), fun h14 => ((((H.2 h19)).2.2 h16).2 h14)⟩⟩))⟩)
theorem n248s36 : (sbt 36).length = 78 := by decide +kernel
theorem l248s36 {L c2 c3 c4 c5 c6 : Nat} {D : Dt} {Q : Out → Wd → Prop} {a b : Int} (hab : 0 ≤ a ∧ a ≤ 16000 ∧ 0 ≤ b ∧ b ≤ 16000) : ∀ (ws : List (List Int)) (k : Nat) (nu : Int), (sbt 36).drop k = flat ws → noB ws → k ≤ 78 → 0 ≤ nu → nu ≤ k → Q (.inl [vi (widx (D 320) a b ws nu)]) (D, SS L 1 c2 c3 c4 c5 c6) → wp 248 6 [vr 226, vi a, vi b, vr 36, vi nu, vi k, vu, vu, vu] [] (D, SS L 1 c2 c3 c4 c5 c6) Q := by
  intro ws
  induction ws with
  | nil =>
    intro k nu hd _ hk h0 h1 H
    have hl := drop_len hd (by rw [n248s36]; exact hk)
    rw [n248s36] at hl
    have hl' : (78 : Nat) = k + 0 := hl
    exact r248_6s36 ⟨fun h => by omega, fun _ => H⟩
  | cons w ws ih =>
    intro k nu hd hb hk h0 h1 H
    have hd' : (sbt 36).drop k = w ++ 32 :: flat ws := hd
    have hl := drop_len hd' (by rw [n248s36]; exact hk)
    rw [n248s36, List.length_append, List.length_cons] at hl
    have hw := hb w List.mem_cons_self
    have hnext : ¬ strR (D 320) a b w 0 w.length → wp 248 6 [vr 226, vi a, vi b, vr 36, vi (nu + 1), vi ((k : Int) + w.length + 1), vu, vu, vu] [] (D, SS L 1 c2 c3 c4 c5 c6) Q := by
      intro hn
      have h := ih (k + w.length + 1) (nu + 1) (drop_next hd') (fun x hx => hb x (List.mem_cons_of_mem _ hx)) (by omega) (by omega) (by omega) (q_i H (cit_f hn))
      rw [show ((k + w.length + 1 : Nat) : Int) = (k : Int) + w.length + 1 by omega] at h
      exact h
    have hyes : strR (D 320) a b w 0 w.length → Q (.inl [vi nu]) (D, SS L 1 c2 c3 c4 c5 c6) := fun hy => q_i H (cit_t hy)
    have hw57 : ∀ j : Int, 0 ≤ j → j < w.length → (sbt 36).getD ((k : Int) + j).toNat 0 = w.getD j.toNat 0 := by
      intro j h2 h3
      rw [show ((k : Int) + j).toNat = k + j.toNat by omega, drop_get hd', get_w (by omega)]
    have j0 : ∀ j : Int, ¬ strR (D 320) a b w 0 w.length → wp 248 57 [vr 226, vi a, vi b, vr 36, vi nu, vi k, vi ((k : Int) + w.length), vi 0, vi j] [] (D, SS L 1 c2 c3 c4 c5 c6) Q := by
      intro j hn
      exact r248_57s36 ⟨fun _ => ⟨fun _ => ⟨by omega, by omega, hnext hn⟩, fun h => absurd rfl h⟩, fun h => absurd rfl h⟩
    have j1 : b - a = w.length → ∀ (M : Nat) (j : Int), (b - a - j).toNat = M → 0 ≤ j → j ≤ b - a → allP (fun j => D 320 (a + j) = w.getD j.toNat 0) 0 j → wp 248 57 [vr 226, vi a, vi b, vr 36, vi nu, vi k, vi ((k : Int) + w.length), vi 1, vi j] [] (D, SS L 1 c2 c3 c4 c5 c6) Q := by
      intro hba M
      induction M with
      | zero =>
        intro j e1 e2 e3 ha
        refine r248_57s36 ⟨fun h => absurd h (by decide), fun _ => ⟨by omega, fun h => by omega, fun h => ⟨fun h => absurd h (by decide), fun _ => hyes (strR_j hba ?_)⟩⟩⟩
        rw [← hba, show b - a = j by omega]
        exact ha
      | succ M ihM =>
        intro j e1 e2 e3 ha
        refine r248_57s36 ⟨fun h => absurd h (by decide), fun _ => ⟨by omega, fun h => ⟨by omega, by omega, by omega, by omega, fun hp => ⟨by omega, ?_⟩, fun hp => ⟨by omega, ?_⟩⟩, fun h => by omega⟩⟩
        · rw [hw57 j e2 (by omega)] at hp
          refine ihM (j + 1) (by omega) (by omega) (by omega) fun i h2 h3 => ?_
          by_cases ei : i = j
          · rw [ei]; exact hp
          · exact ha i h2 (by omega)
        · rw [hw57 j e2 (by omega)] at hp
          exact j0 _ fun hs => hp ((strR_i hs).2 j e2 (by omega))
    have j19 : ∀ (M i : Nat), w.length - i = M → i ≤ w.length → wp 248 19 [vr 226, vi a, vi b, vr 36, vi nu, vi k, vi ((k : Int) + i), vu, vu] [] (D, SS L 1 c2 c3 c4 c5 c6) Q := by
      intro M
      induction M with
      | zero =>
        intro i e1 e2
        have e3 : i = w.length := by omega
        subst e3
        have hc : (sbt 36).getD ((k : Int) + w.length).toNat 0 = 32 := by
          rw [show ((k : Int) + w.length).toNat = k + w.length by omega, drop_get hd', get_b]
        refine r248_19s36 ⟨by omega, fun _ => ⟨by omega, by omega, fun h => ?_, fun h => ?_⟩, fun h => absurd hc h⟩
        · exact j1 (by omega) _ 0 rfl (by omega) (by omega) (fun i h2 h3 => by omega)
        · exact j0 0 fun hs => h (by have := (strR_i hs).1; omega)
      | succ M ihM =>
        intro i e1 e2
        have hc : ¬ (sbt 36).getD ((k : Int) + i).toNat 0 = 32 := by
          rw [show ((k : Int) + i).toNat = k + i by omega, drop_get hd', get_w (by omega)]
          exact hw _ (get_mem (by omega))
        refine r248_19s36 ⟨by omega, fun h => absurd h hc, fun _ => ⟨by omega, ?_⟩⟩
        have := ihM (i + 1) (by omega) (by omega)
        rw [show ((k : Int) + ((i + 1 : Nat) : Int)) = k + i + 1 by omega] at this
        exact this
    refine r248_6s36 ⟨fun _ => ?_, fun h => by omega⟩
    have := j19 w.length 0 (by omega) (by omega)
    rw [show ((k : Int) + ((0 : Nat) : Int)) = k by omega] at this
    exact this
theorem s248s36 {L c2 c3 c4 c5 c6 : Nat} {D : Dt} {Q : Out → Wd → Prop} {a b : Int} (H : (0 ≤ a ∧ a ≤ 16000 ∧ 0 ≤ b ∧ b ≤ 16000) ∧ Q (.inl [vi (widx (D 320) a b knW 0)]) (D, SS L 1 c2 c3 c4 c5 c6)) : wp 248 0 [vr 226, vi a, vi b, vr 36, vu, vu, vu, vu, vu] [] (D, SS L 1 c2 c3 c4 c5 c6) Q := r248_0s36 (l248s36 H.1 knW 1 0 (by rw [knW_m]; rfl) knW_n (by omega) (by omega) (by omega) H.2)
theorem r247_0 {L c2 c3 c4 c5 c6 : Nat} {D : Dt} {Q : Out → Wd → Prop} {t : Int} (H : (0 ≤ t ∧ t < 16002) ∧ ((0 ≤ t ∧ t < 16002) ∧ ((0 ≤ (D 321 t) ∧ (D 321 t) ≤ 16000 ∧ 0 ≤ (D 322 t) ∧ (D 322 t) ≤ 16000) ∧ ((Q (.inl [vi (widx (D 320) (D 321 t) (D 322 t) opW 0)]) (D, SS L 1 c2 c3 c4 c5 c6)))))) : wp 247 0 [vr 226, vi t] [] (D, SS L 1 c2 c3 c4 c5 c6) Q := vc_wp [5] 200 _ _ _ _ _ _ (show wp 247 5 [vr 226, vi t] [vr 321, vr 226] (D, SS L 1 c2 c3 c4 c5 c6) Q from vc_wp [11] 200 _ _ _ _ _ _ (show (0 ≤ t ∧ t < 16002) ∧ (wp 247 11 [vr 226, vi t] [vr 322, vi (D 321 t), vr 226] (D, SS L 1 c2 c3 c4 c5 c6) Q) from ⟨H.1, vc_wp [] 200 _ _ _ _ _ _ (show (0 ≤ t ∧ t < 16002) ∧ (wp 248 0 [vr 226, vi (D 321 t), vi (D 322 t), vr 32, vu, vu, vu, vu, vu] [] (D, SS L 1 c2 c3 c4 c5 c6) (aft wp 247 15 [vr 226, vi t] [] Q)) from ⟨H.2.1, s248s32 ⟨H.2.2.1, (show wp 247 18 [vr 226, vi t] [vi (widx (D 320) (D 321 t) (D 322 t) opW 0)] (D, SS L 1 c2 c3 c4 c5 c6) Q from vc_wp [] 200 _ _ _ _ _ _ (show Q (.inl [vi (widx (D 320) (D 321 t) (D 322 t) opW 0)]) (D, SS L 1 c2 c3 c4 c5 c6) from H.2.2.2))⟩⟩)⟩))
theorem s247 {L c2 c3 c4 c5 c6 : Nat} {D : Dt} {Q : Out → Wd → Prop} {t : Int} (H : (TokM (D 226) (D 321) (D 322) ∧ 0 ≤ t ∧ t < D 226 10) ∧ Q (.inl [vi (widx (D 320) (D 321 t) (D 322 t) opW 0)]) (D, SS L 1 c2 c3 c4 c5 c6)) : wp 247 0 [vr 226, vi t] [] (D, SS L 1 c2 c3 c4 c5 c6) Q := by
  obtain ⟨⟨⟨t1, t2, t6⟩, u0, u1⟩, H⟩ := H
  have h6 := t6 t u0 u1
  exact r247_0 ⟨by omega, by omega, by omega, H⟩
theorem r246_0 {L c2 c3 c4 c5 c6 : Nat} {D : Dt} {Q : Out → Wd → Prop} {t : Int} (H : ((-2147483648) ≤ t + 1 ∧ t + 1 ≤ 2147483647) ∧ ((TokM (D 226) (D 321) (D 322) ∧ 0 ≤ (t + 1)) ∧ ((Q (.inl [vi (ib (isW (D 320) (D 321) (D 322) (D 226 10) (t + 1) (sbt 31) 1))]) (D, SS L 1 c2 c3 c4 c5 c6))))) : wp 246 0 [vr 226, vi t] [] (D, SS L 1 c2 c3 c4 c5 c6) Q := vc_wp [4] 200 _ _ _ _ _ _ (show wp 246 4 [vr 226, vi t] [vi (w32 (t + 1)), vr 226] (D, SS L 1 c2 c3 c4 c5 c6) Q from w32_i (fun z2 : Int => wp 246 4 [vr 226, vi t] [vi z2, vr 226] (D, SS L 1 c2 c3 c4 c5 c6) Q) (H).1 (vc_wp [] 200 _ _ _ _ _ _ (show wp 235 0 [vr 226, vi (t + 1), vr 31, vu] [] (D, SS L 1 c2 c3 c4 c5 c6) (aft wp 246 6 [vr 226, vi t] [] Q) from s235s31 ⟨(H).2.1, (show wp 246 9 [vr 226, vi t] [vi (ib (isW (D 320) (D 321) (D 322) (D 226 10) (t + 1) (sbt 31) 1))] (D, SS L 1 c2 c3 c4 c5 c6) Q from vc_wp [] 200 _ _ _ _ _ _ (show ((0 : Int) ≤ ib (isW (D 320) (D 321) (D 322) (D 226 10) (t + 1) (sbt 31) 1) ∧ ib (isW (D 320) (D 321) (D 322) (D 226 10) (t + 1) (sbt 31) 1) ≤ (1 : Int)) ∧ (Q (.inl [vi (ib (isW (D 320) (D 321) (D 322) (D 226 10) (t + 1) (sbt 31) 1))]) (D, SS L 1 c2 c3 c4 c5 c6)) from ⟨(ib_01 _), (H).2.2⟩))⟩)))
theorem s246 {L c2 c3 c4 c5 c6 : Nat} {D : Dt} {Q : Out → Wd → Prop} {t : Int} (H : ((TokM (D 226) (D 321) (D 322) ∧ 0 ≤ t) ∧ t ≤ 20000) ∧ Q (.inl [vi (ib (isW (D 320) (D 321) (D 322) (D 226 10) (t + 1) (sbt 31) 1))]) (D, SS L 1 c2 c3 c4 c5 c6)) : wp 246 0 [vr 226, vi t] [] (D, SS L 1 c2 c3 c4 c5 c6) Q := r246_0 ⟨by omega, ⟨H.1.1.1, by omega⟩, H.2⟩
