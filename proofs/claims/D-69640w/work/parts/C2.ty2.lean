/-! types: states, and SafeCode's small steps -/
set_option maxRecDepth 100000
/-- types T at places f .. e-1, 20 each -/
def TR (f e : Int) (T : Int → Int → Int) (z : Int → Int) : Prop := ∀ i k : Int, f ≤ i → i < e → 0 ≤ k → k < 20 → z (i * 20 + k) = T i k
noncomputable def jnV (ab : List Int) (t v : Int) : Int := cit (t < 0) v (tjn ab t v)
noncomputable def jnT (ab : List Int) (T : Int → Int → Int) (j : Int) (w : Int → Int) (tp : Int) : Int → Int → Int := fun i k => cit (i = j ∧ 0 ≤ k ∧ k < tp) (jnV ab (T i k) (w k)) (T i k)
/-- a state grew from T to T'; whether it did is told in m, m' -/
def TyG (f e : Int) (T : Int → Int → Int) (m : Int) (T' : Int → Int → Int) (m' : Int) : Prop := (∀ i k : Int, f ≤ i → i < e → 0 ≤ k → k < 20 → rkT (T i k) ≤ rkT (T' i k)) ∧ ((m' = m ∧ ∀ i k : Int, f ≤ i → i < e → 0 ≤ k → k < 20 → T' i k = T i k) ∨ (m' = 1 ∧ ∃ i k : Int, (f ≤ i ∧ i < e ∧ 0 ≤ k ∧ k < 20) ∧ rkT (T i k) < rkT (T' i k)))
theorem TyG.r {f e : Int} {T : Int → Int → Int} {m : Int} : TyG f e T m T m := ⟨fun _ _ _ _ _ _ => Nat.le_refl _, Or.inl ⟨rfl, fun _ _ _ _ _ _ => rfl⟩⟩
theorem TyG.t {f e : Int} {T T' T'' : Int → Int → Int} {m m' m'' : Int} (h : TyG f e T m T' m') (h2 : TyG f e T' m' T'' m'') : TyG f e T m T'' m'' := by
  refine ⟨fun i k i0 i1 k0 k1 => Nat.le_trans (h.1 i k i0 i1 k0 k1) (h2.1 i k i0 i1 k0 k1), ?_⟩
  rcases h.2 with ⟨a1, a2⟩ | ⟨a1, i, k, a2, a3⟩
  · rcases h2.2 with ⟨b1, b2⟩ | ⟨b1, i, k, b2, b3⟩
    · exact Or.inl ⟨b1.trans a1, fun i k i0 i1 k0 k1 => (b2 i k i0 i1 k0 k1).trans (a2 i k i0 i1 k0 k1)⟩
    · refine Or.inr ⟨b1, i, k, b2, ?_⟩
      rw [← a2 i k b2.1 b2.2.1 b2.2.2.1 b2.2.2.2]; exact b3
  · refine Or.inr ⟨?_, i, k, a2, Nat.lt_of_lt_of_le a3 (h2.1 i k a2.1 a2.2.1 a2.2.2.1 a2.2.2.2)⟩
    rcases h2.2 with b | b
    · exact b.1.trans a1
    · exact b.1
/-- a slot of one place: nothing yet, or a type -/
def tyO (n t : Int) : Prop := t = -1 ∨ tyS n t
theorem jnV_s {ab : List Int} (hw : ABw ab) (hal : ab.length ≤ 24) {t v : Int} (ht : tyO (8 + ab.length) t) (hv : tyS (8 + ab.length) v) : tyS (8 + ab.length) (jnV ab t v) := by
  unfold jnV
  rcases ht with h | h
  · rw [cit_t (by omega)]; exact hv
  · rw [cit_f (by have := (tyS_b h (by omega)).1; omega)]; exact tjn_s hw h hv hal
theorem jnV_k {ab : List Int} (hw : ABw ab) (hal : ab.length ≤ 24) {t v : Int} (ht : tyO (8 + ab.length) t) (hv : tyS (8 + ab.length) v) (hne : ¬ jnV ab t v = t) : rkT t < rkT (jnV ab t v) := by
  unfold jnV at hne ⊢
  rcases ht with h | h
  · rw [cit_t (by omega)]
    have := rk_p hv (by omega)
    rw [h]
    exact this
  · have : ¬ t < 0 := by have := (tyS_b h (by omega)).1; omega
    rw [cit_f this] at hne ⊢
    exact rk_j hw hal h hv hne
theorem r102_0 {L c4 c5 c6 : Nat} {D : Dt} {Q : Out → Wd → Prop} {i : Int} (H : wp 102 2 [vr 87, vi i, vi 0] [] (D, SS L 1 2 2 c4 c5 c6) Q) : wp 102 0 [vr 87, vi i, vu] [] (D, SS L 1 2 2 c4 c5 c6) Q := vc_wp [2] 200 _ _ _ _ _ _ (show wp 102 2 [vr 87, vi i, vi 0] [] (D, SS L 1 2 2 c4 c5 c6) Q from H)
theorem r102_2 {L c4 c5 c6 : Nat} {D : Dt} {Q : Out → Wd → Prop} {i k : Int} (H : ((k < 20 → (((-2147483648) ≤ i * 20 ∧ i * 20 ≤ 2147483647) ∧ (((-2147483648) ≤ (i * 20) + k ∧ (i * 20) + k ≤ 2147483647) ∧ ((0 ≤ (i * 20) + k ∧ (i * 20) + k < 20480) ∧ ((0 ≤ k ∧ k < 20) ∧ (((-2147483648) ≤ k + 1 ∧ k + 1 ≤ 2147483647) ∧ (wp 102 2 [vr 87, vi i, vi (k + 1)] [] (up D 91 k (D 90 ((i * 20) + k)), SS L 1 2 2 c4 c5 c6) Q))))))) ∧ (¬ (k < 20) → ((0 ≤ i ∧ i < 1024) ∧ (((-2147483648) ≤ 12 + (D 217 i) ∧ 12 + (D 217 i) ≤ 2147483647) ∧ (Q (.inl []) (up D 87 6 (12 + (D 217 i)), SS L 1 2 2 c4 c5 c6))))))) : wp 102 2 [vr 87, vi i, vi k] [] (D, SS L 1 2 2 c4 c5 c6) Q := vc_wp [12, 38] 200 _ _ _ _ _ _ (show ((k < 20 → (wp 102 12 [vr 87, vi i, vi k] [vr 91] (D, SS L 1 2 2 c4 c5 c6) Q)) ∧ (¬ (k < 20) → (wp 102 38 [vr 87, vi i, vi k] [vr 197, vi 12, vr 87] (D, SS L 1 2 2 c4 c5 c6) Q))) from ⟨fun h5 => vc_wp [17] 200 _ _ _ _ _ _ (show wp 102 17 [vr 87, vi i, vi k] [vr 90, vi k, vr 91] (D, SS L 1 2 2 c4 c5 c6) Q from vc_wp [21] 200 _ _ _ _ _ _ (show wp 102 21 [vr 87, vi i, vi k] [vi (w32 (i * 20)), vr 90, vi k, vr 91] (D, SS L 1 2 2 c4 c5 c6) Q from w32_i (fun z3 : Int => wp 102 21 [vr 87, vi i, vi k] [vi z3, vr 90, vi k, vr 91] (D, SS L 1 2 2 c4 c5 c6) Q) ((H.1 h5)).1 (vc_wp [23] 200 _ _ _ _ _ _ (show wp 102 23 [vr 87, vi i, vi k] [vi (w32 ((i * 20) + k)), vr 90, vi k, vr 91] (D, SS L 1 2 2 c4 c5 c6) Q from w32_i (fun z2 : Int => wp 102 23 [vr 87, vi i, vi k] [vi z2, vr 90, vi k, vr 91] (D, SS L 1 2 2 c4 c5 c6) Q) (((H.1 h5)).2).1 (vc_wp [28] 200 _ _ _ _ _ _ (show (0 ≤ (i * 20) + k ∧ (i * 20) + k < 20480) ∧ ((0 ≤ k ∧ k < 20) ∧ (wp 102 28 [vr 87, vi i, vi (w32 (k + 1))] [] (up D 91 k (D 90 ((i * 20) + k)), SS L 1 2 2 c4 c5 c6) Q)) from ⟨(((H.1 h5)).2).2.1, ⟨(((H.1 h5)).2).2.2.1, w32_i (fun z1 : Int => wp 102 28 [vr 87, vi i, vi z1] [] (up D 91 k (D 90 ((i * 20) + k)), SS L 1 2 2 c4 c5 c6) Q) ((((H.1 h5)).2).2.2.2).1 (vc_wp [2] 200 _ _ _ _ _ _ (show wp 102 2 [vr 87, vi i, vi (k + 1)] [] (up D 91 k (D 90 ((i * 20) + k)), SS L 1 2 2 c4 c5 c6) Q from ((((H.1 h5)).2).2.2.2).2))⟩⟩)))))), fun h6 => vc_wp [41] 200 _ _ _ _ _ _ (show wp 102 41 [vr 87, vi i, vi k] [vr 217, vi 12, vr 87] (D, SS L 1 2 2 c4 c5 c6) Q from vc_wp [44] 200 _ _ _ _ _ _ (show (0 ≤ i ∧ i < 1024) ∧ (wp 102 44 [vr 87, vi i, vi k] [vi (w32 (12 + (D 217 i))), vr 87] (D, SS L 1 2 2 c4 c5 c6) Q) from ⟨(H.2 h6).1, w32_i (fun z4 : Int => wp 102 44 [vr 87, vi i, vi k] [vi z4, vr 87] (D, SS L 1 2 2 c4 c5 c6) Q) ((H.2 h6).2).1 (vc_wp [47] 200 _ _ _ _ _ _ (show wp 102 47 [vr 87, vi i, vi k] [] (up D 87 6 (12 + (D 217 i)), SS L 1 2 2 c4 c5 c6) Q from vc_wp [] 200 _ _ _ _ _ _ (show Q (.inl []) (up D 87 6 (12 + (D 217 i)), SS L 1 2 2 c4 c5 c6) from ((H.2 h6).2).2)))⟩))⟩)
theorem s102 {L c4 c5 c6 : Nat} {D : Dt} {Q : Out → Wd → Prop} {i : Int} (H : (0 ≤ i ∧ i < 1024 ∧ -1 ≤ D 217 i ∧ D 217 i ≤ 8) ∧ ∀ z : Int → Int, (∀ k : Int, 0 ≤ k → k < 20 → z k = D 90 (i * 20 + k)) → Q (.inl []) (up (sp D 91 z) 87 6 (12 + D 217 i), SS L 1 2 2 c4 c5 c6)) : wp 102 0 [vr 87, vi i, vu] [] (D, SS L 1 2 2 c4 c5 c6) Q := by
  obtain ⟨⟨i0, i1, h0, h8⟩, H⟩ := H
  have hL : ∀ (M : Nat) (k : Int) (z : Int → Int), (20 - k).toNat = M → 0 ≤ k → k ≤ 20 → (∀ j : Int, 0 ≤ j → j < k → z j = D 90 (i * 20 + j)) → wp 102 2 [vr 87, vi i, vi k] [] (sp D 91 z, SS L 1 2 2 c4 c5 c6) Q := by
    intro M
    induction M with
    | zero =>
      intro k z e k0 k1 hz
      refine r102_2 ⟨fun g => by omega, fun _ => ⟨by omega, ?_, H z (fun j j0 j1 => hz j j0 (by omega))⟩⟩
      show -2147483648 ≤ 12 + D 217 i ∧ 12 + D 217 i ≤ 2147483647
      omega
    | succ M ih =>
      intro k z e k0 k1 hz
      refine r102_2 ⟨fun _ => ⟨by omega, by omega, by omega, by omega, by omega, ?_⟩, fun g => by omega⟩
      have ew : up (sp D 91 z) 91 k (sp D 91 z 90 (i * 20 + k)) = sp D 91 (fun j => if j = k then D 90 (i * 20 + k) else z j) := by
        funext a j
        by_cases ea : a = 91
        · subst ea
          rw [sp_s]
          by_cases ej : j = k
          · rw [ej, ub_s, if_pos rfl]; rfl
          · rw [ub_n ej, sp_s, if_neg ej]
        · rw [ub_a ea, sp_a ea, sp_a ea]
      rw [ew]
      refine ih (k + 1) _ (by omega) (by omega) (by omega) (fun j j0 j1 => ?_)
      by_cases ej : j = k
      · rw [if_pos ej, ej]
      · rw [if_neg ej]; exact hz j j0 (by omega)
  have e0 : D = sp D 91 (D 91) := by
    funext a
    by_cases ea : a = 91
    · subst ea; rw [sp_s]
    · rw [sp_a ea]
  have := hL _ 0 (D 91) rfl (by omega) (by omega) (fun j j0 j1 => by omega)
  rw [← e0] at this
  exact r102_0 this
theorem r103_0 {L c4 c5 c6 : Nat} {D : Dt} {Q : Out → Wd → Prop} {t : Int} (H : (0 ≤ D 87 6 ∧ D 87 6 < 20) ∧ (((-2147483648) ≤ (D 87 6) + 1 ∧ (D 87 6) + 1 ≤ 2147483647) ∧ (Q (.inl []) (up (up D 91 (D 87 6) t) 87 6 ((D 87 6) + 1), SS L 1 2 2 c4 c5 c6)))) : wp 103 0 [vr 87, vi t] [] (D, SS L 1 2 2 c4 c5 c6) Q := vc_wp [4] 200 _ _ _ _ _ _ (show wp 103 4 [vr 87, vi t] [vr 91] (D, SS L 1 2 2 c4 c5 c6) Q from vc_wp [17] 200 _ _ _ _ _ _ (show (0 ≤ D 87 6 ∧ D 87 6 < 20) ∧ (wp 103 17 [vr 87, vi t] [vi (w32 ((D 87 6) + 1)), vr 87] (up D 91 (D 87 6) t, SS L 1 2 2 c4 c5 c6) Q) from ⟨H.1, w32_i (fun z1 : Int => wp 103 17 [vr 87, vi t] [vi z1, vr 87] (up D 91 (D 87 6) t, SS L 1 2 2 c4 c5 c6) Q) (H.2).1 (vc_wp [20] 200 _ _ _ _ _ _ (show wp 103 20 [vr 87, vi t] [] (up (up D 91 (D 87 6) t) 87 6 ((D 87 6) + 1), SS L 1 2 2 c4 c5 c6) Q from vc_wp [] 200 _ _ _ _ _ _ (show Q (.inl []) (up (up D 91 (D 87 6) t) 87 6 ((D 87 6) + 1), SS L 1 2 2 c4 c5 c6) from (H.2).2)))⟩))
theorem s103 {L c4 c5 c6 : Nat} {D : Dt} {Q : Out → Wd → Prop} {t : Int} (H : (0 ≤ D 87 6 ∧ D 87 6 < 20) ∧ Q (.inl []) (up (up D 91 (D 87 6) t) 87 6 (D 87 6 + 1), SS L 1 2 2 c4 c5 c6)) : wp 103 0 [vr 87, vi t] [] (D, SS L 1 2 2 c4 c5 c6) Q := r103_0 ⟨H.1, by omega, H.2⟩
theorem r105_0 {L c2 c3 c4 c5 c6 : Nat} {D : Dt} {Q : Out → Wd → Prop} {t : Int} (H : ((t = 3 ∨ 64 ≤ t → (((t = 3 ∨ 64 ≤ t) ∧ t ≤ 1000) ∧ ((Q (.inl [vi (elT t)]) (D, SS L 1 c2 c3 c4 c5 c6))))) ∧ (¬ (t = 3 ∨ 64 ≤ t) → (Q (.inl [vi 2]) (D, SS L 1 c2 c3 c4 c5 c6))))) : wp 105 0 [vi t] [] (D, SS L 1 c2 c3 c4 c5 c6) Q := vc_wp [] 200 _ _ _ _ _ _ (show wp 224 0 [vi t] [] (D, SS L 1 c2 c3 c4 c5 c6) (aft wp 105 1 [vi t] [] Q) from s224 (show wp 105 4 [vi t] [vi (ib (t = 3 ∨ 64 ≤ t))] (D, SS L 1 c2 c3 c4 c5 c6) Q from vc_wp [] 200 _ _ _ _ _ _ (show ((ib (t = 3 ∨ 64 ≤ t) = 0 → (Q (.inl [vi 2]) (D, SS L 1 c2 c3 c4 c5 c6))) ∧ (¬ (ib (t = 3 ∨ 64 ≤ t) = 0) → (wp 225 0 [vi t] [] (D, SS L 1 c2 c3 c4 c5 c6) (aft wp 105 8 [vi t] [] Q)))) from ⟨fun h5 => (H.2 ((ib_z).mp h5)), fun h6 => s225 ⟨(H.1 (Classical.not_not.mp (mt (ib_z).mpr h6))).1, (show wp 105 11 [vi t] [vi (elT t)] (D, SS L 1 c2 c3 c4 c5 c6) Q from vc_wp [] 200 _ _ _ _ _ _ (show Q (.inl [vi (elT t)]) (D, SS L 1 c2 c3 c4 c5 c6) from (H.1 (Classical.not_not.mp (mt (ib_z).mpr h6))).2))⟩⟩)))
theorem s105 {L c2 c3 c4 c5 c6 : Nat} {D : Dt} {Q : Out → Wd → Prop} {t : Int} (H : t ≤ 1000 ∧ Q (.inl [vi (elT t)]) (D, SS L 1 c2 c3 c4 c5 c6)) : wp 105 0 [vi t] [] (D, SS L 1 c2 c3 c4 c5 c6) Q := by
  obtain ⟨ht, H⟩ := H
  exact r105_0 ⟨fun g => ⟨⟨g, ht⟩, H⟩, fun g => q_i H (by unfold elT; rw [if_neg (by omega), if_neg (by omega)])⟩
theorem r100_0 {L c4 c5 c6 : Nat} {D : Dt} {Q : Out → Wd → Prop} {i : Int} (H : wp 100 2 [vr 87, vi i, vi 0, vu, vu] [] (D, SS L 1 2 2 c4 c5 c6) Q) : wp 100 0 [vr 87, vi i, vu, vu, vu] [] (D, SS L 1 2 2 c4 c5 c6) Q := vc_wp [2] 200 _ _ _ _ _ _ (show wp 100 2 [vr 87, vi i, vi 0, vu, vu] [] (D, SS L 1 2 2 c4 c5 c6) Q from H)
theorem r100_2 {L c4 c5 c6 : Nat} {D : Dt} {Q : Out → Wd → Prop} {i k : Int} (H : ((k < D 87 6 → (((-2147483648) ≤ i * 20 ∧ i * 20 ≤ 2147483647) ∧ (((-2147483648) ≤ (i * 20) + k ∧ (i * 20) + k ≤ 2147483647) ∧ ((0 ≤ (i * 20) + k ∧ (i * 20) + k < 20480) ∧ ((D 90 ((i * 20) + k) < 0 → ((0 ≤ k ∧ k < 20) ∧ ((D 91 k = D 90 ((i * 20) + k) → (((-2147483648) ≤ k + 1 ∧ k + 1 ≤ 2147483647) ∧ (wp 100 2 [vr 87, vi i, vi (k + 1), vu, vu] [] (D, SS L 1 2 2 c4 c5 c6) Q))) ∧ (¬ (D 91 k = D 90 ((i * 20) + k)) → (((-2147483648) ≤ i * 20 ∧ i * 20 ≤ 2147483647) ∧ (((-2147483648) ≤ (i * 20) + k ∧ (i * 20) + k ≤ 2147483647) ∧ ((0 ≤ (i * 20) + k ∧ (i * 20) + k < 20480) ∧ (((-2147483648) ≤ k + 1 ∧ k + 1 ≤ 2147483647) ∧ (wp 100 2 [vr 87, vi i, vi (k + 1), vu, vu] [] (up (up D 90 ((i * 20) + k) (D 91 k)) 87 7 1, SS L 1 2 2 c4 c5 c6) Q))))))))) ∧ (¬ (D 90 ((i * 20) + k) < 0) → ((0 ≤ k ∧ k < 20) ∧ (∃ (ab7 : List Int), (ABp (D 198) ab7 ∧ ABw ab7 ∧ ab7.length ≤ 24 ∧ tyS (8 + ab7.length) (D 90 ((i * 20) + k)) ∧ tyS (8 + ab7.length) (D 91 k)) ∧ ((((tjn ab7 (D 90 ((i * 20) + k)) (D 91 k) = D 90 ((i * 20) + k) → (((-2147483648) ≤ k + 1 ∧ k + 1 ≤ 2147483647) ∧ (wp 100 2 [vr 87, vi i, vi (k + 1), vu, vu] [] (D, SS L 1 2 2 c4 c5 c6) Q))) ∧ (¬ (tjn ab7 (D 90 ((i * 20) + k)) (D 91 k) = D 90 ((i * 20) + k)) → (((-2147483648) ≤ i * 20 ∧ i * 20 ≤ 2147483647) ∧ (((-2147483648) ≤ (i * 20) + k ∧ (i * 20) + k ≤ 2147483647) ∧ ((0 ≤ (i * 20) + k ∧ (i * 20) + k < 20480) ∧ (((-2147483648) ≤ k + 1 ∧ k + 1 ≤ 2147483647) ∧ (wp 100 2 [vr 87, vi i, vi (k + 1), vu, vu] [] (up (up D 90 ((i * 20) + k) (tjn ab7 (D 90 ((i * 20) + k)) (D 91 k))) 87 7 1, SS L 1 2 2 c4 c5 c6) Q))))))))))))))))) ∧ (¬ (k < D 87 6) → (Q (.inl []) (D, SS L 1 2 2 c4 c5 c6))))) : wp 100 2 [vr 87, vi i, vi k, vu, vu] [] (D, SS L 1 2 2 c4 c5 c6) Q := vc_wp [14] 200 _ _ _ _ _ _ (show ((k < D 87 6 → (wp 100 14 [vr 87, vi i, vi k, vu, vu] [vr 90] (D, SS L 1 2 2 c4 c5 c6) Q)) ∧ (¬ (k < D 87 6) → (Q (.inl []) (D, SS L 1 2 2 c4 c5 c6)))) from ⟨fun h20 => vc_wp [18] 200 _ _ _ _ _ _ (show wp 100 18 [vr 87, vi i, vi k, vu, vu] [vi (w32 (i * 20)), vr 90] (D, SS L 1 2 2 c4 c5 c6) Q from w32_i (fun z19 : Int => wp 100 18 [vr 87, vi i, vi k, vu, vu] [vi z19, vr 90] (D, SS L 1 2 2 c4 c5 c6) Q) ((H.1 h20)).1 (vc_wp [20] 200 _ _ _ _ _ _ (show wp 100 20 [vr 87, vi i, vi k, vu, vu] [vi (w32 ((i * 20) + k)), vr 90] (D, SS L 1 2 2 c4 c5 c6) Q from w32_i (fun z18 : Int => wp 100 20 [vr 87, vi i, vi k, vu, vu] [vi z18, vr 90] (D, SS L 1 2 2 c4 c5 c6) Q) (((H.1 h20)).2).1 (vc_wp [30, 39] 200 _ _ _ _ _ _ (show (0 ≤ (i * 20) + k ∧ (i * 20) + k < 20480) ∧ ((D 90 ((i * 20) + k) < 0 → (wp 100 30 [vr 87, vi i, vi k, vi (D 90 ((i * 20) + k)), vu] [vr 91] (D, SS L 1 2 2 c4 c5 c6) Q)) ∧ (¬ (D 90 ((i * 20) + k) < 0) → (wp 100 39 [vr 87, vi i, vi k, vi (D 90 ((i * 20) + k)), vu] [vr 197] (D, SS L 1 2 2 c4 c5 c6) Q))) from ⟨(((H.1 h20)).2).2.1, ⟨fun h16 => vc_wp [64, 78] 200 _ _ _ _ _ _ (show (0 ≤ k ∧ k < 20) ∧ ((D 91 k = D 90 ((i * 20) + k) → (wp 100 78 [vr 87, vi i, vi k, vi (D 90 ((i * 20) + k)), vi (D 91 k)] [] (D, SS L 1 2 2 c4 c5 c6) Q)) ∧ (¬ (D 91 k = D 90 ((i * 20) + k)) → (wp 100 64 [vr 87, vi i, vi k, vi (D 90 ((i * 20) + k)), vi (D 91 k)] [vr 90] (D, SS L 1 2 2 c4 c5 c6) Q))) from ⟨((((H.1 h20)).2).2.2.1 h16).1, ⟨fun h5 => vc_wp [81] 200 _ _ _ _ _ _ (show wp 100 81 [vr 87, vi i, vi (w32 (k + 1)), vi (D 90 ((i * 20) + k)), vi (D 91 k)] [] (D, SS L 1 2 2 c4 c5 c6) Q from w32_i (fun z1 : Int => wp 100 81 [vr 87, vi i, vi z1, vi (D 90 ((i * 20) + k)), vi (D 91 k)] [] (D, SS L 1 2 2 c4 c5 c6) Q) ((((((H.1 h20)).2).2.2.1 h16).2.1 h5)).1 (vc_wp [2] 200 _ _ _ _ _ _ (show wp 100 2 [vr 87, vi i, vi (k + 1), vi (D 90 ((i * 20) + k)), vi (D 91 k)] [] (D, SS L 1 2 2 c4 c5 c6) Q from wp_d (Lle.k rfl (Lle.k rfl (Lle.k rfl (Lle.v rfl (Lle.v rfl (Lle.nil)))))) (((((((H.1 h20)).2).2.2.1 h16).2.1 h5)).2)))), fun h6 => vc_wp [68] 200 _ _ _ _ _ _ (show wp 100 68 [vr 87, vi i, vi k, vi (D 90 ((i * 20) + k)), vi (D 91 k)] [vi (w32 (i * 20)), vr 90] (D, SS L 1 2 2 c4 c5 c6) Q from w32_i (fun z4 : Int => wp 100 68 [vr 87, vi i, vi k, vi (D 90 ((i * 20) + k)), vi (D 91 k)] [vi z4, vr 90] (D, SS L 1 2 2 c4 c5 c6) Q) ((((((H.1 h20)).2).2.2.1 h16).2.2 h6)).1 (vc_wp [70] 200 _ _ _ _ _ _ (show wp 100 70 [vr 87, vi i, vi k, vi (D 90 ((i * 20) + k)), vi (D 91 k)] [vi (w32 ((i * 20) + k)), vr 90] (D, SS L 1 2 2 c4 c5 c6) Q from w32_i (fun z3 : Int => wp 100 70 [vr 87, vi i, vi k, vi (D 90 ((i * 20) + k)), vi (D 91 k)] [vi z3, vr 90] (D, SS L 1 2 2 c4 c5 c6) Q) (((((((H.1 h20)).2).2.2.1 h16).2.2 h6)).2).1 (vc_wp [78] 200 _ _ _ _ _ _ (show (0 ≤ (i * 20) + k ∧ (i * 20) + k < 20480) ∧ (((0 : Int) ≤ 1 ∧ 1 ≤ (1 : Int)) ∧ (wp 100 78 [vr 87, vi i, vi k, vi (D 90 ((i * 20) + k)), vi (D 91 k)] [] (up (up D 90 ((i * 20) + k) (D 91 k)) 87 7 1, SS L 1 2 2 c4 c5 c6) Q)) from ⟨(((((((H.1 h20)).2).2.2.1 h16).2.2 h6)).2).2.1, ⟨(by decide), vc_wp [81] 200 _ _ _ _ _ _ (show wp 100 81 [vr 87, vi i, vi (w32 (k + 1)), vi (D 90 ((i * 20) + k)), vi (D 91 k)] [] (up (up D 90 ((i * 20) + k) (D 91 k)) 87 7 1, SS L 1 2 2 c4 c5 c6) Q from w32_i (fun z2 : Int => wp 100 81 [vr 87, vi i, vi z2, vi (D 90 ((i * 20) + k)), vi (D 91 k)] [] (up (up D 90 ((i * 20) + k) (D 91 k)) 87 7 1, SS L 1 2 2 c4 c5 c6) Q) ((((((((H.1 h20)).2).2.2.1 h16).2.2 h6)).2).2.2).1 (vc_wp [2] 200 _ _ _ _ _ _ (show wp 100 2 [vr 87, vi i, vi (k + 1), vi (D 90 ((i * 20) + k)), vi (D 91 k)] [] (up (up D 90 ((i * 20) + k) (D 91 k)) 87 7 1, SS L 1 2 2 c4 c5 c6) Q from wp_d (Lle.k rfl (Lle.k rfl (Lle.k rfl (Lle.v rfl (Lle.v rfl (Lle.nil)))))) (((((((((H.1 h20)).2).2.2.1 h16).2.2 h6)).2).2.2).2))))⟩⟩)))))⟩⟩), fun h17 => vc_wp [44] 200 _ _ _ _ _ _ (show wp 100 44 [vr 87, vi i, vi k, vi (D 90 ((i * 20) + k)), vu] [vr 91, vi (D 90 ((i * 20) + k)), vr 197] (D, SS L 1 2 2 c4 c5 c6) Q from vc_wp [] 200 _ _ _ _ _ _ (show (0 ≤ k ∧ k < 20) ∧ (wp 221 0 [vr 197, vi (D 90 ((i * 20) + k)), vi (D 91 k)] [] (D, SS L 1 2 2 c4 c5 c6) (aft wp 100 46 [vr 87, vi i, vi k, vi (D 90 ((i * 20) + k)), vu] [] Q)) from ⟨((((H.1 h20)).2).2.2.2 h17).1, Exists.elim (((((H.1 h20)).2).2.2.2 h17).2) fun ab7 x8 => s221 ⟨ab7, x8.1, (show wp 100 49 [vr 87, vi i, vi k, vi (D 90 ((i * 20) + k)), vu] [vi (tjn ab7 (D 90 ((i * 20) + k)) (D 91 k))] (D, SS L 1 2 2 c4 c5 c6) Q from vc_wp [64, 78] 200 _ _ _ _ _ _ (show ((tjn ab7 (D 90 ((i * 20) + k)) (D 91 k) = D 90 ((i * 20) + k) → (wp 100 78 [vr 87, vi i, vi k, vi (D 90 ((i * 20) + k)), vi (tjn ab7 (D 90 ((i * 20) + k)) (D 91 k))] [] (D, SS L 1 2 2 c4 c5 c6) Q)) ∧ (¬ (tjn ab7 (D 90 ((i * 20) + k)) (D 91 k) = D 90 ((i * 20) + k)) → (wp 100 64 [vr 87, vi i, vi k, vi (D 90 ((i * 20) + k)), vi (tjn ab7 (D 90 ((i * 20) + k)) (D 91 k))] [vr 90] (D, SS L 1 2 2 c4 c5 c6) Q))) from ⟨fun h14 => vc_wp [81] 200 _ _ _ _ _ _ (show wp 100 81 [vr 87, vi i, vi (w32 (k + 1)), vi (D 90 ((i * 20) + k)), vi (tjn ab7 (D 90 ((i * 20) + k)) (D 91 k))] [] (D, SS L 1 2 2 c4 c5 c6) Q from w32_i (fun z10 : Int => wp 100 81 [vr 87, vi i, vi z10, vi (D 90 ((i * 20) + k)), vi (tjn ab7 (D 90 ((i * 20) + k)) (D 91 k))] [] (D, SS L 1 2 2 c4 c5 c6) Q) ((x8.2.1 h14)).1 (vc_wp [2] 200 _ _ _ _ _ _ (show wp 100 2 [vr 87, vi i, vi (k + 1), vi (D 90 ((i * 20) + k)), vi (tjn ab7 (D 90 ((i * 20) + k)) (D 91 k))] [] (D, SS L 1 2 2 c4 c5 c6) Q from wp_d (Lle.k rfl (Lle.k rfl (Lle.k rfl (Lle.v rfl (Lle.v rfl (Lle.nil)))))) (((x8.2.1 h14)).2)))), fun h15 => vc_wp [68] 200 _ _ _ _ _ _ (show wp 100 68 [vr 87, vi i, vi k, vi (D 90 ((i * 20) + k)), vi (tjn ab7 (D 90 ((i * 20) + k)) (D 91 k))] [vi (w32 (i * 20)), vr 90] (D, SS L 1 2 2 c4 c5 c6) Q from w32_i (fun z13 : Int => wp 100 68 [vr 87, vi i, vi k, vi (D 90 ((i * 20) + k)), vi (tjn ab7 (D 90 ((i * 20) + k)) (D 91 k))] [vi z13, vr 90] (D, SS L 1 2 2 c4 c5 c6) Q) ((x8.2.2 h15)).1 (vc_wp [70] 200 _ _ _ _ _ _ (show wp 100 70 [vr 87, vi i, vi k, vi (D 90 ((i * 20) + k)), vi (tjn ab7 (D 90 ((i * 20) + k)) (D 91 k))] [vi (w32 ((i * 20) + k)), vr 90] (D, SS L 1 2 2 c4 c5 c6) Q from w32_i (fun z12 : Int => wp 100 70 [vr 87, vi i, vi k, vi (D 90 ((i * 20) + k)), vi (tjn ab7 (D 90 ((i * 20) + k)) (D 91 k))] [vi z12, vr 90] (D, SS L 1 2 2 c4 c5 c6) Q) (((x8.2.2 h15)).2).1 (vc_wp [78] 200 _ _ _ _ _ _ (show (0 ≤ (i * 20) + k ∧ (i * 20) + k < 20480) ∧ (((0 : Int) ≤ 1 ∧ 1 ≤ (1 : Int)) ∧ (wp 100 78 [vr 87, vi i, vi k, vi (D 90 ((i * 20) + k)), vi (tjn ab7 (D 90 ((i * 20) + k)) (D 91 k))] [] (up (up D 90 ((i * 20) + k) (tjn ab7 (D 90 ((i * 20) + k)) (D 91 k))) 87 7 1, SS L 1 2 2 c4 c5 c6) Q)) from ⟨(((x8.2.2 h15)).2).2.1, ⟨(by decide), vc_wp [81] 200 _ _ _ _ _ _ (show wp 100 81 [vr 87, vi i, vi (w32 (k + 1)), vi (D 90 ((i * 20) + k)), vi (tjn ab7 (D 90 ((i * 20) + k)) (D 91 k))] [] (up (up D 90 ((i * 20) + k) (tjn ab7 (D 90 ((i * 20) + k)) (D 91 k))) 87 7 1, SS L 1 2 2 c4 c5 c6) Q from w32_i (fun z11 : Int => wp 100 81 [vr 87, vi i, vi z11, vi (D 90 ((i * 20) + k)), vi (tjn ab7 (D 90 ((i * 20) + k)) (D 91 k))] [] (up (up D 90 ((i * 20) + k) (tjn ab7 (D 90 ((i * 20) + k)) (D 91 k))) 87 7 1, SS L 1 2 2 c4 c5 c6) Q) ((((x8.2.2 h15)).2).2.2).1 (vc_wp [2] 200 _ _ _ _ _ _ (show wp 100 2 [vr 87, vi i, vi (k + 1), vi (D 90 ((i * 20) + k)), vi (tjn ab7 (D 90 ((i * 20) + k)) (D 91 k))] [] (up (up D 90 ((i * 20) + k) (tjn ab7 (D 90 ((i * 20) + k)) (D 91 k))) 87 7 1, SS L 1 2 2 c4 c5 c6) Q from wp_d (Lle.k rfl (Lle.k rfl (Lle.k rfl (Lle.v rfl (Lle.v rfl (Lle.nil)))))) (((((x8.2.2 h15)).2).2.2).2))))⟩⟩)))))⟩))⟩⟩))⟩⟩))))), fun h21 => (H.2 h21)⟩)
theorem s100 {L c4 c5 c6 : Nat} {D : Dt} {Q : Out → Wd → Prop} {j : Int} (H : ∃ x : List Int × Int × Int × (Int → Int → Int) × (Int → Int), ((ABp (D 198) x.1 ∧ ABw x.1 ∧ x.1.length ≤ 24) ∧ TR x.2.1 x.2.2.1 x.2.2.2.1 (D 90) ∧ (0 ≤ x.2.1 ∧ x.2.2.1 ≤ 1024 ∧ x.2.1 ≤ j ∧ j < x.2.2.1) ∧ (0 ≤ D 87 6 ∧ D 87 6 ≤ 20) ∧ (∀ k : Int, 0 ≤ k → k < D 87 6 → D 91 k = x.2.2.2.2 k ∧ tyS (8 + x.1.length) (x.2.2.2.2 k)) ∧ (∀ k : Int, 0 ≤ k → k < D 87 6 → tyO (8 + x.1.length) (x.2.2.2.1 j k))) ∧ ∀ (z : Int → Int) (m : Int), (TR x.2.1 x.2.2.1 (jnT x.1 x.2.2.2.1 j x.2.2.2.2 (D 87 6)) z ∧ TyG x.2.1 x.2.2.1 x.2.2.2.1 (D 87 7) (jnT x.1 x.2.2.2.1 j x.2.2.2.2 (D 87 6)) m) → Q (.inl []) (up (sp D 90 z) 87 7 m, SS L 1 2 2 c4 c5 c6)) : wp 100 0 [vr 87, vi j, vu, vu, vu] [] (D, SS L 1 2 2 c4 c5 c6) Q := by
  obtain ⟨⟨ab, f, e, T, w⟩, ⟨⟨hA, hw, hal⟩, hT, ⟨f0, e0, j0, j1⟩, ⟨t0, t1⟩, hwk, hTk⟩, H⟩ := H
  dsimp only at *
  have hjt : ∀ k : Int, 0 ≤ k → k < D 87 6 → tyS (8 + ab.length) (jnV ab (T j k) (w k)) := fun k k0 k1 => jnV_s hw hal (hTk k k0 k1) (hwk k k0 k1).2
  have hL : ∀ (M : Nat) (k : Int) (z : Int → Int) (m : Int), (D 87 6 - k).toNat = M → 0 ≤ k → k ≤ D 87 6 → TR f e (jnT ab T j w k) z → TyG f e T (D 87 7) (jnT ab T j w k) m → wp 100 2 [vr 87, vi j, vi k, vu, vu] [] (up (sp D 90 z) 87 7 m, SS L 1 2 2 c4 c5 c6) Q := by
    intro M
    induction M with
    | zero =>
      intro k z m en k0 k1 hz hm
      have ek : k = D 87 6 := by omega
      rw [ek] at hz hm ⊢
      refine r100_2 ⟨fun g => ?_, fun _ => H z m ⟨hz, hm⟩⟩
      have g : D 87 6 < D 87 6 := g
      omega
    | succ M ih =>
      intro k z m en k0 k1 hz hm
      have kt : k < D 87 6 := by omega
      have ezk : z (j * 20 + k) = T j k := by
        rw [hz j k j0 j1 k0 (by omega)]
        exact cit_f (by omega)
      have h6 : up (sp D 90 z) 87 7 m 87 6 = D 87 6 := by rw [ub_n (by decide), sp_a (by decide)]
      have h90 : up (sp D 90 z) 87 7 m 90 (j * 20 + k) = T j k := by rw [ub_a (by decide), sp_s]; exact ezk
      have h91 : up (sp D 90 z) 87 7 m 91 k = w k := by rw [ub_a (by decide), sp_a (by decide)]; exact (hwk k k0 kt).1
      have hne : ∀ i l : Int, ¬ (i = j ∧ l = k) → jnT ab T j w (k + 1) i l = jnT ab T j w k i l := fun i l h => by
        unfold jnT
        by_cases c : i = j ∧ 0 ≤ l ∧ l < k
        · rw [cit_t (by omega), cit_t c]
        · rw [cit_f (by omega), cit_f c]
      have hat : jnT ab T j w (k + 1) j k = jnV ab (T j k) (w k) := cit_t (by omega)
      have hat0 : jnT ab T j w k j k = T j k := cit_f (by omega)
      have hsame : jnV ab (T j k) (w k) = T j k → wp 100 2 [vr 87, vi j, vi (k + 1), vu, vu] [] (up (sp D 90 z) 87 7 m, SS L 1 2 2 c4 c5 c6) Q := fun x => by
        have eT : jnT ab T j w (k + 1) = jnT ab T j w k := by
          funext i l
          by_cases c : i = j ∧ l = k
          · rw [c.1, c.2, hat, hat0, x]
          · exact hne i l c
        refine ih (k + 1) z m (by omega) (by omega) (by omega) ?_ ?_
        · rw [eT]; exact hz
        · rw [eT]; exact hm
      have hdiff : ¬ jnV ab (T j k) (w k) = T j k → ∀ v, v = jnV ab (T j k) (w k) → wp 100 2 [vr 87, vi j, vi (k + 1), vu, vu] [] (up (up (up (sp D 90 z) 87 7 m) 90 (j * 20 + k) v) 87 7 1, SS L 1 2 2 c4 c5 c6) Q := fun x v hv => by
        have ew : up (up (up (sp D 90 z) 87 7 m) 90 (j * 20 + k) v) 87 7 1 = up (sp D 90 (fun q => if q = j * 20 + k then v else z q)) 87 7 1 := by
          funext a q
          by_cases ea : a = 87
          · subst ea
            by_cases eq : q = 7
            · rw [eq, ub_s, ub_s]
            · rw [ub_n eq, ub_n eq, ub_a (by decide), ub_n eq, sp_a (by decide), sp_a (by decide)]
          · rw [ub_a ea, ub_a ea]
            by_cases eb : a = 90
            · subst eb
              rw [sp_s]
              by_cases eq : q = j * 20 + k
              · rw [eq, ub_s, if_pos rfl]
              · rw [ub_n eq, if_neg eq, ub_a (by decide), sp_s]
            · rw [ub_a eb, sp_a eb, ub_a ea, sp_a eb]
        rw [ew]
        have hrk := jnV_k hw hal (hTk k k0 kt) (hwk k k0 kt).2 x
        refine ih (k + 1) _ 1 (by omega) (by omega) (by omega) (fun i l i0 i1 l0 l1 => ?_) ⟨fun i l i0 i1 l0 l1 => ?_, Or.inr ⟨rfl, j, k, ⟨j0, j1, k0, by omega⟩, ?_⟩⟩
        · by_cases c : i = j ∧ l = k
          · rw [c.1, c.2, if_pos rfl, hat]; exact hv
          · rw [if_neg (by omega), hne i l c]; exact hz i l i0 i1 l0 l1
        · by_cases c : i = j ∧ l = k
          · rw [c.1, c.2, hat]; exact Nat.le_of_lt hrk
          · rw [hne i l c]; exact hm.1 i l i0 i1 l0 l1
        · rw [hat]; exact hrk
      refine r100_2 ?_
      rw [h6, h90, h91]
      refine ⟨fun _ => ⟨by omega, by omega, by omega, fun g => ⟨by omega, fun g1 => ⟨by omega, hsame ?_⟩, fun g1 => ⟨by omega, by omega, by omega, by omega, hdiff ?_ _ ?_⟩⟩, fun g => ⟨by omega, ab, ⟨?_, hw, hal, ?_, (hwk k k0 kt).2⟩, fun g1 => ⟨by omega, hsame ?_⟩, fun g1 => ⟨by omega, by omega, by omega, by omega, hdiff ?_ _ ?_⟩⟩⟩, fun g => by omega⟩
      · unfold jnV; rw [cit_t g]; exact g1
      · unfold jnV; rw [cit_t g]; exact g1
      · unfold jnV; rw [cit_t g]
      · rw [ub_a (by decide), sp_a (by decide)]; exact hA
      · rcases hTk k k0 kt with x | x
        · omega
        · exact x
      · unfold jnV; rw [cit_f g]; exact g1
      · unfold jnV; rw [cit_f g]; exact g1
      · unfold jnV; rw [cit_f g]
  have e0' : D = up (sp D 90 (D 90)) 87 7 (D 87 7) := by
    funext a q
    by_cases ea : a = 87
    · subst ea
      by_cases eq : q = 7
      · rw [eq, ub_s]
      · rw [ub_n eq, sp_a (by decide)]
    · rw [ub_a ea]
      by_cases eb : a = 90
      · subst eb; rw [sp_s]
      · rw [sp_a eb]
  have eT0 : jnT ab T j w 0 = T := by
    funext i l
    exact cit_f (by omega)
  have := hL _ 0 (D 90) (D 87 7) rfl (by omega) (by omega) (by rw [eT0]; exact hT) (by rw [eT0]; exact TyG.r)
  rw [← e0'] at this
  exact r100_0 this
