/-! a loaded program has what the types need -/
set_option maxRecDepth 100000
theorem tyR_s {n t : Int} (h : tyR n t) : tyS n t := by
  unfold tyR at h
  unfold tyS
  omega
theorem px_t {K : TK} {ns ab : List Int} {X Y : XB} (h : PX K ns ab X Y) : PT ns ab X Y := by
  have hh := px_h h
  obtain ⟨⟨⟨g1, g2, g3, g4, g5, g6⟩, gf, gb, _⟩, hSB, hab, _⟩ := h
  have hl := hab.2.2
  refine ⟨hh, hab, ⟨g1.2.1, g5⟩, fun f f0 f1 => ?_, fun b b0 b1 => ?_⟩
  · have := tyR_s (gf f f0 f1).2.1
    rw [hl] at this
    exact this
  · obtain ⟨h4, hk, e7, e8, e9, e20⟩ := gb b b0 b1
    have ho := g3 b b0 b1
    have hlt := ho.2.1.lt
    have hi := ib_01 (K.w (lf (X 12) b) 11)
    have hb4 := hSB.2.2 b b0 b1
    have hp0 : 0 ≤ pcO K (lf (X 12) b) := by unfold pcO; omega
    have e20l : ((X (20 + b.toNat)).length : Int) = lf (X 7) b := by
      rw [e20, e7]
      unfold pyO
      rw [List.length_map, List.length_range]
      omega
    have hv : ∀ k : Int, 0 ≤ k → k < lf (X 7) b → lf (X (20 + b.toNat)) k = cit (K.w (lf (X 12) b) 11 ∧ k.toNat = 0) (16 + lf (X 4) b) (tyOf K ns (lf (X 12) b + 3 + (k.toNat : Int) - ib (K.w (lf (X 12) b) 11))) := fun k k0 k1 => by
      rw [e20]
      unfold pyO
      rw [lf_m k0 (by omega)]
    refine ⟨?_, e20l, fun k k0 k1 => ?_, by have := hk.2.2; omega, by have := hk.2.2; omega, fun g => ⟨?_, ?_⟩, by omega⟩
    · rw [e8]
      unfold rsO
      rcases Classical.em (K.w (bbp K (lf (X 12) b) + 1) 14) with y | y
      · rw [cit_t y]; exact Or.inl rfl
      · rw [cit_f y]
        rcases hk.2.1 with z | z
        · exact absurd z y
        · have := tyR_s (tyOf_r z)
          rw [hl] at this
          exact Or.inr this
    · rw [hv k k0 k1]
      rcases Classical.em (K.w (lf (X 12) b) 11 ∧ k.toNat = 0) with y | y
      · rw [cit_t y]; unfold tyS; omega
      · rw [cit_f y]
        have hj : 0 ≤ (k.toNat : Int) - ib (K.w (lf (X 12) b) 11) := by
          rcases Classical.em (K.w (lf (X 12) b) 11) with z | z
          · rw [ib_t z]
            have : ¬ k.toNat = 0 := fun u => y ⟨z, u⟩
            omega
          · rw [ib_f z]; omega
        have hn := fs_no (P := fun j => tyOf K ns (lf (X 12) b + 3 + j) < 0) (k := 0) (n := tcO K (lf (X 12) b)) (Int.le_refl _) hk.1 ((k.toNat : Int) - ib (K.w (lf (X 12) b) 11)) hj (by rw [e7] at k1; unfold pcO at k1; omega)
        have e : lf (X 12) b + 3 + ((k.toNat : Int) - ib (K.w (lf (X 12) b) 11)) = lf (X 12) b + 3 + (k.toNat : Int) - ib (K.w (lf (X 12) b) 11) := by omega
        rw [e] at hn
        have := tyR_s (tyOf_r hn)
        rw [hl] at this
        exact this
    · have e6 := ho.2.2.2.2.1
      have hw : K.w (lf (X 12) b) 11 := Classical.byContradiction fun z => by rw [ib_f z] at e6; omega
      rw [e7]
      unfold pcO
      rw [ib_t hw]
      omega
    · have e6 := ho.2.2.2.2.1
      have hw : K.w (lf (X 12) b) 11 := Classical.byContradiction fun z => by rw [ib_f z] at e6; omega
      rw [hv 0 (Int.le_refl _) (by rw [e7]; unfold pcO; rw [ib_t hw]; omega)]
      exact cit_t ⟨hw, rfl⟩
theorem ps_s {K : TK} {ns ab : List Int} {X Y : XB} {D : Dt} (h : PS K ns ab X Y D) : SCt ab X Y D := ⟨⟨h.2.2.2.2.1, h.2.2.2.2.2.1, h.2.2.2.1.2.2.1, h.2.2.2.1.2.2.2.1, h.2.2.2.1.1.1⟩, h.2.1.1, h.2.2.1.2.1, h.2.2.2.1.2.2.2.2.2.2.2⟩
theorem pm_m {K : TK} {ns ab : List Int} {X Y : XB} {D : Dt} (h : PMo K ns ab X Y D) : MCt ab X Y D := ⟨⟨h.2.2.2.2.1, h.2.2.2.2.2.1, h.2.2.2.1.2.2.1, h.2.2.2.1.2.2.2.1, h.2.2.2.1.1.1⟩, h.2.1, h.2.2.1.2, h.2.2.2.1.2.2.2.2.2.2⟩
