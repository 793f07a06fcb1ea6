/-! names: members, one after the other -/
set_option maxRecDepth 100000
theorem nbq {p q : Nat} (h : ¬ p = q) : Nat.beq p q = false := by
  cases e : Nat.beq p q with
  | true => exact absurd (Nat.eq_of_beq_eq_true e) h
  | false => rfl
def FLn (X : XB) : Prop := (X 1).length = (X 0).length ∧ (X 2).length = (X 0).length ∧ (X 3).length = (X 0).length
noncomputable def fdA (K : TK) (ns ab : List Int) (X : XB) (c t : Int) : XB := fun p =>
  bif Nat.beq p 0 then X 0 ++ [c] else bif Nat.beq p 1 then X 1 ++ [t + 1] else bif Nat.beq p 2 then X 2 ++ [tyOf K ns (t + 2)] else bif Nat.beq p 3 then X 3 ++ [fab ab (X 0) c] else X p
theorem fdA_n {K : TK} {ns ab : List Int} {X : XB} {c t : Int} {p : Nat} (h : 4 ≤ p) : fdA K ns ab X c t p = X p := by
  unfold fdA
  rw [nbq (p := p) (q := 0) (by omega), nbq (p := p) (q := 1) (by omega), nbq (p := p) (q := 2) (by omega), nbq (p := p) (q := 3) (by omega)]
  rfl
/-- types, result and locals of a head are right -/
def hok (K : TK) (ns : List Int) (t : Int) : Prop := tyF K ns t 0 < 0 ∧ (K.w (bbp K t + 1) 14 ∨ ¬ tyOf K ns (bbp K t + 1) < 0) ∧ (pcO K t ≤ K.val (bbp K t + 2) ∧ K.val (bbp K t + 2) ≤ 12)
theorem hfa_t {K : TK} {ns ab : List Int} {X : XB} {c t : Int} (h : (hfa K ns ab X c t).1 = true) : hd1 K ab X c t ∧ (X 4).length < 48 ∧ hok K ns t := by
  unfold hfa at h
  rcases Classical.em (hd1 K ab X c t ∧ (X 4).length < 48) with h1 | h1
  · rw [cit_t h1] at h
    rcases Classical.em (tyF K ns t 0 < 0) with h2 | h2
    · rw [cit_t h2] at h
      rcases Classical.em (K.w (bbp K t + 1) 14 ∨ ¬ tyOf K ns (bbp K t + 1) < 0) with h3 | h3
      · rw [cit_t h3] at h
        rcases Classical.em (pcO K t ≤ K.val (bbp K t + 2) ∧ K.val (bbp K t + 2) ≤ 12) with h4 | h4
        · exact ⟨h1.1, h1.2, h2, h3, h4⟩
        · rw [cit_f h4] at h; exact Bool.noConfusion h
      · rw [cit_f h3] at h; exact Bool.noConfusion h
    · rw [cit_f h2] at h; exact Bool.noConfusion h
  · rw [cit_f h1] at h; exact Bool.noConfusion h
theorem ffa_t {K : TK} {ns ab fc fn : List Int} {c t : Int} (h : (ffa K ns ab fc fn c t).1 = true) : nea K ab fc fn c (K.tf (t + 1)) (K.tt (t + 1)) < 0 ∧ ¬ fc.length = 48 ∧ ¬ tyOf K ns (t + 2) < 0 := by
  unfold ffa at h
  rcases Classical.em (¬ nea K ab fc fn c (K.tf (t + 1)) (K.tt (t + 1)) < 0 ∨ fc.length = 48) with h1 | h1
  · rw [cit_t h1] at h; exact Bool.noConfusion h
  · rw [cit_f h1] at h
    rcases Classical.em (tyOf K ns (t + 2) < 0) with h2 | h2
    · rw [cit_t h2] at h; exact Bool.noConfusion h
    · exact ⟨Classical.not_not.mp fun x => h1 (Or.inl x), fun x => h1 (Or.inr x), h2⟩
theorem shd_s {K : TK} {t u : Int} (h : shd K t u) : shd K u t := ⟨h.1.symm, fun j j0 j1 => same_s (h.2.1 j j0 (by have := h.1; omega)), same_s h.2.2⟩
theorem shd_t {K : TK} {t u v : Int} (h : shd K t u) (h2 : shd K u v) : shd K t v := ⟨h.1.trans h2.1, fun j j0 j1 => same_t (h.2.1 j j0 j1) (h2.2.1 j j0 (by have := h.1; omega)), same_t h.2.2 h2.2.2⟩
theorem nm_same {K : TK} {l2 : List Int} {t i : Int} : nmP K l2 (K.tf t) (K.tt t) i ↔ K.same t (lf l2 i) := Iff.rfl
/-- what holds of fields and bodies while members are read -/
def GI (K : TK) (ns ab : List Int) (X : XB) (c : Int) : Prop := (FLn X ∧ BLn X ∧ BOK K X ∧ UNQ K ab (X 0) (X 1) ∧ (X 0).length ≤ 48 ∧ (X 4).length ≤ 48) ∧
  (∀ i : Int, 0 ≤ i → i < (X 0).length → (8 ≤ lf (X 0) i ∧ lf (X 0) i ≤ c) ∧ tyR (8 + ns.length) (lf (X 2) i) ∧ lf (X 3) i = fab ab ((X 0).take i.toNat) (lf (X 0) i)) ∧
  (∀ b : Int, 0 ≤ b → b < (X 4).length → (8 ≤ lf (X 4) b ∧ lf (X 4) b ≤ c) ∧ hok K ns (lf (X 12) b) ∧ lf (X 7) b = pcO K (lf (X 12) b) ∧ lf (X 8) b = rsO K ns (lf (X 12) b) ∧ lf (X 9) b = K.val (bbp K (lf (X 12) b) + 2) ∧ X (20 + b.toNat) = pyO K ns (lf (X 4) b) (lf (X 12) b)) ∧
  (∀ b b' : Int, 0 ≤ b → b < (X 4).length → 0 ≤ b' → b' < (X 4).length → ¬ b = b' → K.same (lf (X 5) b) (lf (X 5) b') → cbl ab (lf (X 4) b) (lf (X 4) b') → K.w (lf (X 12) b) 11 ∧ K.w (lf (X 12) b') 11 ∧ shd K (lf (X 12) b) (lf (X 12) b'))
theorem GI.c {K : TK} {ns ab : List Int} {X : XB} {c d : Int} (h : GI K ns ab X c) (hd : c ≤ d) : GI K ns ab X d := by
  obtain ⟨h1, h2, h3, h4⟩ := h
  exact ⟨h1, fun i i0 i1 => by have := h2 i i0 i1; exact ⟨by omega, this.2⟩, fun b b0 b1 => by have := h3 b b0 b1; exact ⟨by omega, this.2⟩, h4⟩
theorem take_a {l : List Int} {v : Int} {n : Nat} (h : n ≤ l.length) : (l ++ [v]).take n = l.take n := List.take_append_of_le_length h
theorem GI.f {K : TK} {ns ab : List Int} {X : XB} {c t : Int} (hw : ABw ab) (h : GI K ns ab X c) (h8 : 8 ≤ c) (hc : c < 8 + ab.length) (hf : (ffa K ns ab (X 0) (X 1) c t).1 = true) : GI K ns ab (fdA K ns ab X c t) c := by
  obtain ⟨⟨⟨f1, f2, f3⟩, h1, h2, hu, h48, h484⟩, hF, hB, hO⟩ := h
  obtain ⟨g1, g2, g3⟩ := ffa_t hf
  have hbok : BOK K (fdA K ns ab X c t) := by
    intro b b0 b1
    have := h2 b b0 (by rw [← fdA_n (K := K) (ns := ns) (ab := ab) (X := X) (c := c) (t := t) (p := 4) (by decide)]; exact b1)
    rw [fdA_n (by omega), fdA_n (by omega), fdA_n (by omega), fdA_n (by omega), fdA_n (by omega), fdA_n (by omega)]
    exact this
  refine ⟨⟨⟨?_, ?_, ?_⟩, h1, hbok, ?_, ?_, h484⟩, fun i i0 i1 => ?_, fun b b0 b1 => ?_, hO⟩
  · show (X 1 ++ [t + 1]).length = (X 0 ++ [c]).length
    rw [len_app, len_app, f1]
  · show (X 2 ++ [tyOf K ns (t + 2)]).length = (X 0 ++ [c]).length
    rw [len_app, len_app, f2]
  · show (X 3 ++ [fab ab (X 0) c]).length = (X 0 ++ [c]).length
    rw [len_app, len_app, f3]
  · intro d a b i j hd i0 i1 j0 j1
    have i1 : i < (X 0 ++ [c]).length := i1
    have j1 : j < (X 0 ++ [c]).length := j1
    rw [len_app] at i1 j1
    show cbl ab d (lf (X 0 ++ [c]) i) → nmP K (X 1 ++ [t + 1]) a b i → cbl ab d (lf (X 0 ++ [c]) j) → nmP K (X 1 ++ [t + 1]) a b j → i = j
    have key : ∀ i : Int, 0 ≤ i → i < (X 0).length → cbl ab d (lf (X 0) i) → sameP K.tx a b (K.tf (lf (X 1) i)) (K.tt (lf (X 1) i)) → cbl ab d c → sameP K.tx a b (K.tf (t + 1)) (K.tt (t + 1)) → False := by
      intro i i0 i1 y1 y2 y3 y4
      have hi := (hF i i0 i1).1
      have h5 := cbl_lin hw hi.2 _ d (Nat.lt_succ_self _) hd y3 y1
      rcases nea_b (K := K) (l1 := X 0) (l2 := X 1) (a := K.tf (t + 1)) (b := K.tt (t + 1)) hw _ c (Nat.lt_succ_self _) hc with ⟨_, q⟩ | ⟨q, _⟩
      · exact q i i0 i1 ⟨h5, sameP_t (sameP_s y4) y2⟩
      · omega
    have en : lf (X 0 ++ [c]) (X 0).length = c := lf_e
    have en1 : lf (X 1 ++ [t + 1]) (X 0).length = t + 1 := by rw [← f1]; exact lf_e
    by_cases ei : i < (X 0).length
    · by_cases ej : j < (X 0).length
      · unfold nmP
        rw [lf_a i0 ei, lf_a j0 ej, lf_a i0 (by omega), lf_a j0 (by omega)]
        intro y1 y2 y3 y4
        exact hu d a b i j hd i0 ei j0 ej y1 y2 y3 y4
      · have e : j = (X 0).length := by omega
        rw [e]
        unfold nmP
        rw [lf_a i0 ei, lf_a i0 (by omega), en, en1]
        intro y1 y2 y3 y4
        exact (key i i0 ei y1 y2 y3 y4).elim
    · have e : i = (X 0).length := by omega
      rw [e]
      by_cases ej : j < (X 0).length
      · unfold nmP
        rw [lf_a j0 ej, lf_a j0 (by omega), en, en1]
        intro y1 y2 y3 y4
        exact (key j j0 ej y3 y4 y1 y2).elim
      · intro _ _ _ _; omega
  · show (X 0 ++ [c]).length ≤ 48
    rw [len_app]; omega
  · have i1 : i < (X 0 ++ [c]).length := i1
    rw [len_app] at i1
    show (8 ≤ lf (X 0 ++ [c]) i ∧ lf (X 0 ++ [c]) i ≤ c) ∧ tyR (8 + ns.length) (lf (X 2 ++ [tyOf K ns (t + 2)]) i) ∧ lf (X 3 ++ [fab ab (X 0) c]) i = fab ab ((X 0 ++ [c]).take i.toNat) (lf (X 0 ++ [c]) i)
    by_cases ei : i < (X 0).length
    · rw [lf_a i0 ei, lf_a i0 (by omega), lf_a i0 (by omega), take_a (by omega)]
      exact hF i i0 ei
    · have e : i = (X 0).length := by omega
      have e2 : lf (X 2 ++ [tyOf K ns (t + 2)]) i = tyOf K ns (t + 2) := by rw [e, ← f2]; exact lf_e
      have e3 : lf (X 3 ++ [fab ab (X 0) c]) i = fab ab (X 0) c := by rw [e, ← f3]; exact lf_e
      rw [e2, e3, e, lf_e, Int.toNat_natCast, take_a (by omega), List.take_length]
      exact ⟨by omega, tyOf_r g3, rfl⟩
  · have := hB b b0 b1
    rw [fdA_n (by omega), fdA_n (by omega), fdA_n (by omega), fdA_n (by omega), fdA_n (by omega), fdA_n (by omega)]
    exact this
theorem GI.b {K : TK} {ns ab : List Int} {X : XB} {c t m : Int} (hw : ABw ab) (h : GI K ns ab X c) (h8 : 8 ≤ c) (hc : c < 8 + ab.length) (ht : MOK K t) (hm : 0 ≤ m ∧ m < (mms K).length ∧ lf (mms K) m = t) (hf : (hfa K ns ab X c t).1 = true) : GI K ns ab (bdA K ns X c t m) c := by
  obtain ⟨⟨hfl, hl, hbo, hu, h48, h484⟩, hF, hB, hO⟩ := h
  obtain ⟨g1, g2, g3⟩ := hfa_t hf
  have hl' := hl
  obtain ⟨l5, l6, l7, l8, l9, l10, l11, l12⟩ := hl'
  have xe : ∀ p : Nat, p < 4 → bdA K ns X c t m p = X p := fun p hp => by
    unfold bdA
    rw [nbq (p := p) (q := 4) (by omega), nbq (p := p) (q := 5) (by omega), nbq (p := p) (q := 6) (by omega), nbq (p := p) (q := 7) (by omega), nbq (p := p) (q := 8) (by omega), nbq (p := p) (q := 9) (by omega), nbq (p := p) (q := 10) (by omega), nbq (p := p) (q := 11) (by omega), nbq (p := p) (q := 12) (by omega), nbq (p := p) (q := 20 + (X 4).length) (by omega)]
    rfl
  refine ⟨⟨?_, hl.a, hbo.a hl ht hm (by have := g3.2.2; omega), ?_, ?_, ?_⟩, ?_, fun b b0 b1 => ?_, fun b b' b0 b1 b0' b1' hne hs hcb => ?_⟩
  · unfold FLn; rw [xe 0 (by decide), xe 1 (by decide), xe 2 (by decide), xe 3 (by decide)]; exact hfl
  · rw [xe 0 (by decide), xe 1 (by decide)]; exact hu
  · rw [xe 0 (by decide)]; exact h48
  · show (X 4 ++ [c]).length ≤ 48
    rw [len_app]; omega
  · rw [xe 0 (by decide), xe 2 (by decide), xe 3 (by decide)]; exact hF
  · have b1 : b < (X 4 ++ [c]).length := b1
    rw [len_app] at b1
    show (8 ≤ lf (X 4 ++ [c]) b ∧ lf (X 4 ++ [c]) b ≤ c) ∧ hok K ns (lf (X 12 ++ [t]) b) ∧ lf (X 7 ++ [pcO K t]) b = pcO K (lf (X 12 ++ [t]) b) ∧ lf (X 8 ++ [rsO K ns t]) b = rsO K ns (lf (X 12 ++ [t]) b) ∧ lf (X 9 ++ [K.val (bbp K t + 2)]) b = K.val (bbp K (lf (X 12 ++ [t]) b) + 2) ∧ _ = pyO K ns (lf (X 4 ++ [c]) b) (lf (X 12 ++ [t]) b)
    by_cases e : b < (X 4).length
    · rw [bdA_p (by omega), lf_a b0 e, lf_a b0 (by omega), lf_a b0 (by omega), lf_a b0 (by omega), lf_a b0 (by omega)]
      exact hB b b0 e
    · have e2 : b = (X 4).length := by omega
      have e4 : lf (X 4 ++ [c]) b = c := by rw [e2]; exact lf_e
      have e12 : lf (X 12 ++ [t]) b = t := by rw [e2, ← l12]; exact lf_e
      have e7 : lf (X 7 ++ [pcO K t]) b = pcO K t := by rw [e2, ← l7]; exact lf_e
      have e8 : lf (X 8 ++ [rsO K ns t]) b = rsO K ns t := by rw [e2, ← l8]; exact lf_e
      have e9 : lf (X 9 ++ [K.val (bbp K t + 2)]) b = K.val (bbp K t + 2) := by rw [e2, ← l9]; exact lf_e
      rw [e4, e12, e7, e8, e9, show b.toNat = (X 4).length by omega, bdA_n]
      exact ⟨by omega, g3, rfl, rfl, rfl, rfl⟩
  · have b1 : b < (X 4 ++ [c]).length := b1
    have b1' : b' < (X 4 ++ [c]).length := b1'
    rw [len_app] at b1 b1'
    have hs : K.same (lf (X 5 ++ [t + 1]) b) (lf (X 5 ++ [t + 1]) b') := hs
    have hcb : cbl ab (lf (X 4 ++ [c]) b) (lf (X 4 ++ [c]) b') := hcb
    show K.w (lf (X 12 ++ [t]) b) 11 ∧ K.w (lf (X 12 ++ [t]) b') 11 ∧ shd K (lf (X 12 ++ [t]) b) (lf (X 12 ++ [t]) b')
    have en4 : lf (X 4 ++ [c]) (X 4).length = c := lf_e
    have en5 : lf (X 5 ++ [t + 1]) (X 4).length = t + 1 := by rw [← l5]; exact lf_e
    have en12 : lf (X 12 ++ [t]) (X 4).length = t := by rw [← l12]; exact lf_e
    by_cases e : b < (X 4).length
    · by_cases e' : b' < (X 4).length
      · rw [lf_a b0 (by omega), lf_a b0' (by omega)] at hs hcb ⊢
        exact hO b b' b0 e b0' e' hne hs hcb
      · have e2 : b' = (X 4).length := by omega
        rw [e2, en4, lf_a b0 e] at hcb
        rw [e2, en5, lf_a b0 (by omega)] at hs
        have h5 := (hB b b0 e).1
        have h6 := cbl_le hw _ (lf (X 4) b) (Nat.lt_succ_self _) (by omega) hcb
        exact absurd (same_s hs) (fun x => fs_no (P := fun i => lf (X 4) i = c ∧ nmP K (X 5) (K.tf (t + 1)) (K.tt (t + 1)) i) (k := 0) (n := (X 4).length) (by decide) g1.1 b b0 e ⟨by omega, x⟩)
    · have e2 : b = (X 4).length := by omega
      by_cases e' : b' < (X 4).length
      · rw [e2, en4, lf_a b0' e'] at hcb
        rw [e2, en5, lf_a b0' (by omega)] at hs
        rw [e2, en12, lf_a b0' (by omega)]
        have hnc : ¬ c = lf (X 4) b' := fun x => fs_no (P := fun i => lf (X 4) i = c ∧ nmP K (X 5) (K.tf (t + 1)) (K.tt (t + 1)) i) (k := 0) (n := (X 4).length) (by decide) g1.1 b' b0' e' ⟨x.symm, hs⟩
        have h5 := (cbl_s hw (by omega) hc hnc).mp hcb
        have hac := abF_w hw (c := c) (by omega) hc
        have h6 := nea_nr (K := K) (l1 := X 4) (l2 := X 5) (a := K.tf (t + 1)) (b := K.tt (t + 1)) hw _ (abF ab c) (Nat.lt_succ_self _) (by omega) b' b0' e' h5 hs
        rcases nea_b (K := K) (l1 := X 4) (l2 := X 5) (a := K.tf (t + 1)) (b := K.tt (t + 1)) hw _ (abF ab c) (Nat.lt_succ_self _) (by omega) with ⟨_, q⟩ | ⟨q1, q2, _, q4⟩
        · exact absurd ⟨h5, hs⟩ (q b' b0' e')
        · obtain ⟨_, x | ⟨x1, x2, x3⟩⟩ := g1
          · omega
          · generalize nea K ab (X 4) (X 5) (abF ab c) (K.tf (t + 1)) (K.tt (t + 1)) = R at *
            by_cases eR : R = b'
            · rw [← eR]; exact ⟨x1, x2, x3⟩
            · have := hO R b' q1 q2 b0' e' eR (same_t (same_s q4) hs) h6
              exact ⟨x1, this.2.1, shd_t x3 this.2.2⟩
      · omega
