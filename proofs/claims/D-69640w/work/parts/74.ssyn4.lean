/-! SafeCode's syntax: bodies, members, classes -/
set_option maxRecDepth 100000
theorem ry_ov {D : Dt} {S : Sx} {Q : Out → Wd → Prop} {x : PR} {X : Nat → List Int} (H1 : ∀ G, (x.1 = true ∧ G 58 2 = x.2 ∧ SR G X) → Q (.inl []) (ov D 58 78 G, S)) (H2 : ∀ G, (¬ x.1 = true ∧ R1 G) → Q (.inr 52) (up (up (ov D 58 78 G) 51 1 2) 51 2 x.2, S)) : RY D S Q x X := by
  refine ⟨fun e D' hf h2 hs => ?_, fun e D' hf hr => ?_⟩
  · rw [ov_ext 58 78 hf]
    exact H1 D' ⟨e, h2, hs⟩
  · rw [ov_ext 58 78 hf]
    exact H2 D' ⟨e, hr⟩
theorem l64a {L c2 c3 c4 c5 c6 : Nat} {D : Dt} {Q : Out → Wd → Prop} {K : TK} (hn : K.n ≤ 4000) : ∀ (N : Nat) (a m : Int) (D1 : Dt) (X : Nat → List Int), (K.n - a).toNat < N → 0 ≤ a → a ≤ K.n → 0 ≤ m → m ≤ a → SKp K (D 54) (D 55) (D 56) (D 57) (D 224) → Frs D D1 → D1 58 2 = a → SR D1 X → XL X a → RY D (SS L 1 c2 c3 c4 c5 c6) Q (pb (plp (fun b => K.w b 13) (fun b => pm (K.ty b) b) N a) (pbody2 K)) (bdX2 K (plp (fun b => K.w b 13) (fun b => pm (K.ty b) b) N a).2 (xad X 67 (m + (pls (fun b => K.w b 13) (fun b => pm (K.ty b) b) N a).length))) → wp 64 19 [vr 58, vi m] [] (D1, SS L 1 c2 c3 c4 c5 c6) Q := by
  intro N
  induction N with
  | zero => intro a _ _ _ h; omega
  | succ N ih =>
    intro a m D1 X hN h0 h1 hm0 hm1 hS hf ha hX hL H
    have hS1 := sk_f hS hf
    refine r64_19 (K := K) ?_
    rw [ha]
    refine ⟨⟨hS1, h0⟩, fun h13 => ?_, fun h13 => ⟨⟨hS1, h0⟩, ⟨hS1, h0, by omega⟩, fun ht => ⟨by omega, ?_⟩, fun ht => ?_⟩⟩
    · have hlt := w_lt h13
      rw [plp_st (st := fun b => K.w b 13) h13, pls_st (st := fun b => K.w b 13) h13] at H
      replace H : RY D (SS L 1 c2 c3 c4 c5 c6) Q (pbody2 K a) (bdX2 K a (xad X 67 (m + 0))) := H
      rw [show m + 0 = m by omega] at H
      obtain ⟨x59, x61, x63, x65, x67, x69, x71, x73, x75, x77⟩ := hX
      have l67 := hL 67
      rw [← x67.1] at l67
      refine ⟨by omega, ⟨x67.2.1, by omega⟩, fun z r ha67 => ⟨⟨hS1, by omega⟩, ?_⟩⟩
      have hX' : SR (sp (sp (up D1 58 2 (a + 1)) 67 z) 68 r) (xad X 67 m) := ⟨x59, x61, x63, x65, x67.add ha67, x69, x71, x73, x75, x77⟩
      have hf' : Frs D (sp (sp (up D1 58 2 (a + 1)) 67 z) 68 r) := hf.t fun b hb => by rw [sp_a (by omega), sp_a (by omega), ub_a (by omega)]
      refine ⟨fun g => l64c hn h0 hlt hS hf' rfl hX' (hL.a (by omega)) (Or.inl g) H, fun g => ⟨⟨hS1, by omega⟩, fun g2 => l64c hn h0 hlt hS hf' rfl hX' (hL.a (by omega)) (Or.inr g2) H, fun g2 => ?_⟩⟩
      refine H.z ?_ hf' hX'.r1
      unfold pbody2
      rw [pm_f (fun x => x.elim g g2)]; rfl
    · have hlt := ht.2
      refine ih (a + 1) (m + 1) _ X (by omega) (by omega) (by omega) (by omega) (by omega) hS (hf.t fun b hb => by rw [ub_a (by omega)]) ub_s hX (hL.le (by omega)) ?_
      rw [plp_go (st := fun b => K.w b 13) (f := fun b => pm (K.ty b) b) h13 (pm_t ht.1), pls_go (st := fun b => K.w b 13) (f := fun b => pm (K.ty b) b) h13] at H
      rw [show (pm (K.ty a) a).2 = a + 1 by rw [pm_t ht.1]] at H
      rw [List.length_cons] at H
      rw [show m + 1 + ((pls (fun b => K.w b 13) (fun b => pm (K.ty b) b) N (a + 1)).length : Int) = m + (((pls (fun b => K.w b 13) (fun b => pm (K.ty b) b) N (a + 1)).length + 1 : Nat) : Int) by omega]
      exact H
    · refine H.z ?_ hf hX.r1
      rw [plp_no (st := fun b => K.w b 13) (f := fun b => pm (K.ty b) b) h13 (pm_f fun x => ht ⟨x, x.1⟩)]; rfl
noncomputable def bdX (K : TK) (a : Int) (X : Nat → List Int) : Nat → List Int := bdX2 K (ptys K (a + 1)).2 (xad X 67 (ltys K (a + 1)).length)
theorem s64 {L c2 c3 c4 c5 c6 : Nat} {D : Dt} {Q : Out → Wd → Prop} {K : TK} (H : ∃ X, (SKp K (D 54) (D 55) (D 56) (D 57) (D 224) ∧ 0 ≤ D 58 2 ∧ D 58 2 ≤ K.n ∧ K.n ≤ 4000 ∧ SR D X ∧ XL X (D 58 2)) ∧ (∀ G, ((pbody K (D 58 2)).1 = true ∧ G 58 2 = (pbody K (D 58 2)).2 ∧ SR G (bdX K (D 58 2) X)) → Q (.inl []) (ov D 58 78 G, SS L 1 c2 c3 c4 c5 c6)) ∧ (∀ G, (¬ (pbody K (D 58 2)).1 = true ∧ R1 G) → Q (.inr 52) (up (up (ov D 58 78 G) 51 1 2) 51 2 (pbody K (D 58 2)).2, SS L 1 c2 c3 c4 c5 c6))) : wp 64 0 [vr 58, vu] [] (D, SS L 1 c2 c3 c4 c5 c6) Q := by
  obtain ⟨X, ⟨hS, h0, h1, hn, hX, hL⟩, H1, H2⟩ := H
  have H := ry_ov H1 H2
  generalize ha : D 58 2 = a at *
  have e0 : pbody K a = pb (pm (K.w a 12) a) fun b => pb (ptys K b) (pbody2 K) := rfl
  rw [e0] at H
  refine r64_0 (K := K) ?_
  rw [ha]
  refine ⟨⟨hS, h0⟩, ⟨hS, h0, by omega⟩, fun g => ?_, fun g => H.z (by rw [pm_f (fun x => g ⟨x, x.1⟩)]; rfl) (fun _ _ => rfl) hX.r1⟩
  have hlt := g.2
  rw [pm_t g.1] at H
  refine l64a (D := D) hn (fu K (a + 1)) (a + 1) 0 _ X (by unfold fu; omega) (by omega) (by omega) (by omega) (by omega) hS (fun b hb => by rw [ub_a (by omega)]) ub_s hX (hL.le (by omega)) ?_
  rw [show (0 : Int) + ((pls (fun b => K.w b 13) (fun b => pm (K.ty b) b) (fu K (a + 1)) (a + 1)).length : Int) = ((ltys K (a + 1)).length : Int) by unfold ltys; omega]
  exact H
theorem lnX_67 {K : TK} {a : Int} {X : Nat → List Int} : lnX K a X 69 = X 69 ∧ lnX K a X 63 = X 63 := ⟨rfl, rfl⟩
/-- a body is not longer than its tokens -/
theorem XL.lns {K : TK} : ∀ (N : Nat) (a : Int) (X : Nat → List Int), XL X a → (plp (fun b => K.w b 8) (pline K) N a).1 = true → XL (lnsX K (pls (fun b => K.w b 8) (pline K) N a) X) (plp (fun b => K.w b 8) (pline K) N a).2
  | 0, _, _, _, h => by cases h
  | N + 1, a, X, hX, h => by
    by_cases h8 : K.w a 8
    · rw [plp_st (st := fun b => K.w b 8) h8, pls_st (st := fun b => K.w b 8) h8]
      exact hX
    · by_cases hp : (pline K a).1 = true
      · have e := PR_t hp
        rw [plp_go (st := fun b => K.w b 8) h8 e] at h
        rw [plp_go (st := fun b => K.w b 8) h8 e, pls_go (st := fun b => K.w b 8) h8]
        have h2 := adv_line K _ _ e
        exact XL.lns N _ (lnX K a X) (hX.ln (by omega)) h
      · rw [plp_no (st := fun b => K.w b 8) h8 (PR_f hp)] at h
        cases h
theorem XL.bd {K : TK} {a : Int} {X : Nat → List Int} (hX : XL X a) (h : (pbody K a).1 = true) : XL (bdX K a X) (pbody K a).2 := by
  have e := PR_t h
  generalize (pbody K a).2 = b at e ⊢
  have e0 : pbody K a = pb (pm (K.w a 12) a) fun b => pb (ptys K b) (pbody2 K) := rfl
  rw [e0] at e
  obtain ⟨c1, g1, e⟩ := pb_t e
  obtain ⟨c2, g2, e⟩ := pb_t e
  obtain ⟨c3, g3, e⟩ := pb_t e
  obtain ⟨c4, g4, e⟩ := pb_t e
  obtain ⟨c5, g5, e⟩ := pb_t e
  obtain ⟨c6, g6, e⟩ := pb_t e
  have g1' := (pm_e g1).2
  have g2' := plp_ok (adv_tys K) _ _ _ g2
  have g3' := (pm_e g3).2
  have g4' := (pm_e g4).2
  have g5' := (pm_e g5).2
  cases e
  subst g1'
  have e5 : c5 = c2 + 4 := by omega
  subst e5
  unfold bdX bdX2
  rw [show (ptys K (a + 1)).2 = c2 by rw [g2], show (plines K (c2 + 4)).2 = c6 by rw [g6]]
  have h1 := XL.lns (K := K) (fu K (c2 + 4)) (c2 + 4) (xad X 67 (ltys K (a + 1)).length) (hX.a (by omega)) (by show (plines K (c2 + 4)).1 = true; rw [g6])
  have h2 : XL (lnsX K (llines K (c2 + 4)) (xad X 67 (ltys K (a + 1)).length)) c6 := by
    have h3 : (plp (fun b => K.w b 8) (pline K) (fu K (c2 + 4)) (c2 + 4)).2 = c6 := by show (plines K (c2 + 4)).2 = c6; rw [g6]
    rw [h3] at h1
    exact h1
  exact h2.a (by omega)
