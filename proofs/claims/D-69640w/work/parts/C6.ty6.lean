/-! types: SafeCode's, all sweeps -/
set_option maxRecDepth 100000
section Tx
theorem sw_v {ns ab : List Int} {X Y : XB} {b : Int} (hC : TC ns ab X Y b) : ∀ (n : Nat) (i : Int) (T : TyT), lf (Y 11) b ≤ i → i + n ≤ lf (Y 12) b → TV ab X Y b T → TV ab X Y b (swT ab X Y b n i T) ∧ TO (lf (Y 11) b) (lf (Y 12) b) T (swT ab X Y b n i T)
  | 0, _, T, _, _, h => ⟨h, TO.r⟩
  | n + 1, i, T, i0, i1, h => by
    have h1 := st_v hC h (i := i) i0 (by omega)
    have h2 := sw_v hC n (i + 1) _ (by omega) (by omega) h1.1
    exact ⟨h2.1, h1.2.t h2.2⟩
theorem sw_a {ns ab : List Int} {X Y : XB} {b : Int} (hC : TC ns ab X Y b) {T : TyT} (h : TV ab X Y b T) : TV ab X Y b (swA ab X Y b T) ∧ TO (lf (Y 11) b) (lf (Y 12) b) T (swA ab X Y b T) := by
  have hr := hC.1.1.rg hC.2.1.1 hC.2.1.2
  exact sw_v hC _ _ T (Int.le_refl _) (by omega) h
theorem pw_s {ns ab : List Int} {X Y : XB} {b : Int} (hC : TC ns ab X Y b) : ∀ k : Int, 0 ≤ k → k < 12 → tyS (8 + ab.length) (pw0 X b k) := by
  intro k k0 k1
  unfold pw0
  rcases Classical.em (k < lf (X 7) b) with g | g
  · rw [cit_t g]; exact (hC.1.2.2.2.2 b hC.2.1.1 hC.2.1.2).2.2.1 k k0 g
  · rw [cit_f g]; exact Or.inr (Or.inr (Or.inl rfl))
theorem ht_f {ns ab : List Int} {X Y : XB} {b : Int} (hC : TC ns ab X Y b) : htF X Y b (lf (Y 11) b) = 0 := by
  have hr := hC.1.1.rg hC.2.1.1 hC.2.1.2
  exact ht_u (n := 0) (hC.2.2 _ (Int.le_refl _) (by omega)) (by decide) rch_0
theorem tz_v {ns ab : List Int} {X Y : XB} {b : Int} (hC : TC ns ab X Y b) : TV ab X Y b (tyZ ab X Y b) := by
  have hr := hC.1.1.rg hC.2.1.1 hC.2.1.2
  have h0 := ht_f hC
  have hv : TV ab X Y b (fun _ _ => -1) := fun i _ _ => Or.inl fun _ _ _ => rfl
  have := TV.j hC hv (j := lf (Y 11) b) (Int.le_refl _) (by omega) (by omega) (w := pw0 X b) (fun k k0 k1 => pw_s hC k k0 (by omega))
  rw [h0] at this
  exact this
end Tx
theorem l99 {L c4 c5 c6 : Nat} {D : Dt} {Q : Out → Wd → Prop} {ns ab : List Int} {X Y : XB} {b ca ce : Int} (hS : SCt ab X Y D) (hC : TC ns ab X Y b) (hca : CaR Y b ca ce) (h217 : ∀ i : Int, lf (Y 11) b ≤ i → i < lf (Y 12) b → D 217 i = htF X Y b i) (Hk : ∀ E, FrE D E → tyFin ab X Y b (tyL ab X Y b) → TV ab X Y b (tyL ab X Y b) → TR (lf (Y 11) b) (lf (Y 12) b) (tyL ab X Y b) (E 90) → wp 99 315 [vr 87, vi b, vu, vu, vi (lf (Y 11) b), vu] [] (E, SS L 1 2 2 c4 c5 c6) Q) : wp 99 0 [vr 87, vi b, vi ca, vi ce, vu, vu] [] (D, SS L 1 2 2 c4 c5 c6) Q := by
  have hr := hC.1.1.rg hC.2.1.1 hC.2.1.2
  have h48 := hC.1.1.2.2.1
  have b0 := hC.2.1.1
  have b1 := hC.2.1.2
  have l11 := hC.1.1.1.2.1.1
  have l12 := hC.1.1.1.2.1.2
  have hal := hC.1.2.1.2.1
  have e211 : ∀ E', FrE D E' → E' 211 b = lf (Y 12) b := fun E' f' => by rw [f'.1 211 (by decide) (by decide) (by decide)]; exact hS.1.2.1.2 b b0 (by omega)
  have e210 : ∀ E', FrE D E' → E' 210 b = lf (Y 11) b := fun E' f' => by rw [f'.1 210 (by decide) (by decide) (by decide)]; exact hS.1.2.1.1 b b0 (by omega)
  -- sweeps
  have h120 : ∀ (M : Nat) (n : Nat) (E : Dt), 2000 * (lf (Y 12) b - lf (Y 11) b).toNat - trk (itT ab X Y b n) (lf (Y 11) b) (lf (Y 12) b) < M → FrE D E → TV ab X Y b (itT ab X Y b n) → TR (lf (Y 11) b) (lf (Y 12) b) (itT ab X Y b n) (E 90) → wp 99 120 [vr 87, vi b, vi ca, vi ce, vu, vu] [] (E, SS L 1 2 2 c4 c5 c6) Q := by
    intro M
    induction M with
    | zero => intro n E h; omega
    | succ M ih =>
      intro n E hM f hV hT
      have hsw : ∀ (N : Nat) (i : Int) (E1 : Dt) (T1 : TyT), (lf (Y 12) b - i).toNat = N → lf (Y 11) b ≤ i → i ≤ lf (Y 12) b → FrE D E1 → TV ab X Y b T1 → TO (lf (Y 11) b) (lf (Y 12) b) (itT ab X Y b n) T1 → TR (lf (Y 11) b) (lf (Y 12) b) T1 (E1 90) → TyG (lf (Y 11) b) (lf (Y 12) b) (itT ab X Y b n) 0 T1 (E1 87 7) → swT ab X Y b N i T1 = swA ab X Y b (itT ab X Y b n) → wp 99 136 [vr 87, vi b, vi ca, vi ce, vi i, vu] [] (E1, SS L 1 2 2 c4 c5 c6) Q := by
        intro N
        induction N with
        | zero =>
          intro i E1 T1 e i0 i1 f1 v1 o1 t1 g1 es
          have es : T1 = itT ab X Y b (n + 1) := es
          have q11 := e211 E1 f1
          refine r99_136 ⟨by omega, fun x => by omega, fun _ => ⟨fun g => ⟨by omega, ?_⟩, fun g => ?_⟩⟩
          · have hsame : T1 = itT ab X Y b n := by
              funext i k
              by_cases c : lf (Y 11) b ≤ i ∧ i < lf (Y 12) b ∧ 0 ≤ k ∧ k < 20
              · rcases g1.2 with x | x
                · exact x.2 i k c.1 c.2.1 c.2.2.1 c.2.2.2
                · omega
              · exact o1 i k c
            have hfin : tyFin ab X Y b T1 := ⟨⟨n + 1, es⟩, by
              have h2 : itT ab X Y b (n + 1) = itT ab X Y b n := es.symm.trans hsame
              rw [hsame]
              exact h2⟩
            have eL := fin_e hfin
            rw [e210 E1 f1]
            rw [eL] at hfin v1 t1
            exact Hk E1 f1 hfin v1 t1
          · have hlt : trk (itT ab X Y b n) (lf (Y 11) b) (lf (Y 12) b) < trk T1 (lf (Y 11) b) (lf (Y 12) b) := by
              refine trk_lt g1.1 ?_
              rcases g1.2 with x | x
              · exact absurd x.1 g
              · exact x.2
            have hb2 := trk_b T1 (lf (Y 11) b) (lf (Y 12) b)
            rw [es] at hlt hb2 v1 t1
            exact ih (n + 1) E1 (by omega) f1 v1 t1
        | succ N ihN =>
          intro i E1 T1 e i0 i1 f1 v1 o1 t1 g1 es
          have hst := st_v hC v1 (i := i) i0 (by omega)
          refine l99i (D := D) hS hC hca h217 i0 (by omega) f1 v1 t1 g1 (fun E2 q1 q2 q3 => ihN (i + 1) E2 (stT ab X Y b T1 i) (by omega) (by omega) (by omega) q1 hst.1 (o1.t hst.2) q2 q3 es)
      refine r99_120 ⟨by omega, ?_⟩
      rw [e210 E f]
      refine hsw _ _ (up E 87 7 0) _ rfl (Int.le_refl _) (by omega) (f.u (Or.inr (Or.inr ⟨rfl, Or.inr rfl⟩))) hV TO.r (by rw [ub_a (by decide)]; exact hT) (by rw [ub_s]; exact TyG.r) rfl
  -- parameters
  have hpb := hC.1.2.2.2.2 b b0 b1
  have h7 : ∀ E', FrE D E' → E' 206 b = lf (X 7) b := fun E' f' => by rw [f'.1 206 (by decide) (by decide) (by decide)]; exact hS.1.2.2.1 b b0 (by have := hC.1.1.2.1.2.2.1; omega)
  have h48' : ∀ (M : Nat) (k : Int) (E : Dt), (12 - k).toNat = M → 0 ≤ k → k ≤ 12 → FrE D E → (∀ i q : Int, lf (Y 11) b ≤ i → i < lf (Y 12) b → 0 ≤ q → q < 20 → E 90 (i * 20 + q) = -1) → (∀ q : Int, 0 ≤ q → q < k → E 91 q = pw0 X b q) → wp 99 48 [vr 87, vi b, vi ca, vi ce, vi k, vu] [] (E, SS L 1 2 2 c4 c5 c6) Q := by
    intro M
    induction M with
    | zero =>
      intro k E e k0 k1 f hz hp
      have q10 := e210 E f
      refine r99_48 ⟨fun x => by omega, fun _ => ⟨by omega, ?_⟩⟩
      rw [q10]
      refine ⟨(ab, lf (Y 11) b, lf (Y 12) b, fun _ _ => -1, pw0 X b), ⟨⟨?_, hC.1.2.1.1, hal⟩, fun i q i0 i1 q0 q1 => hz i q i0 i1 q0 q1, ⟨by dsimp only; omega, by dsimp only; omega, Int.le_refl _, by dsimp only; omega⟩, ⟨by decide, by decide⟩, fun q q0 q1 => ⟨?_, pw_s hC q q0 q1⟩, fun q q0 q1 => Or.inl rfl⟩, fun z m x => ?_⟩
      · exact (hS.p f.p).2.1
      · exact hp q q0 (by omega)
      · dsimp only at x
        refine h120 _ 0 _ (Nat.lt_succ_self _) (((f.u (Or.inr (Or.inr ⟨rfl, Or.inl rfl⟩))).s (Or.inl rfl)).u (Or.inr (Or.inr ⟨rfl, Or.inr rfl⟩))) (tz_v hC) ?_
        rw [ub_a (by decide), sp_s]; exact x.1
    | succ M ih =>
      intro k E e k0 k1 f hz hp
      have q7 := h7 E f
      have hnx : ∀ v : Int, v = pw0 X b k → wp 99 94 [vr 87, vi b, vi ca, vi ce, vi k, vu] [vi v, vi k, vr 91] (E, SS L 1 2 2 c4 c5 c6) Q := fun v hv => by
        refine r99_94 ⟨by omega, by omega, ih (k + 1) _ (by omega) (by omega) (by omega) (f.u (Or.inr (Or.inl rfl))) (fun i q i0 i1 q0 q1 => by rw [ub_a (by decide)]; exact hz i q i0 i1 q0 q1) (fun q q0 q1 => ?_)⟩
        by_cases eq : q = k
        · rw [eq, ub_s]; exact hv
        · rw [ub_n eq]; exact hp q q0 (by omega)
      refine r99_48 ⟨fun _ => ⟨by omega, ?_⟩, fun x => by omega⟩
      rw [q7]
      refine ⟨fun g => ⟨by omega, by omega, by omega, hnx _ ?_⟩, fun g => hnx 2 (cit_f g).symm⟩
      rw [f.1 207 (by decide) (by decide) (by decide), hS.2.2.2 b k b0 b1 k0 (by omega)]
      exact (cit_t g).symm
  -- nothing yet
  have h14 : ∀ (M : Nat) (k : Int) (E : Dt), (lf (Y 12) b * 20 - k).toNat = M → lf (Y 11) b * 20 ≤ k → k ≤ lf (Y 12) b * 20 → FrE D E → (∀ q : Int, lf (Y 11) b * 20 ≤ q → q < k → E 90 q = -1) → wp 99 14 [vr 87, vi b, vi ca, vi ce, vi k, vu] [] (E, SS L 1 2 2 c4 c5 c6) Q := by
    intro M
    induction M with
    | zero =>
      intro k E e k0 k1 f hz
      have q11 := e211 E f
      refine r99_14 ⟨by omega, by omega, fun x => by omega, fun _ => h48' _ 0 E rfl (by omega) (by omega) f (fun i q i0 i1 q0 q1 => hz _ (by omega) (by omega)) (fun q q0 q1 => by omega)⟩
    | succ M ih =>
      intro k E e k0 k1 f hz
      have q11 := e211 E f
      refine r99_14 ⟨by omega, by omega, fun _ => ⟨by omega, by omega, ih (k + 1) _ (by omega) (by omega) (by omega) (f.u (Or.inl rfl)) (fun q q0 q1 => ?_)⟩, fun x => by omega⟩
      by_cases eq : q = k
      · rw [eq, ub_s]
      · rw [ub_n eq]; exact hz q q0 (by omega)
  have q10 := e210 D (FrE.r D)
  refine r99_0 ⟨by omega, ?_⟩
  rw [q10]
  exact ⟨by omega, h14 _ _ D rfl (Int.le_refl _) (by omega) (FrE.r D) (fun q q0 q1 => by omega)⟩
