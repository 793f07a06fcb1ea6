/-! heights: the model's, the end -/
set_option maxRecDepth 100000
theorem hts_alm {ns ab : List Int} {X Y : XB} {b : Int} {H : Int → Nat} (hP : PH ns ab X Y) (b0 : 0 ≤ b) (b1 : b < (X 4).length) (h0 : (H (lf (Y 11) b)).testBit 0 = true) (hc : ∀ j : Int, lf (Y 11) b ≤ j → j < lf (Y 12) b → CLm X Y b H j) {i : Int} {n : Nat} (hr : Rch X Y b i n) : (H i).testBit n = true := by
  have hg := hP.rg b0 b1
  have := hr (fun i n => (lf (Y 11) b ≤ i ∧ i < lf (Y 12) b) ∧ (H i).testBit n = true) ⟨⟨Int.le_refl _, by omega⟩, h0⟩ (fun i n i0 i1 hp hd => ?_)
  · exact this.2
  · have := hc i i0 i1 n hp.2 hd
    exact ⟨fun g => ⟨⟨by omega, hP.go b0 b1 i0 i1 g⟩, this.1 g⟩, fun g => ⟨hP.jm b0 b1 i0 i1 g, this.2.1 g⟩, fun k k0 k1 hk => ⟨hP.ca k0 k1 hk.1, this.2.2 k k0 k1 hk⟩⟩
/-- all sweeps -/
theorem l281s {L c2 c3 c4 c5 c6 : Nat} {D : Dt} {Q : Out → Wd → Prop} {ns ab : List Int} {X Y : XB} {b : Int} (hS : MCk X Y D) (hP : PH ns ab X Y) (b0 : 0 ≤ b) (b1 : b < (X 4).length) (Hk : ∀ (E : Dt) (H : Int → Nat), (∀ a, ¬ a = 330 → E a = D a) → HR (lf (Y 11) b) (lf (Y 12) b) H (E 330) → (∀ (j : Int) (g : Nat), lf (Y 11) b ≤ j → j < lf (Y 12) b → ((H j).testBit g = true ↔ Rch X Y b j g)) → wp 281 232 [vr 226, vr 273, vi b, vu, vi (lf (Y 11) b), vu, vu] [] (E, SS L 1 c2 c3 c4 c5 c6) Q) : ∀ (M : Nat) (E : Dt) (H : Int → Nat), 511 * (lf (Y 12) b - lf (Y 11) b).toNat - msr H (lf (Y 11) b) (lf (Y 12) b - lf (Y 11) b).toNat < M → (∀ a, ¬ a = 330 → E a = D a) → HR (lf (Y 11) b) (lf (Y 12) b) H (E 330) → (∀ (j : Int) (g : Nat), lf (Y 11) b ≤ j → j < lf (Y 12) b → (H j).testBit g = true → Rch X Y b j g) → (H (lf (Y 11) b)).testBit 0 = true → wp 281 44 [vr 226, vr 273, vi b, vi 1, vu, vu, vu] [] (E, SS L 1 c2 c3 c4 c5 c6) Q := by
  have hg := hP.rg b0 b1
  have h48 := hP.2.2.1
  have l11 := hP.1.2.1.1
  have l12 := hP.1.2.1.2
  intro M
  induction M with
  | zero => intro E H h; omega
  | succ M ih =>
    intro E H hM f hH hs h0
    have e285 : ∀ E' : Dt, (∀ a, ¬ a = 330 → E' a = D a) → E' 285 b = lf (Y 11) b := fun E' f' => by rw [f' 285 (by decide)]; exact hS.2.1.1 b b0 (by omega)
    have e286 : ∀ E' : Dt, (∀ a, ¬ a = 330 → E' a = D a) → E' 286 b = lf (Y 12) b := fun E' f' => by rw [f' 286 (by decide)]; exact hS.2.1.2 b b0 (by omega)
    have hsweep : ∀ (N : Nat) (i : Int) (E2 : Dt) (G : Int → Nat) (m : Int), (lf (Y 12) b - i).toNat = N → lf (Y 11) b ≤ i → i ≤ lf (Y 12) b → (∀ a, ¬ a = 330 → E2 a = D a) → SWm X Y b H G m E2 → (m = 0 → ∀ j : Int, lf (Y 11) b ≤ j → j < i → CLm X Y b G j) → wp 281 58 [vr 226, vr 273, vi b, vi m, vi i, vu, vu] [] (E2, SS L 1 c2 c3 c4 c5 c6) Q := by
      intro N
      induction N with
      | zero =>
        intro i E2 G m e i0 i1 f2 hW hcl
        have q6 := e286 E2 f2
        have q5 := e285 E2 f2
        refine r281_58 ⟨by omega, fun x => by omega, fun _ => ?_⟩
        rcases hW.2.2.2.2 with x | x
        · subst x
          refine r281_44 ⟨fun _ => ⟨by omega, ?_⟩, fun x => absurd rfl x⟩
          rw [q5]
          exact Hk E2 G f2 hW.1 (fun j n j0 j1 => ⟨hW.2.1 j n j0 j1, fun hr => hts_alm hP b0 b1 hW.2.2.2.1 (fun j j0 j1 => hcl rfl j j0 (by omega)) hr⟩)
        · subst x
          refine ih E2 G ?_ f2 hW.1 hW.2.1 hW.2.2.2.1
          have hm : msr H (lf (Y 11) b) (lf (Y 12) b - lf (Y 11) b).toNat < msr G (lf (Y 11) b) (lf (Y 12) b - lf (Y 11) b).toNat := by
            refine msr_lt _ (fun j j0 j1 => (hW.2.2.1.1 j j0 (by omega)).1) ?_
            rcases hW.2.2.1.2.2 with x | x
            · exact absurd x.1 (by decide)
            · obtain ⟨_, j, j0, j1, hj⟩ := x
              exact ⟨j, j0, by omega, hj⟩
          have hb2 := msr_b (H := G) (f := lf (Y 11) b) (lf (Y 12) b - lf (Y 11) b).toNat (fun j j0 j1 => (hW.1 j j0 (by omega)).2)
          omega
      | succ N ihN =>
        intro i E2 G m e i0 i1 f2 hW hcl
        exact l281i (D := D) hS hP b0 b1 i0 (by omega) f2 hW hcl (fun E3 G3 m3 q1 q2 q3 => ihN (i + 1) E3 G3 m3 (by omega) (by omega) (by omega) q1 q2 q3)
    refine r281_44 ⟨fun x => absurd x (by decide), fun _ => ⟨by omega, ?_⟩⟩
    rw [e285 E f]
    exact hsweep _ _ E H 0 rfl (Int.le_refl _) (by omega) f ⟨hH, hs, RS.r, h0, Or.inl rfl⟩ (fun _ j j0 j1 => by omega)
def HtP (m : Nat) (k v : Int) : Prop := (∃ h : Nat, (h : Int) < k ∧ m = 2 ^ h ∧ v = h) ∨ ((∀ h : Nat, (h : Int) < k → ¬ m = 2 ^ h) ∧ v = -1)
def FrR (D E : Dt) : Prop := (∀ b, ¬ b = 226 → ¬ b = 292 → ¬ (330 ≤ b ∧ b ≤ 333) → E b = D b) ∧ ∀ i, ¬ i = 12 → ¬ i = 25 → E 226 i = D 226 i
theorem FrR.r (D : Dt) : FrR D D := ⟨fun _ _ _ _ => rfl, fun _ _ _ => rfl⟩
theorem FrR.t {D E F : Dt} (h : FrR D E) (h2 : FrR E F) : FrR D F := ⟨fun b x y z => (h2.1 b x y z).trans (h.1 b x y z), fun i x y => (h2.2 i x y).trans (h.2 i x y)⟩
theorem FrR.n {D E : Dt} (h : FrR D E) : FrN D E := ⟨fun b x y z => h.1 b x (by omega) (by omega), fun i x _ z => h.2 i x z⟩
theorem s281 {L c2 c3 c4 c5 c6 : Nat} {D : Dt} {Q : Out → Wd → Prop} {b : Int} (H : ∃ x : List Int × List Int × XB × XB, (MCk x.2.2.1 x.2.2.2 D ∧ PH x.1 x.2.1 x.2.2.1 x.2.2.2 ∧ (0 ≤ b ∧ b < (x.2.2.1 4).length)) ∧ (∀ E, (fsF (htB x.2.2.1 x.2.2.2 b) (lf (x.2.2.2 11) b) (lf (x.2.2.2 12) b) < 0 ∧ (∀ a, ¬ a = 330 → ¬ a = 292 → E a = D a) ∧ (∀ i : Int, lf (x.2.2.2 11) b ≤ i → i < lf (x.2.2.2 12) b → E 292 i = htF x.2.2.1 x.2.2.2 b i) ∧ (∀ i : Int, ¬ (lf (x.2.2.2 11) b ≤ i ∧ i < lf (x.2.2.2 12) b) → E 292 i = D 292 i)) → Q (.inl [vi 1]) (E, SS L 1 c2 c3 c4 c5 c6)) ∧ (∀ E, (¬ fsF (htB x.2.2.1 x.2.2.2 b) (lf (x.2.2.2 11) b) (lf (x.2.2.2 12) b) < 0 ∧ FrR D E ∧ E 226 12 = lf (x.2.2.2 3) (fsF (htB x.2.2.1 x.2.2.2 b) (lf (x.2.2.2 11) b) (lf (x.2.2.2 12) b))) → Q (.inl [vi 0]) (E, SS L 1 c2 c3 c4 c5 c6))) : wp 281 0 [vr 226, vr 273, vi b, vu, vu, vu, vu] [] (D, SS L 1 c2 c3 c4 c5 c6) Q := by
  obtain ⟨⟨ns, ab, X, Y⟩, ⟨hS, hP, b0, b1⟩, Hk, Hz⟩ := H
  dsimp only at *
  have hg := hP.rg b0 b1
  have h48 := hP.2.2.1
  have l11 := hP.1.2.1.1
  have l12 := hP.1.2.1.2
  have e285 : D 285 b = lf (Y 11) b := hS.2.1.1 b b0 (by omega)
  have e286 : D 286 b = lf (Y 12) b := hS.2.1.2 b b0 (by omega)
  have h232 : ∀ (E0 : Dt) (H : Int → Nat), (∀ a, ¬ a = 330 → E0 a = D a) → HR (lf (Y 11) b) (lf (Y 12) b) H (E0 330) → (∀ (j : Int) (g : Nat), lf (Y 11) b ≤ j → j < lf (Y 12) b → ((H j).testBit g = true ↔ Rch X Y b j g)) → ∀ (M : Nat) (i : Int) (E : Dt), (lf (Y 12) b - i).toNat = M → lf (Y 11) b ≤ i → i ≤ lf (Y 12) b → (∀ a, ¬ a = 292 → E a = E0 a) → (∀ j : Int, lf (Y 11) b ≤ j → j < i → E 292 j = htF X Y b j) → (∀ j : Int, ¬ (lf (Y 11) b ≤ j ∧ j < i) → E 292 j = D 292 j) → fsF (htB X Y b) (lf (Y 11) b) (lf (Y 12) b) = fsF (htB X Y b) i (lf (Y 12) b) → wp 281 232 [vr 226, vr 273, vi b, vu, vi i, vu, vu] [] (E, SS L 1 c2 c3 c4 c5 c6) Q := by
    intro E0 H f0 hH hR M
    induction M with
    | zero =>
      intro i E e i0 i1 q1 q2 q3 q4
      have e6 : E 286 b = lf (Y 12) b := by rw [q1 286 (by decide), f0 286 (by decide)]; exact e286
      refine r281_232 ⟨by omega, fun x => by omega, fun _ => Hk E ⟨?_, fun a x y => (q1 a y).trans (f0 a x), fun j j0 j1 => q2 j j0 (by omega), fun j hj => q3 j (by omega)⟩⟩
      rw [q4, fs_n (by omega)]; decide
    | succ M ih =>
      intro i E e i0 i1 q1 q2 q3 q4
      have i2 : i < lf (Y 12) b := by omega
      have eM : (lf (Y 12) b - (i + 1)).toNat = M := by omega
      have e6 : E 286 b = lf (Y 12) b := by rw [q1 286 (by decide), f0 286 (by decide)]; exact e286
      have e330 : E 330 i = (H i : Int) := by rw [q1 330 (by decide)]; exact (hH i i0 i2).1
      have h512 := (hH i i0 i2).2
      have e329 : E 329 i = lf (Y 3) i := by rw [q1 329 (by decide), f0 329 (by decide)]; exact (hS.v hP (by omega) (by omega)).2.2.1
      have fE : ∀ a, ¬ a = 330 → ¬ a = 292 → E a = D a := fun a x y => (q1 a y).trans (f0 a x)
      have hbad : htB X Y b i → wp 281 277 [vr 226, vr 273, vu, vu, vi i, vu, vu] [] (E, SS L 1 c2 c3 c4 c5 c6) Q := fun hb => by
        have e5 : fsF (htB X Y b) (lf (Y 11) b) (lf (Y 12) b) = i := q4.trans (fs_y (P := htB X Y b) i2 hb)
        rw [e5] at Hz
        refine r281_277 ⟨by omega, ?_⟩
        rw [e329]
        refine Hz _ ⟨by omega, ⟨fun a x y z => ?_, fun j x y => ?_⟩, ub_s⟩
        · rw [ub_a x]; exact fE a (by omega) y
        · rw [ub_n x]; exact congrFun (fE 226 (by decide) (by decide)) j
      have hi := hR i
      have h1 := hb_1 (X := X) (Y := Y) (b := b) (i := i) h512 (fun g => hi g i0 i2)
      have hput : ¬ htB X Y b i → wp 281 289 [vr 226, vr 273, vi b, vu, vi i, vi ((H i : Nat) : Int), vu] [] (E, SS L 1 c2 c3 c4 c5 c6) Q := by
        intro hn
        have h300 : ∀ (N : Nat) (k : Int) (E2 : Dt), (9 - k).toNat = N → 0 ≤ k → k ≤ 9 → (∀ a, ¬ a = 292 → E2 a = E0 a) → (∀ j : Int, ¬ j = i → E2 292 j = E 292 j) → HtP (H i) k (E2 292 i) → wp 281 300 [vr 226, vr 273, vi b, vu, vi i, vi ((H i : Nat) : Int), vi k] [] (E2, SS L 1 c2 c3 c4 c5 c6) Q := by
          intro N
          induction N with
          | zero =>
            intro k E2 en k0 k9 p1 p2 p3
            refine r281_300 ⟨fun _ => ⟨by omega, ih (i + 1) E2 eM (by omega) (by omega) p1 (fun j j0 j1 => ?_) (fun j hj => ?_) (q4.trans (fs_s (P := htB X Y b) i2 hn))⟩, fun x => by omega⟩
            · by_cases ej : j = i
              · rw [ej]
                rcases p3 with ⟨h, hk, hh, h3⟩ | ⟨hno, h3⟩
                · rw [h3]
                  have h9 : h < 9 := by omega
                  have ho := (one_b (H i) h512 h h9).mp hh
                  exact (hb_h h512 (fun g => hi g i0 i2) h9 ho.1 (fun g hg hb => by have := ho.2 g (by omega) hb; omega)).symm
                · rw [h3]
                  refine (hb_0 h512 (fun g => hi g i0 i2) ?_).symm
                  refine (zer_b (H i) h512).mpr fun g g9 hb => ?_
                  refine hno g (by omega) ((one_b (H i) h512 g g9).mpr ⟨hb, fun g' g9' hb' => Classical.byContradiction fun hne => hn (Or.inl ⟨g', g, hne, (hi g' i0 i2).mp hb', (hi g i0 i2).mp hb⟩)⟩)
              · rw [p2 j ej]; exact q2 j j0 (by omega)
            · rw [p2 j (by omega)]; exact q3 j (by omega)
          | succ N ihN =>
            intro k E2 en k0 k9 p1 p2 p3
            have ek : k = ((k.toNat : Nat) : Int) := by omega
            have esh : ishl 1 k = ((2 ^ k.toNat : Nat) : Int) := by rw [ek, ishl_1 (by omega), Int.toNat_natCast]
            refine r281_300 ⟨fun x => by omega, fun _ => ?_⟩
            rw [esh]
            refine ⟨fun g => ⟨by omega, r281_325 ⟨by omega, ihN (k + 1) _ (by omega) (by omega) (by omega) (fun a ha => by rw [ub_a ha]; exact p1 a ha) (fun j hj => by rw [ub_n hj]; exact p2 j hj) (Or.inl ⟨k.toNat, by omega, by omega, by rw [ub_s]; exact ek⟩)⟩⟩, fun g => r281_325 ⟨by omega, ihN (k + 1) E2 (by omega) (by omega) (by omega) p1 p2 ?_⟩⟩
            rcases p3 with ⟨h, hk, hh⟩ | ⟨hno, h3⟩
            · exact Or.inl ⟨h, by omega, hh⟩
            · refine Or.inr ⟨fun h hk => ?_, h3⟩
              by_cases eh : (h : Int) = k
              · rw [show h = k.toNat by omega]
                intro y
                exact g (by rw [y])
              · exact hno h (by omega)
        refine r281_289 ⟨by omega, h300 _ 0 _ rfl (by omega) (by omega) (fun a ha => by rw [ub_a ha]; exact q1 a ha) (fun j hj => ub_n hj) (Or.inr ⟨fun h hk => by omega, ub_s⟩)⟩
      refine r281_232 ⟨by omega, fun _ => ⟨by omega, ?_⟩, fun x => by omega⟩
      rw [e330]
      refine ⟨by omega, fun g => ⟨fun z => hput ?_, fun z => ⟨(ns, ab, X, Y, H i), ⟨hS.u fE, hP, by omega, by dsimp only; omega, rfl, h512⟩, fun g3 hG3 => ?_⟩⟩, fun g => hbad (Or.inl (Classical.not_not.mp fun x => g (h1.mpr x)))⟩
      · have hz0 : H i = 0 := by omega
        have hno : ∀ h : Nat, ¬ Rch X Y b i h := fun h hr => by
          have := (hi h i0 i2).mpr hr
          rw [hz0, Nat.zero_testBit] at this
          cases this
        rintro (⟨h, _, _, x, _⟩ | ⟨h, x, _⟩)
        · exact hno h x
        · exact hno h x
      · dsimp only at hG3
        obtain ⟨g512, hG3⟩ := hG3
        have huniq := h1.mp g
        obtain ⟨n, hn⟩ : ∃ n : Nat, (H i).testBit n = true := by
          refine Classical.byContradiction fun hc => z ?_
          have := (zer_b (H i) h512).mpr fun h _ hb => hc ⟨h, hb⟩
          omega
        have hu : ∀ h : Nat, Rch X Y b i h → h = n := fun h hr => Classical.byContradiction fun hne => huniq ⟨h, n, hne, hr, (hi n i0 i2).mp hn⟩
        refine ⟨fun y => hbad (Or.inr ⟨n, (hi n i0 i2).mp hn, fun hd => ?_⟩), fun y => hput ?_⟩
        · have := (hG3 (hth X Y i n)).mpr ⟨n, hn, hd, rfl⟩
          rw [show g3 = 0 by omega, Nat.zero_testBit] at this
          cases this
        · rintro (x | ⟨h, x, hd⟩)
          · exact huniq x
          · refine y ?_
            have : g3 = 0 := (zer_b g3 g512).mpr fun t _ ht => by
              obtain ⟨h', p1, p2, _⟩ := (hG3 t).mp ht
              rw [hu h' ((hi h' i0 i2).mp p1)] at p2
              rw [hu h x] at hd
              exact hd p2
            rw [this]; rfl
  have h7 : ∀ (M : Nat) (i : Int) (E : Dt), (lf (Y 12) b - i).toNat = M → lf (Y 11) b ≤ i → i ≤ lf (Y 12) b → (∀ a, ¬ a = 330 → E a = D a) → (∀ j : Int, lf (Y 11) b ≤ j → j < i → E 330 j = 0) → wp 281 7 [vr 226, vr 273, vi b, vi i, vu, vu, vu] [] (E, SS L 1 c2 c3 c4 c5 c6) Q := by
    intro M
    induction M with
    | zero =>
      intro i E e i0 i1 f hz
      have e6 : E 286 b = lf (Y 12) b := by rw [f 286 (by decide)]; exact e286
      have e5 : E 285 b = lf (Y 11) b := by rw [f 285 (by decide)]; exact e285
      refine r281_7 ⟨by omega, fun x => by omega, fun _ => ?_⟩
      rw [e5]
      refine ⟨by omega, by omega, l281s (D := D) hS hP b0 b1 (fun E3 H3 y1 y2 y3 => h232 E3 H3 y1 y2 y3 _ _ E3 rfl (Int.le_refl _) (by omega) (fun _ _ => rfl) (fun j j0 j1 => by omega) (fun j _ => congrFun (y1 292 (by decide)) j) rfl) _ _ (fun j => if j = lf (Y 11) b then 1 else 0) (Nat.lt_succ_self _) (fun a ha => by rw [ub_a ha]; exact f a ha) (fun j j0 j1 => ?_) (fun j g j0 j1 hb => ?_) ?_⟩
      · show up E 330 (lf (Y 11) b) 1 330 j = ((if j = lf (Y 11) b then 1 else 0 : Nat) : Int) ∧ (if j = lf (Y 11) b then 1 else 0 : Nat) < 512
        by_cases ej : j = lf (Y 11) b
        · rw [if_pos ej, ej, ub_s]; exact ⟨rfl, by decide⟩
        · rw [if_neg ej, ub_n ej]; exact ⟨hz j j0 (by omega), by decide⟩
      · have hb : (if j = lf (Y 11) b then 1 else 0 : Nat).testBit g = true := hb
        by_cases ej : j = lf (Y 11) b
        · rw [if_pos ej, show (1 : Nat) = 2 ^ 0 from rfl, Nat.testBit_two_pow, decide_eq_true_iff] at hb
          rw [ej, ← hb]; exact rch_0
        · rw [if_neg ej, Nat.zero_testBit] at hb; cases hb
      · show (if lf (Y 11) b = lf (Y 11) b then 1 else 0 : Nat).testBit 0 = true
        rw [if_pos rfl]; rfl
    | succ M ih =>
      intro i E e i0 i1 f hz
      have e6 : E 286 b = lf (Y 12) b := by rw [f 286 (by decide)]; exact e286
      refine r281_7 ⟨by omega, fun _ => ⟨by omega, by omega, ih (i + 1) _ (by omega) (by omega) (by omega) (fun a ha => by rw [ub_a ha]; exact f a ha) (fun j j0 j1 => ?_)⟩, fun x => by omega⟩
      by_cases ej : j = i
      · rw [ej, ub_s]
      · rw [ub_n ej]; exact hz j j0 (by omega)
  refine r281_0 ⟨by omega, ?_⟩
  rw [e285]
  exact h7 _ _ D rfl (Int.le_refl _) (by omega) (fun _ _ => rfl) (fun j j0 j1 => by omega)
