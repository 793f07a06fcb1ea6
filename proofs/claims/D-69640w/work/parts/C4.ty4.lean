/-! types: sweeps, and SafeCode's -/
set_option maxRecDepth 100000
abbrev TyT : Type := Int → Int → Int
noncomputable def caT (ab : List Int) (Y : XB) (b i : Int) : Nat → Int → TyT → TyT
  | 0, _, T => T
  | n + 1, k, T => caT ab Y b i n (k + 1) (cit (cov Y b k i) (jnT ab T (lf (Y 8) k) (sl (T i) 12 (16 + lf (Y 9) k)) 13) T)
noncomputable def caA (ab : List Int) (Y : XB) (b i : Int) (T : TyT) : TyT := caT ab Y b i (Y 6).length 0 T
noncomputable def gnT (ab : List Int) (Y : XB) (T : TyT) (i : Int) (w : Int → Int) (tp : Int) : TyT := cit (isJ (lf (Y 0) i)) (jnT ab (cit (goOn (lf (Y 0) i)) (jnT ab T (i + 1) w tp) T) (lf (Y 1) i) w tp) (cit (goOn (lf (Y 0) i)) (jnT ab T (i + 1) w tp) T)
/-- one instruction: types go on -/
noncomputable def stT (ab : List Int) (X Y : XB) (b : Int) (T : TyT) (i : Int) : TyT := cit (T i 0 < 0) T (cit (lf (Y 0) i = 33 ∧ caA ab Y b i T i (12 + htF X Y b i - 2) = 1) (caA ab Y b i T) (gnT ab Y (caA ab Y b i T) i (acW X Y (caA ab Y b i T i) (12 + htF X Y b i) i) (12 + hth X Y i (htF X Y b i).toNat)))
noncomputable def swT (ab : List Int) (X Y : XB) (b : Int) : Nat → Int → TyT → TyT
  | 0, _, T => T
  | n + 1, i, T => swT ab X Y b n (i + 1) (stT ab X Y b T i)
noncomputable def swA (ab : List Int) (X Y : XB) (b : Int) (T : TyT) : TyT := swT ab X Y b (lf (Y 12) b - lf (Y 11) b).toNat (lf (Y 11) b) T
noncomputable def pw0 (X : XB) (b : Int) : Int → Int := fun k => cit (k < lf (X 7) b) (lf (X (20 + b.toNat)) k) 2
noncomputable def tyZ (ab : List Int) (X Y : XB) (b : Int) : TyT := jnT ab (fun _ _ => -1) (lf (Y 11) b) (pw0 X b) 12
noncomputable def itT (ab : List Int) (X Y : XB) (b : Int) : Nat → TyT
  | 0 => tyZ ab X Y b
  | n + 1 => swA ab X Y b (itT ab X Y b n)
/-- the types at the end -/
def tyFin (ab : List Int) (X Y : XB) (b : Int) (T : TyT) : Prop := (∃ n : Nat, T = itT ab X Y b n) ∧ swA ab X Y b T = T
theorem it_st {ab : List Int} {X Y : XB} {b : Int} {n : Nat} (h : swA ab X Y b (itT ab X Y b n) = itT ab X Y b n) : ∀ m : Nat, itT ab X Y b (n + m) = itT ab X Y b n
  | 0 => rfl
  | m + 1 => by
    show swA ab X Y b (itT ab X Y b (n + m)) = _
    rw [it_st h m]; exact h
theorem fin_u {ab : List Int} {X Y : XB} {b : Int} {T T' : TyT} (h : tyFin ab X Y b T) (h' : tyFin ab X Y b T') : T = T' := by
  obtain ⟨⟨n, e⟩, hf⟩ := h
  obtain ⟨⟨n', e'⟩, hf'⟩ := h'
  rw [e] at hf
  rw [e'] at hf'
  rw [e, e']
  by_cases c : n ≤ n'
  · have := it_st hf (n' - n)
    rw [show n + (n' - n) = n' by omega] at this
    exact this.symm
  · have := it_st hf' (n - n')
    rw [show n' + (n - n') = n by omega] at this
    exact this
noncomputable def tyL (ab : List Int) (X Y : XB) (b : Int) : TyT := @Classical.epsilon TyT ⟨fun _ _ => -1⟩ (tyFin ab X Y b)
theorem fin_e {ab : List Int} {X Y : XB} {b : Int} {T : TyT} (h : tyFin ab X Y b T) : T = tyL ab X Y b := by
  have hx : ∃ T, tyFin ab X Y b T := ⟨T, h⟩
  exact fin_u h (Classical.epsilon_spec hx)
section Ht
variable {X Y : XB} {b i : Int}
theorem ht_u (hn : ¬ htB X Y b i) {n : Nat} (h9 : n ≤ 8) (hr : Rch X Y b i n) : htF X Y b i = n := by
  rcases fs_b (P := fun h => Rch X Y b i h.toNat) (k := 0) (n := 9) (by decide) with x | ⟨x1, x2, x3, x4⟩
  · exact absurd (show Rch X Y b i ((n : Int).toNat) by rw [Int.toNat_natCast]; exact hr) (fs_no (P := fun h => Rch X Y b i h.toNat) (k := 0) (n := 9) (by decide) (by rw [x]; decide) n (by omega) (by omega))
  · have e : htF X Y b i = fsF (fun h => Rch X Y b i h.toNat) 0 9 := rfl
    rw [e]
    generalize fsF (fun h => Rch X Y b i h.toNat) 0 9 = q at *
    by_cases c : q.toNat = n
    · omega
    · exact absurd (Or.inl ⟨q.toNat, n, c, x3, hr⟩) hn
theorem ht_b : -1 ≤ htF X Y b i ∧ htF X Y b i ≤ 8 := by
  rcases fs_b (P := fun h => Rch X Y b i h.toNat) (k := 0) (n := 9) (by decide) with x | ⟨x1, x2, x3, x4⟩
  · have e : htF X Y b i = -1 := x
    omega
  · have e : htF X Y b i = fsF (fun h => Rch X Y b i h.toNat) 0 9 := rfl
    omega
theorem ht_g (hn : ¬ htB X Y b i) (h0 : 0 ≤ htF X Y b i) : Rch X Y b i (htF X Y b i).toNat ∧ hgd X Y i (htF X Y b i).toNat := by
  rcases fs_b (P := fun h => Rch X Y b i h.toNat) (k := 0) (n := 9) (by decide) with x | ⟨x1, x2, x3, x4⟩
  · have e : htF X Y b i = -1 := x
    omega
  · have hr : Rch X Y b i (htF X Y b i).toNat := x3
    exact ⟨hr, Classical.byContradiction fun hc => hn (Or.inr ⟨_, hr, hc⟩)⟩
end Ht
/-- types so far are types, where anything has come -/
def TV (ab : List Int) (X Y : XB) (b : Int) (T : TyT) : Prop := ∀ i : Int, lf (Y 11) b ≤ i → i < lf (Y 12) b → (∀ k : Int, 0 ≤ k → k < 20 → T i k = -1) ∨ (0 ≤ htF X Y b i ∧ (∀ k : Int, 0 ≤ k → k < 12 + htF X Y b i → tyS (8 + ab.length) (T i k)) ∧ ∀ k : Int, 12 + htF X Y b i ≤ k → k < 20 → T i k = -1)
/-- all that stands while a body's types are found -/
def TC (ns ab : List Int) (X Y : XB) (b : Int) : Prop := PT ns ab X Y ∧ (0 ≤ b ∧ b < (X 4).length) ∧ ∀ i : Int, lf (Y 11) b ≤ i → i < lf (Y 12) b → ¬ htB X Y b i
section Tv
theorem TC.n {ns ab : List Int} {X Y : XB} {b : Int} (hC : TC ns ab X Y b) {i : Int} (i0 : lf (Y 11) b ≤ i) (i1 : i < lf (Y 12) b) (h0 : 0 ≤ htF X Y b i) : (hgd X Y i (htF X Y b i).toNat ∧ hth X Y i (htF X Y b i).toNat ≤ 8) ∧ (goOn (lf (Y 0) i) → (i + 1 < lf (Y 12) b ∧ htF X Y b (i + 1) = hth X Y i (htF X Y b i).toNat)) ∧ (isJ (lf (Y 0) i) → ((lf (Y 11) b ≤ lf (Y 1) i ∧ lf (Y 1) i < lf (Y 12) b) ∧ htF X Y b (lf (Y 1) i) = hth X Y i (htF X Y b i).toNat)) ∧ ∀ k : Int, 0 ≤ k → k < (Y 6).length → cov Y b k i → ((lf (Y 11) b ≤ lf (Y 8) k ∧ lf (Y 8) k < lf (Y 12) b) ∧ htF X Y b (lf (Y 8) k) = 1) := by
  obtain ⟨hP, ⟨b0, b1⟩, hn⟩ := hC
  have hg := ht_g (hn i i0 i1) h0
  have hc := rch_c i _ i0 i1 hg.1 hg.2
  have h8 : hth X Y i (htF X Y b i).toNat ≤ 8 := by have := hg.2.2; unfold hth; omega
  refine ⟨⟨hg.2, h8⟩, fun g => ?_, fun g => ?_, fun k k0 k1 hk => ?_⟩
  · have h1 := hP.1.go b0 b1 i0 i1 g
    exact ⟨h1, ht_u (hn _ (by omega) h1) h8 (hc.1 g)⟩
  · have h1 := hP.1.jm b0 b1 i0 i1 g
    exact ⟨h1, ht_u (hn _ h1.1 h1.2) h8 (hc.2.1 g)⟩
  · have h1 := hP.1.ca k0 k1 hk.1
    exact ⟨h1, ht_u (n := 1) (hn _ h1.1 h1.2) (by decide) (hc.2.2 k k0 k1 hk)⟩
theorem TV.o {ns ab : List Int} {X Y : XB} {b : Int} (hC : TC ns ab X Y b) {T : TyT} (h : TV ab X Y b T) {j : Int} (j0 : lf (Y 11) b ≤ j) (j1 : j < lf (Y 12) b) {k : Int} (k0 : 0 ≤ k) (k1 : k < 12 + htF X Y b j) : tyO (8 + ab.length) (T j k) := by
  have hb := ht_b (X := X) (Y := Y) (b := b) (i := j)
  rcases h j j0 j1 with x | x
  · exact Or.inl (x k k0 (by omega))
  · exact Or.inr (x.2.1 k k0 k1)
theorem TV.j {ns ab : List Int} {X Y : XB} {b : Int} (hC : TC ns ab X Y b) {T : TyT} (h : TV ab X Y b T) {j : Int} (j0 : lf (Y 11) b ≤ j) (j1 : j < lf (Y 12) b) (hj : 0 ≤ htF X Y b j) {w : Int → Int} (hw : ∀ k : Int, 0 ≤ k → k < 12 + htF X Y b j → tyS (8 + ab.length) (w k)) : TV ab X Y b (jnT ab T j w (12 + htF X Y b j)) := by
  intro i i0 i1
  by_cases e : i = j
  · rw [e]
    refine Or.inr ⟨hj, fun k k0 k1 => ?_, fun k k0 k1 => ?_⟩
    · rw [show jnT ab T j w (12 + htF X Y b j) j k = jnV ab (T j k) (w k) from cit_t ⟨rfl, k0, k1⟩]
      exact jnV_s hC.1.2.1.1 hC.1.2.1.2.1 (TV.o hC h j0 j1 k0 k1) (hw k k0 k1)
    · rw [show jnT ab T j w (12 + htF X Y b j) j k = T j k from cit_f (by omega)]
      rcases h j j0 j1 with x | x
      · exact x k (by omega) k1
      · exact x.2.2 k k0 k1
  · have e2 : ∀ k, jnT ab T j w (12 + htF X Y b j) i k = T i k := fun k => cit_f (fun x => e x.1)
    rcases h i i0 i1 with x | x
    · exact Or.inl fun k k0 k1 => by rw [e2]; exact x k k0 k1
    · exact Or.inr ⟨x.1, fun k k0 k1 => by rw [e2]; exact x.2.1 k k0 k1, fun k k0 k1 => by rw [e2]; exact x.2.2 k k0 k1⟩
theorem TV.c {ns ab : List Int} {X Y : XB} {b : Int} (hC : TC ns ab X Y b) {T : TyT} (h : TV ab X Y b T) {i : Int} (i0 : lf (Y 11) b ≤ i) (i1 : i < lf (Y 12) b) (hi : ¬ T i 0 < 0) : 0 ≤ htF X Y b i ∧ ∀ k : Int, 0 ≤ k → k < 12 + htF X Y b i → tyS (8 + ab.length) (T i k) := by
  rcases h i i0 i1 with x | x
  · have := x 0 (by decide) (by decide); omega
  · exact ⟨x.1, x.2.1⟩
/-- a catch's slots -/
theorem ca_w {ns ab : List Int} {X Y : XB} {b : Int} (hC : TC ns ab X Y b) {T : TyT} (h : TV ab X Y b T) {i k : Int} (i0 : lf (Y 11) b ≤ i) (i1 : i < lf (Y 12) b) (hi : ¬ T i 0 < 0) (k0 : 0 ≤ k) (k1 : k < (Y 6).length) : ∀ q : Int, 0 ≤ q → q < 13 → tyS (8 + ab.length) (sl (T i) 12 (16 + lf (Y 9) k) q) := by
  intro q q0 q1
  have hc := TV.c hC h i0 i1 hi
  have hk := (hC.1.1.1.2.2.2.1 k k0 k1).2.2.2.2.2.1
  have hl := hC.1.2.1.2.2
  by_cases e : q = 12
  · rw [e, sl_s]; unfold tyS; omega
  · rw [sl_n e]; exact hc.2 q q0 (by omega)
end Tv
section Ca
variable {ab : List Int} {Y : XB} {b i : Int}
theorem caT_a : ∀ (n m : Nat) (k : Int) (T : TyT), caT ab Y b i (n + m) k T = caT ab Y b i m (k + n) (caT ab Y b i n k T)
  | 0, m, k, T => by
    rw [Nat.zero_add, show k + ((0 : Nat) : Int) = k by omega]; rfl
  | n + 1, m, k, T => by
    rw [show n + 1 + m = (n + m) + 1 by omega]
    show caT ab Y b i (n + m) (k + 1) _ = caT ab Y b i m (k + ((n + 1 : Nat) : Int)) (caT ab Y b i n (k + 1) _)
    rw [caT_a n m (k + 1), show k + 1 + (n : Int) = k + ((n + 1 : Nat) : Int) by omega]
theorem caT_z : ∀ (n : Nat) (k : Int) (T : TyT), (∀ c : Int, k ≤ c → c < k + n → ¬ cov Y b c i) → caT ab Y b i n k T = T
  | 0, _, _, _ => rfl
  | n + 1, k, T, h => by
    show caT ab Y b i n (k + 1) (cit _ _ _) = T
    rw [cit_f (h k (Int.le_refl _) (by omega))]
    exact caT_z n (k + 1) T fun c c0 c1 => h c (by omega) (by omega)
theorem caA_e {ca ce : Int} (h : CaR Y b ca ce) (T : TyT) : caA ab Y b i T = caT ab Y b i (ce - ca).toNat ca T := by
  obtain ⟨⟨h1, h2, h3⟩, h4⟩ := h
  unfold caA
  have e : (Y 6).length = ca.toNat + ((ce - ca).toNat + ((Y 6).length - ce.toNat)) := by omega
  rw [e, caT_a, caT_a, caT_z ca.toNat 0 T fun c c0 c1 x => by have := (h4 c c0 (by omega)).mp x.1; omega]
  rw [show (0 : Int) + (ca.toNat : Int) = ca by omega, caT_z ((Y 6).length - ce.toNat) _ _ fun c c0 c1 x => by have := (h4 c (by omega) (by omega)).mp x.1; omega]
end Ca
def FrE (D E : Dt) : Prop := (∀ a, ¬ a = 87 → ¬ a = 90 → ¬ a = 91 → E a = D a) ∧ ∀ q, ¬ q = 6 → ¬ q = 7 → E 87 q = D 87 q
theorem FrE.r (D : Dt) : FrE D D := ⟨fun _ _ _ _ => rfl, fun _ _ _ => rfl⟩
theorem FrE.t {D E F : Dt} (h : FrE D E) (h2 : FrE E F) : FrE D F := ⟨fun b x y z => (h2.1 b x y z).trans (h.1 b x y z), fun i x y => (h2.2 i x y).trans (h.2 i x y)⟩
theorem FrA.e {D E : Dt} (h : FrA D E) : FrE D E := ⟨fun b x _ z => h.1 b x z, fun i x _ => h.2 i x⟩
theorem FrE.p {D E : Dt} (h : FrE D E) : FrP D E := ⟨fun b x _ => h.1 b (by omega) (by omega) (by omega), h.2⟩
theorem FrE.u {D E : Dt} (h : FrE D E) {a : Nat} {i v : Int} (ha : a = 90 ∨ a = 91 ∨ (a = 87 ∧ (i = 6 ∨ i = 7))) : FrE D (up E a i v) := by
  refine ⟨fun b x y z => ?_, fun j x y => ?_⟩
  · rw [ub_a (by omega)]; exact h.1 b x y z
  · by_cases e : a = 87
    · subst e
      rw [ub_n (by omega)]; exact h.2 j x y
    · rw [ub_a (by omega)]; exact h.2 j x y
theorem FrE.s {D E : Dt} (h : FrE D E) {a : Nat} {z : Int → Int} (ha : a = 90 ∨ a = 91) : FrE D (sp E a z) := by
  refine ⟨fun b x y z => ?_, fun j x y => ?_⟩
  · rw [sp_a (by omega)]; exact h.1 b x y z
  · rw [sp_a (by omega)]; exact h.2 j x y
theorem r101_0 {L c4 c5 c6 : Nat} {D : Dt} {Q : Out → Wd → Prop} {i c : Int} (H : (0 ≤ i ∧ i < 1024 ∧ -1 ≤ D 217 i ∧ D 217 i ≤ 8) ∧ ((∀ (z2 : Int → Int), (∀ k : Int, 0 ≤ k → k < 20 → z2 k = D 90 (i * 20 + k)) → ((0 ≤ c ∧ c < 64) ∧ (((-2147483648) ≤ 16 + (D 222 c) ∧ 16 + (D 222 c) ≤ 2147483647) ∧ (((0 : Int) ≤ 12 ∧ 12 < (20 : Int)) ∧ (((0 ≤ c ∧ c < 64) ∧ (∃ (xj6 : List Int × Int × Int × (Int → Int → Int) × (Int → Int)), ((ABp (D 198) xj6.1 ∧ ABw xj6.1 ∧ xj6.1.length ≤ 24) ∧ TR xj6.2.1 xj6.2.2.1 xj6.2.2.2.1 (D 90) ∧ (0 ≤ xj6.2.1 ∧ xj6.2.2.1 ≤ 1024 ∧ xj6.2.1 ≤ (D 221 c) ∧ (D 221 c) < xj6.2.2.1) ∧ ((0 : Int) ≤ 12 + 1 ∧ 12 + 1 ≤ (20 : Int)) ∧ (∀ k : Int, 0 ≤ k → k < 12 + 1 → (up (up (sp D 91 z2) 87 6 12) 91 12 (16 + (D 222 c))) 91 k = xj6.2.2.2.2 k ∧ tyS (8 + xj6.1.length) (xj6.2.2.2.2 k)) ∧ (∀ k : Int, 0 ≤ k → k < 12 + 1 → tyO (8 + xj6.1.length) (xj6.2.2.2.1 (D 221 c) k))) ∧ ((∀ (z8 : Int → Int) (m9 : Int), (TR xj6.2.1 xj6.2.2.1 (jnT xj6.1 xj6.2.2.2.1 (D 221 c) xj6.2.2.2.2 (12 + 1)) z8 ∧ TyG xj6.2.1 xj6.2.2.1 xj6.2.2.2.1 (D 87 7) (jnT xj6.1 xj6.2.2.2.1 (D 221 c) xj6.2.2.2.2 (12 + 1)) m9) → (Q (.inl []) (up (sp (up (up (up (sp D 91 z2) 87 6 12) 91 12 (16 + (D 222 c))) 87 6 (12 + 1)) 90 z8) 87 7 m9, SS L 1 2 2 c4 c5 c6))))))))))))) : wp 101 0 [vr 87, vi i, vi c] [] (D, SS L 1 2 2 c4 c5 c6) Q := vc_wp [] 200 _ _ _ _ _ _ (show wp 102 0 [vr 87, vi i, vu] [] (D, SS L 1 2 2 c4 c5 c6) (aft wp 101 2 [vr 87, vi i, vi c] [] Q) from s102 ⟨H.1, (fun z2 q3 => (show wp 101 5 [vr 87, vi i, vi c] [] (up (sp D 91 z2) 87 6 (12 + D 217 i), SS L 1 2 2 c4 c5 c6) Q from vc_wp [11] 200 _ _ _ _ _ _ (show wp 101 11 [vr 87, vi i, vi c] [] (up (up (sp D 91 z2) 87 6 (12 + D 217 i)) 87 6 12, SS L 1 2 2 c4 c5 c6) Q from uu_i (fun Dz => wp 101 11 [vr 87, vi i, vi c] [] (Dz, SS L 1 2 2 c4 c5 c6) Q) (vc_wp [18] 200 _ _ _ _ _ _ (show wp 101 18 [vr 87, vi i, vi c] [vr 197, vi 16, vr 87] (up (sp D 91 z2) 87 6 12, SS L 1 2 2 c4 c5 c6) Q from vc_wp [21] 200 _ _ _ _ _ _ (show wp 101 21 [vr 87, vi i, vi c] [vr 222, vi 16, vr 87] (up (sp D 91 z2) 87 6 12, SS L 1 2 2 c4 c5 c6) Q from vc_wp [24] 200 _ _ _ _ _ _ (show (0 ≤ c ∧ c < 64) ∧ (wp 101 24 [vr 87, vi i, vi c] [vi (w32 (16 + (D 222 c))), vr 87] (up (sp D 91 z2) 87 6 12, SS L 1 2 2 c4 c5 c6) Q) from ⟨(H.2 z2 q3).1, w32_i (fun z11 : Int => wp 101 24 [vr 87, vi i, vi c] [vi z11, vr 87] (up (sp D 91 z2) 87 6 12, SS L 1 2 2 c4 c5 c6) Q) ((H.2 z2 q3).2).1 (vc_wp [] 200 _ _ _ _ _ _ (show wp 103 0 [vr 87, vi (16 + (D 222 c))] [] (up (sp D 91 z2) 87 6 12, SS L 1 2 2 c4 c5 c6) (aft wp 101 24 [vr 87, vi i, vi c] [] Q) from s103 ⟨((H.2 z2 q3).2).2.1, (show wp 101 27 [vr 87, vi i, vi c] [] (up (up (up (sp D 91 z2) 87 6 12) 91 12 (16 + (D 222 c))) 87 6 (12 + 1), SS L 1 2 2 c4 c5 c6) Q from vc_wp [32] 200 _ _ _ _ _ _ (show wp 101 32 [vr 87, vi i, vi c] [vr 197, vr 87] (up (up (up (sp D 91 z2) 87 6 12) 91 12 (16 + (D 222 c))) 87 6 (12 + 1), SS L 1 2 2 c4 c5 c6) Q from vc_wp [35] 200 _ _ _ _ _ _ (show wp 101 35 [vr 87, vi i, vi c] [vr 221, vr 87] (up (up (up (sp D 91 z2) 87 6 12) 91 12 (16 + (D 222 c))) 87 6 (12 + 1), SS L 1 2 2 c4 c5 c6) Q from vc_wp [] 200 _ _ _ _ _ _ (show (0 ≤ c ∧ c < 64) ∧ (wp 100 0 [vr 87, vi (D 221 c), vu, vu, vu] [] (up (up (up (sp D 91 z2) 87 6 12) 91 12 (16 + (D 222 c))) 87 6 (12 + 1), SS L 1 2 2 c4 c5 c6) (aft wp 101 37 [vr 87, vi i, vi c] [] Q)) from ⟨((H.2 z2 q3).2).2.2.1, Exists.elim (((H.2 z2 q3).2).2.2.2) fun xj6 x7 => s100 ⟨xj6, x7.1, (fun z8 m9 q10 => (show wp 101 40 [vr 87, vi i, vi c] [] (up (sp (up (up (up (sp D 91 z2) 87 6 12) 91 12 (16 + (D 222 c))) 87 6 (12 + 1)) 90 z8) 87 7 m9, SS L 1 2 2 c4 c5 c6) Q from vc_wp [] 200 _ _ _ _ _ _ (show Q (.inl []) (up (sp (up (up (up (sp D 91 z2) 87 6 12) 91 12 (16 + (D 222 c))) 87 6 (12 + 1)) 90 z8) 87 7 m9, SS L 1 2 2 c4 c5 c6) from (x7.2 z8 m9 q10))))⟩⟩))))⟩))⟩)))))))⟩)
theorem s101 {L c4 c5 c6 : Nat} {D : Dt} {Q : Out → Wd → Prop} {i c : Int} (H : ∃ x : List Int × List Int × XB × XB × Int × TyT, (SCt x.2.1 x.2.2.1 x.2.2.2.1 D ∧ TC x.1 x.2.1 x.2.2.1 x.2.2.2.1 x.2.2.2.2.1 ∧ TV x.2.1 x.2.2.1 x.2.2.2.1 x.2.2.2.2.1 x.2.2.2.2.2 ∧ TR (lf (x.2.2.2.1 11) x.2.2.2.2.1) (lf (x.2.2.2.1 12) x.2.2.2.2.1) x.2.2.2.2.2 (D 90) ∧ (lf (x.2.2.2.1 11) x.2.2.2.2.1 ≤ i ∧ i < lf (x.2.2.2.1 12) x.2.2.2.2.1) ∧ D 217 i = htF x.2.2.1 x.2.2.2.1 x.2.2.2.2.1 i ∧ ¬ x.2.2.2.2.2 i 0 < 0 ∧ (0 ≤ c ∧ c < (x.2.2.2.1 6).length) ∧ cov x.2.2.2.1 x.2.2.2.2.1 c i) ∧ ∀ E, (FrE D E ∧ TR (lf (x.2.2.2.1 11) x.2.2.2.2.1) (lf (x.2.2.2.1 12) x.2.2.2.2.1) (jnT x.2.1 x.2.2.2.2.2 (lf (x.2.2.2.1 8) c) (sl (x.2.2.2.2.2 i) 12 (16 + lf (x.2.2.2.1 9) c)) 13) (E 90) ∧ TyG (lf (x.2.2.2.1 11) x.2.2.2.2.1) (lf (x.2.2.2.1 12) x.2.2.2.2.1) x.2.2.2.2.2 (D 87 7) (jnT x.2.1 x.2.2.2.2.2 (lf (x.2.2.2.1 8) c) (sl (x.2.2.2.2.2 i) 12 (16 + lf (x.2.2.2.1 9) c)) 13) (E 87 7)) → Q (.inl []) (E, SS L 1 2 2 c4 c5 c6)) : wp 101 0 [vr 87, vi i, vi c] [] (D, SS L 1 2 2 c4 c5 c6) Q := by
  obtain ⟨⟨ns, ab, X, Y, b, T⟩, ⟨hS, hC, hV, hT, ⟨i0, i1⟩, e217, hi, ⟨c0, c1⟩, hcov⟩, H⟩ := H
  dsimp only at *
  have hg := hC.1.1.rg hC.2.1.1 hC.2.1.2
  have hb := ht_b (X := X) (Y := Y) (b := b) (i := i)
  have hq := TV.c hC hV i0 i1 hi
  have hn := (TC.n hC i0 i1 hq.1).2.2.2 c c0 c1 hcov
  have h64 := hC.1.1.1.1.2.2.2.2
  have hl6 := hC.1.1.1.1.2.1
  have e221 : D 221 c = lf (Y 8) c := hS.1.1.2.2.2.2.2.2.2.2.2.1 c c0 (by omega)
  have e222 : D 222 c = lf (Y 9) c := hS.1.1.2.2.2.2.2.2.2.2.2.2.1 c c0 (by omega)
  have hcl := (hC.1.1.1.2.2.2.1 c c0 c1).2.2.2.2.2.1
  have hln := hC.1.2.1.2.2
  have hal := hC.1.2.1.2.1
  have hw := ca_w hC hV (k := c) i0 i1 hi c0 c1
  refine r101_0 ?_
  rw [e221, e222, e217]
  refine ⟨by omega, fun z hz => ⟨by omega, by omega, by decide, by omega, (ab, lf (Y 11) b, lf (Y 12) b, T, sl (T i) 12 (16 + lf (Y 9) c)), ⟨⟨hS.2.1, hC.1.2.1.1, hal⟩, hT, ⟨by dsimp only; omega, by dsimp only; omega, hn.1.1, hn.1.2⟩, by decide, fun k k0 k1 => ⟨?_, hw k k0 k1⟩, fun k k0 k1 => TV.o hC hV hn.1.1 hn.1.2 k0 (by rw [hn.2]; omega)⟩, fun z8 m9 x => ?_⟩⟩
  · dsimp only
    by_cases e : k = 12
    · rw [e, ub_s, sl_s]
    · rw [ub_n e, sl_n e, ub_a (by decide), sp_s, hz k k0 (by omega)]
      exact hT i k i0 i1 k0 (by omega)
  · dsimp only at x
    refine H _ ⟨((((((FrE.r D).s (Or.inr rfl)).u (Or.inr (Or.inr ⟨rfl, Or.inl rfl⟩))).u (Or.inr (Or.inl rfl))).u (Or.inr (Or.inr ⟨rfl, Or.inl rfl⟩))).s (Or.inl rfl)).u (Or.inr (Or.inr ⟨rfl, Or.inr rfl⟩)), ?_, ?_⟩
    · rw [ub_a (by decide), sp_s]; exact x.1
    · rw [ub_s]; exact x.2
