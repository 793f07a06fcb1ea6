/-! types: SafeCode's sweeps over a body -/
set_option maxRecDepth 100000
theorem msr_bb {H : Int → Nat} {f : Int} {B : Nat} (h : ∀ j, H j ≤ B) : ∀ n : Nat, msr H f n ≤ B * n
  | 0 => Nat.le_refl _
  | n + 1 => by
    have h1 := msr_bb (f := f) h n
    have h2 := h (f + n)
    show msr H f n + H (f + n) ≤ B * (n + 1)
    rw [Nat.mul_succ]
    omega
def rks (T : TyT) (j : Int) : Nat := msr (fun k => rkT (T j k)) 0 20
def trk (T : TyT) (f e : Int) : Nat := msr (rks T) f (e - f).toNat
theorem rks_b (T : TyT) (j : Int) : rks T j ≤ 2000 := msr_bb (B := 100) (fun k => rk_b _) 20
theorem trk_b (T : TyT) (f e : Int) : trk T f e ≤ 2000 * (e - f).toNat := msr_bb (rks_b T) _
theorem trk_lt {f e : Int} {T T' : TyT} (h : ∀ i k : Int, f ≤ i → i < e → 0 ≤ k → k < 20 → rkT (T i k) ≤ rkT (T' i k)) (hs : ∃ i k : Int, (f ≤ i ∧ i < e ∧ 0 ≤ k ∧ k < 20) ∧ rkT (T i k) < rkT (T' i k)) : trk T f e < trk T' f e := by
  obtain ⟨i, k, ⟨i0, i1, k0, k1⟩, hs⟩ := hs
  refine msr_lt _ (fun j j0 j1 => msr_le 20 fun q q0 q1 => h j q j0 (by omega) q0 (by omega)) ⟨i, i0, by omega, msr_lt 20 (fun q q0 q1 => h i q i0 i1 q0 (by omega)) ⟨k, k0, by omega, hs⟩⟩
/-- a state changes only within the body -/
def TO (f e : Int) (T T' : TyT) : Prop := ∀ i k : Int, ¬ (f ≤ i ∧ i < e ∧ 0 ≤ k ∧ k < 20) → T' i k = T i k
theorem TO.r {f e : Int} {T : TyT} : TO f e T T := fun _ _ _ => rfl
theorem TO.t {f e : Int} {T T' T'' : TyT} (h : TO f e T T') (h2 : TO f e T' T'') : TO f e T T'' := fun i k x => (h2 i k x).trans (h i k x)
theorem TO.j {ab : List Int} {f e : Int} {T T' : TyT} (h : TO f e T T') {j tp : Int} {w : Int → Int} (j0 : f ≤ j) (j1 : j < e) (ht : tp ≤ 20) : TO f e T (jnT ab T' j w tp) := fun i k x => by
  rw [show jnT ab T' j w tp i k = T' i k from cit_f (by omega)]; exact h i k x
section Tw
theorem jn_p {ns ab : List Int} {X Y : XB} {b : Int} (hC : TC ns ab X Y b) {T : TyT} (h : TV ab X Y b T) {i j : Int} (hi : ¬ T i 0 < 0) (j0 : lf (Y 11) b ≤ j) (j1 : j < lf (Y 12) b) (hj : 0 ≤ htF X Y b j) {w : Int → Int} (hw : ∀ k : Int, 0 ≤ k → k < 12 + htF X Y b j → tyS (8 + ab.length) (w k)) : ¬ jnT ab T j w (12 + htF X Y b j) i 0 < 0 := by
  by_cases e : i = j
  · rw [e]
    have := TV.j hC h j0 j1 hj hw j j0 j1
    rcases this with x | x
    · have h2 : jnT ab T j w (12 + htF X Y b j) j 0 = jnV ab (T j 0) (w 0) := cit_t ⟨rfl, by decide, by omega⟩
      have h3 := jnV_s hC.1.2.1.1 hC.1.2.1.2.1 (TV.o hC h j0 j1 (k := 0) (by decide) (by omega)) (hw 0 (by decide) (by omega))
      have h4 := (tyS_b h3 (by have := hC.1.2.1.2.1; omega)).1
      rw [h2]; omega
    · have h4 := (tyS_b (x.2.1 0 (by decide) (by omega)) (by have := hC.1.2.1.2.1; omega)).1
      omega
  · rw [show jnT ab T j w (12 + htF X Y b j) i 0 = T i 0 from cit_f (fun x => e x.1)]; exact hi
/-- what a catch does -/
theorem ca_1 {ns ab : List Int} {X Y : XB} {b : Int} (hC : TC ns ab X Y b) {T : TyT} (h : TV ab X Y b T) {i k : Int} (i0 : lf (Y 11) b ≤ i) (i1 : i < lf (Y 12) b) (hi : ¬ T i 0 < 0) (k0 : 0 ≤ k) (k1 : k < (Y 6).length) (hk : cov Y b k i) : TV ab X Y b (jnT ab T (lf (Y 8) k) (sl (T i) 12 (16 + lf (Y 9) k)) 13) ∧ ¬ jnT ab T (lf (Y 8) k) (sl (T i) 12 (16 + lf (Y 9) k)) 13 i 0 < 0 := by
  have hq := TV.c hC h i0 i1 hi
  have hn := (TC.n hC i0 i1 hq.1).2.2.2 k k0 k1 hk
  have hw := ca_w hC h (k := k) i0 i1 hi k0 k1
  have e : (13 : Int) = 12 + htF X Y b (lf (Y 8) k) := by rw [hn.2]; rfl
  have hw' : ∀ q : Int, 0 ≤ q → q < 12 + htF X Y b (lf (Y 8) k) → tyS (8 + ab.length) (sl (T i) 12 (16 + lf (Y 9) k) q) := fun q q0 q1 => hw q q0 (by omega)
  rw [e]
  exact ⟨TV.j hC h hn.1.1 hn.1.2 (by omega) hw', jn_p hC h hi hn.1.1 hn.1.2 (by omega) hw'⟩
theorem ca_a {ns ab : List Int} {X Y : XB} {b : Int} (hC : TC ns ab X Y b) {i : Int} (i0 : lf (Y 11) b ≤ i) (i1 : i < lf (Y 12) b) : ∀ (n : Nat) (k : Int) (T : TyT), 0 ≤ k → k + n ≤ (Y 6).length → TV ab X Y b T → ¬ T i 0 < 0 → TV ab X Y b (caT ab Y b i n k T) ∧ ¬ caT ab Y b i n k T i 0 < 0 ∧ TO (lf (Y 11) b) (lf (Y 12) b) T (caT ab Y b i n k T)
  | 0, _, T, _, _, h, hi => ⟨h, hi, TO.r⟩
  | n + 1, k, T, k0, k1, h, hi => by
    show TV ab X Y b (caT ab Y b i n (k + 1) (cit _ _ _)) ∧ ¬ caT ab Y b i n (k + 1) (cit _ _ _) i 0 < 0 ∧ TO _ _ T (caT ab Y b i n (k + 1) (cit _ _ _))
    rcases Classical.em (cov Y b k i) with g | g
    · rw [cit_t g]
      have h1 := ca_1 hC h i0 i1 hi k0 (by omega) g
      have hn := hC.1.1.ca k0 (show k < (Y 6).length by omega) g.1
      have := ca_a hC i0 i1 n (k + 1) _ (by omega) (by omega) h1.1 h1.2
      exact ⟨this.1, this.2.1, (TO.r.j hn.1 hn.2 (by decide)).t this.2.2⟩
    · rw [cit_f g]
      exact ca_a hC i0 i1 n (k + 1) T (by omega) (by omega) h hi
/-- one instruction keeps all this -/
theorem st_v {ns ab : List Int} {X Y : XB} {b : Int} (hC : TC ns ab X Y b) {T : TyT} (h : TV ab X Y b T) {i : Int} (i0 : lf (Y 11) b ≤ i) (i1 : i < lf (Y 12) b) : TV ab X Y b (stT ab X Y b T i) ∧ TO (lf (Y 11) b) (lf (Y 12) b) T (stT ab X Y b T i) := by
  unfold stT
  rcases Classical.em (T i 0 < 0) with g | g
  · rw [cit_t g]; exact ⟨h, TO.r⟩
  · rw [cit_f g]
    have hc := ca_a hC i0 i1 (Y 6).length 0 T (Int.le_refl _) (by omega) h g
    have hc1 : TV ab X Y b (caA ab Y b i T) := hc.1
    have hc2 : ¬ caA ab Y b i T i 0 < 0 := hc.2.1
    have hc3 : TO (lf (Y 11) b) (lf (Y 12) b) T (caA ab Y b i T) := hc.2.2
    generalize caA ab Y b i T = T1 at *
    rcases Classical.em (lf (Y 0) i = 33 ∧ T1 i (12 + htF X Y b i - 2) = 1) with g1 | g1
    · rw [cit_t g1]; exact ⟨hc1, hc3⟩
    · rw [cit_f g1]
      have hq := TV.c hC hc1 i0 i1 hc2
      have hn := TC.n hC i0 i1 hq.1
      have hb := ht_b (X := X) (Y := Y) (b := b) (i := i)
      have hr := hC.1.1.rg hC.2.1.1 hC.2.1.2
      have eh : (((htF X Y b i).toNat : Nat) : Int) = htF X Y b i := by omega
      have hw := acW_s hC.1 (i := i) (w := T1 i) (h := (htF X Y b i).toNat) (by omega) (by omega) hn.1.1 (by omega) (by rw [eh]; exact hq.2)
      rw [eh] at hw
      have hgo : ∀ T2 : TyT, TV ab X Y b T2 → TO (lf (Y 11) b) (lf (Y 12) b) T T2 → ∀ j : Int, (lf (Y 11) b ≤ j ∧ j < lf (Y 12) b) → htF X Y b j = hth X Y i (htF X Y b i).toNat → TV ab X Y b (jnT ab T2 j (acW X Y (T1 i) (12 + htF X Y b i) i) (12 + hth X Y i (htF X Y b i).toNat)) ∧ TO (lf (Y 11) b) (lf (Y 12) b) T (jnT ab T2 j (acW X Y (T1 i) (12 + htF X Y b i) i) (12 + hth X Y i (htF X Y b i).toNat)) := fun T2 v2 o2 j hj ej => by
        refine ⟨?_, o2.j hj.1 hj.2 (by omega)⟩
        rw [← ej]
        exact TV.j hC v2 hj.1 hj.2 (by omega) (fun k k0 k1 => hw k k0 (by omega))
      unfold gnT
      have hT2 : TV ab X Y b (cit (goOn (lf (Y 0) i)) (jnT ab T1 (i + 1) (acW X Y (T1 i) (12 + htF X Y b i) i) (12 + hth X Y i (htF X Y b i).toNat)) T1) ∧ TO (lf (Y 11) b) (lf (Y 12) b) T (cit (goOn (lf (Y 0) i)) (jnT ab T1 (i + 1) (acW X Y (T1 i) (12 + htF X Y b i) i) (12 + hth X Y i (htF X Y b i).toNat)) T1) := by
        rcases Classical.em (goOn (lf (Y 0) i)) with g2 | g2
        · rw [cit_t g2]
          exact hgo T1 hc1 hc3 _ ⟨by omega, (hn.2.1 g2).1⟩ (hn.2.1 g2).2
        · rw [cit_f g2]; exact ⟨hc1, hc3⟩
      rcases Classical.em (isJ (lf (Y 0) i)) with g3 | g3
      · rw [cit_t g3]
        exact hgo _ hT2.1 hT2.2 _ (hn.2.2.1 g3).1 (hn.2.2.1 g3).2
      · rw [cit_f g3]; exact hT2
end Tw
theorem r99_0 {L c4 c5 c6 : Nat} {D : Dt} {Q : Out → Wd → Prop} {b ca ce : Int} (H : (0 ≤ b ∧ b < 48) ∧ (((-2147483648) ≤ (D 210 b) * 20 ∧ (D 210 b) * 20 ≤ 2147483647) ∧ (wp 99 14 [vr 87, vi b, vi ca, vi ce, vi ((D 210 b) * 20), vu] [] (D, SS L 1 2 2 c4 c5 c6) Q))) : wp 99 0 [vr 87, vi b, vi ca, vi ce, vu, vu] [] (D, SS L 1 2 2 c4 c5 c6) Q := vc_wp [4] 200 _ _ _ _ _ _ (show wp 99 4 [vr 87, vi b, vi ca, vi ce, vu, vu] [vr 197] (D, SS L 1 2 2 c4 c5 c6) Q from vc_wp [7] 200 _ _ _ _ _ _ (show wp 99 7 [vr 87, vi b, vi ca, vi ce, vu, vu] [vr 210] (D, SS L 1 2 2 c4 c5 c6) Q from vc_wp [12] 200 _ _ _ _ _ _ (show (0 ≤ b ∧ b < 48) ∧ (wp 99 12 [vr 87, vi b, vi ca, vi ce, vu, vu] [vi (w32 ((D 210 b) * 20))] (D, SS L 1 2 2 c4 c5 c6) Q) from ⟨H.1, w32_i (fun z1 : Int => wp 99 12 [vr 87, vi b, vi ca, vi ce, vu, vu] [vi z1] (D, SS L 1 2 2 c4 c5 c6) Q) (H.2).1 (vc_wp [14] 200 _ _ _ _ _ _ (show wp 99 14 [vr 87, vi b, vi ca, vi ce, vi ((D 210 b) * 20), vu] [] (D, SS L 1 2 2 c4 c5 c6) Q from (H.2).2))⟩)))
theorem r99_14 {L c4 c5 c6 : Nat} {D : Dt} {Q : Out → Wd → Prop} {b ca ce i : Int} (H : (0 ≤ b ∧ b < 48) ∧ (((-2147483648) ≤ (D 211 b) * 20 ∧ (D 211 b) * 20 ≤ 2147483647) ∧ ((i < (D 211 b) * 20 → ((0 ≤ i ∧ i < 20480) ∧ (((-2147483648) ≤ i + 1 ∧ i + 1 ≤ 2147483647) ∧ (wp 99 14 [vr 87, vi b, vi ca, vi ce, vi (i + 1), vu] [] (up D 90 i (-1), SS L 1 2 2 c4 c5 c6) Q)))) ∧ (¬ (i < (D 211 b) * 20) → (wp 99 48 [vr 87, vi b, vi ca, vi ce, vi 0, vu] [] (D, SS L 1 2 2 c4 c5 c6) Q))))) : wp 99 14 [vr 87, vi b, vi ca, vi ce, vi i, vu] [] (D, SS L 1 2 2 c4 c5 c6) Q := vc_wp [20] 200 _ _ _ _ _ _ (show wp 99 20 [vr 87, vi b, vi ca, vi ce, vi i, vu] [vr 197, vi i] (D, SS L 1 2 2 c4 c5 c6) Q from vc_wp [23] 200 _ _ _ _ _ _ (show wp 99 23 [vr 87, vi b, vi ca, vi ce, vi i, vu] [vr 211, vi i] (D, SS L 1 2 2 c4 c5 c6) Q from vc_wp [28] 200 _ _ _ _ _ _ (show (0 ≤ b ∧ b < 48) ∧ (wp 99 28 [vr 87, vi b, vi ca, vi ce, vi i, vu] [vi (w32 ((D 211 b) * 20)), vi i] (D, SS L 1 2 2 c4 c5 c6) Q) from ⟨H.1, w32_i (fun z4 : Int => wp 99 28 [vr 87, vi b, vi ca, vi ce, vi i, vu] [vi z4, vi i] (D, SS L 1 2 2 c4 c5 c6) Q) (H.2).1 (vc_wp [35, 48] 200 _ _ _ _ _ _ (show ((i < (D 211 b) * 20 → (wp 99 35 [vr 87, vi b, vi ca, vi ce, vi i, vu] [vr 90] (D, SS L 1 2 2 c4 c5 c6) Q)) ∧ (¬ (i < (D 211 b) * 20) → (wp 99 48 [vr 87, vi b, vi ca, vi ce, vi 0, vu] [] (D, SS L 1 2 2 c4 c5 c6) Q))) from ⟨fun h2 => vc_wp [42] 200 _ _ _ _ _ _ (show (0 ≤ i ∧ i < 20480) ∧ (wp 99 42 [vr 87, vi b, vi ca, vi ce, vi (w32 (i + 1)), vu] [] (up D 90 i (-1), SS L 1 2 2 c4 c5 c6) Q) from ⟨((H.2).2.1 h2).1, w32_i (fun z1 : Int => wp 99 42 [vr 87, vi b, vi ca, vi ce, vi z1, vu] [] (up D 90 i (-1), SS L 1 2 2 c4 c5 c6) Q) (((H.2).2.1 h2).2).1 (vc_wp [14] 200 _ _ _ _ _ _ (show wp 99 14 [vr 87, vi b, vi ca, vi ce, vi (i + 1), vu] [] (up D 90 i (-1), SS L 1 2 2 c4 c5 c6) Q from (((H.2).2.1 h2).2).2))⟩), fun h3 => ((H.2).2.2 h3)⟩))⟩)))
theorem r99_48 {L c4 c5 c6 : Nat} {D : Dt} {Q : Out → Wd → Prop} {b ca ce i : Int} (H : ((i < 12 → ((0 ≤ b ∧ b < 48) ∧ ((i < D 206 b → (((-2147483648) ≤ b * 12 ∧ b * 12 ≤ 2147483647) ∧ (((-2147483648) ≤ (b * 12) + i ∧ (b * 12) + i ≤ 2147483647) ∧ ((0 ≤ (b * 12) + i ∧ (b * 12) + i < 576) ∧ (wp 99 94 [vr 87, vi b, vi ca, vi ce, vi i, vu] [vi (D 207 ((b * 12) + i)), vi i, vr 91] (D, SS L 1 2 2 c4 c5 c6) Q))))) ∧ (¬ (i < D 206 b) → (wp 99 94 [vr 87, vi b, vi ca, vi ce, vi i, vu] [vi 2, vi i, vr 91] (D, SS L 1 2 2 c4 c5 c6) Q))))) ∧ (¬ (i < 12) → ((0 ≤ b ∧ b < 48) ∧ (∃ (xj5 : List Int × Int × Int × (Int → Int → Int) × (Int → Int)), ((ABp (D 198) xj5.1 ∧ ABw xj5.1 ∧ xj5.1.length ≤ 24) ∧ TR xj5.2.1 xj5.2.2.1 xj5.2.2.2.1 (D 90) ∧ (0 ≤ xj5.2.1 ∧ xj5.2.2.1 ≤ 1024 ∧ xj5.2.1 ≤ (D 210 b) ∧ (D 210 b) < xj5.2.2.1) ∧ ((0 : Int) ≤ 12 ∧ 12 ≤ (20 : Int)) ∧ (∀ k : Int, 0 ≤ k → k < 12 → D 91 k = xj5.2.2.2.2 k ∧ tyS (8 + xj5.1.length) (xj5.2.2.2.2 k)) ∧ (∀ k : Int, 0 ≤ k → k < 12 → tyO (8 + xj5.1.length) (xj5.2.2.2.1 (D 210 b) k))) ∧ ((∀ (z7 : Int → Int) (m8 : Int), (TR xj5.2.1 xj5.2.2.1 (jnT xj5.1 xj5.2.2.2.1 (D 210 b) xj5.2.2.2.2 (12)) z7 ∧ TyG xj5.2.1 xj5.2.2.1 xj5.2.2.2.1 (D 87 7) (jnT xj5.1 xj5.2.2.2.1 (D 210 b) xj5.2.2.2.2 (12)) m8) → (wp 99 120 [vr 87, vi b, vi ca, vi ce, vu, vu] [] (up (sp (up D 87 6 12) 90 z7) 87 7 m8, SS L 1 2 2 c4 c5 c6) Q)))))))) : wp 99 48 [vr 87, vi b, vi ca, vi ce, vi i, vu] [] (D, SS L 1 2 2 c4 c5 c6) Q := vc_wp [59, 107] 200 _ _ _ _ _ _ (show ((i < 12 → (wp 99 59 [vr 87, vi b, vi ca, vi ce, vi i, vu] [vr 91] (D, SS L 1 2 2 c4 c5 c6) Q)) ∧ (¬ (i < 12) → (wp 99 107 [vr 87, vi b, vi ca, vi ce, vi i, vu] [] (up D 87 6 12, SS L 1 2 2 c4 c5 c6) Q))) from ⟨fun h10 => vc_wp [67] 200 _ _ _ _ _ _ (show wp 99 67 [vr 87, vi b, vi ca, vi ce, vi i, vu] [vr 197, vi i, vi i, vr 91] (D, SS L 1 2 2 c4 c5 c6) Q from vc_wp [70] 200 _ _ _ _ _ _ (show wp 99 70 [vr 87, vi b, vi ca, vi ce, vi i, vu] [vr 206, vi i, vi i, vr 91] (D, SS L 1 2 2 c4 c5 c6) Q from vc_wp [79, 94] 200 _ _ _ _ _ _ (show (0 ≤ b ∧ b < 48) ∧ ((i < D 206 b → (wp 99 79 [vr 87, vi b, vi ca, vi ce, vi i, vu] [vr 197, vi i, vr 91] (D, SS L 1 2 2 c4 c5 c6) Q)) ∧ (¬ (i < D 206 b) → (wp 99 94 [vr 87, vi b, vi ca, vi ce, vi i, vu] [vi 2, vi i, vr 91] (D, SS L 1 2 2 c4 c5 c6) Q))) from ⟨(H.1 h10).1, ⟨fun h3 => vc_wp [82] 200 _ _ _ _ _ _ (show wp 99 82 [vr 87, vi b, vi ca, vi ce, vi i, vu] [vr 207, vi i, vr 91] (D, SS L 1 2 2 c4 c5 c6) Q from vc_wp [86] 200 _ _ _ _ _ _ (show wp 99 86 [vr 87, vi b, vi ca, vi ce, vi i, vu] [vi (w32 (b * 12)), vr 207, vi i, vr 91] (D, SS L 1 2 2 c4 c5 c6) Q from w32_i (fun z2 : Int => wp 99 86 [vr 87, vi b, vi ca, vi ce, vi i, vu] [vi z2, vr 207, vi i, vr 91] (D, SS L 1 2 2 c4 c5 c6) Q) (((H.1 h10).2.1 h3)).1 (vc_wp [89] 200 _ _ _ _ _ _ (show wp 99 89 [vr 87, vi b, vi ca, vi ce, vi i, vu] [vi (w32 ((b * 12) + i)), vr 207, vi i, vr 91] (D, SS L 1 2 2 c4 c5 c6) Q from w32_i (fun z1 : Int => wp 99 89 [vr 87, vi b, vi ca, vi ce, vi i, vu] [vi z1, vr 207, vi i, vr 91] (D, SS L 1 2 2 c4 c5 c6) Q) ((((H.1 h10).2.1 h3)).2).1 (vc_wp [94] 200 _ _ _ _ _ _ (show (0 ≤ (b * 12) + i ∧ (b * 12) + i < 576) ∧ (wp 99 94 [vr 87, vi b, vi ca, vi ce, vi i, vu] [vi (D 207 ((b * 12) + i)), vi i, vr 91] (D, SS L 1 2 2 c4 c5 c6) Q) from ⟨((((H.1 h10).2.1 h3)).2).2.1, ((((H.1 h10).2.1 h3)).2).2.2⟩)))))), fun h4 => ((H.1 h10).2.2 h4)⟩⟩))), fun h11 => vc_wp [112] 200 _ _ _ _ _ _ (show wp 99 112 [vr 87, vi b, vi ca, vi ce, vi i, vu] [vr 197, vr 87] (up D 87 6 12, SS L 1 2 2 c4 c5 c6) Q from vc_wp [115] 200 _ _ _ _ _ _ (show wp 99 115 [vr 87, vi b, vi ca, vi ce, vi i, vu] [vr 210, vr 87] (up D 87 6 12, SS L 1 2 2 c4 c5 c6) Q from vc_wp [] 200 _ _ _ _ _ _ (show (0 ≤ b ∧ b < 48) ∧ (wp 100 0 [vr 87, vi (D 210 b), vu, vu, vu] [] (up D 87 6 12, SS L 1 2 2 c4 c5 c6) (aft wp 99 117 [vr 87, vi b, vi ca, vi ce, vi i, vu] [] Q)) from ⟨(H.2 h11).1, Exists.elim ((H.2 h11).2) fun xj5 x6 => s100 ⟨xj5, x6.1, (fun z7 m8 q9 => (show wp 99 120 [vr 87, vi b, vi ca, vi ce, vi i, vu] [] (up (sp (up D 87 6 12) 90 z7) 87 7 m8, SS L 1 2 2 c4 c5 c6) Q from wp_d (Lle.k rfl (Lle.k rfl (Lle.k rfl (Lle.k rfl (Lle.v rfl (Lle.k rfl (Lle.nil))))))) ((x6.2 z7 m8 q9))))⟩⟩)))⟩)
theorem r99_94 {L c4 c5 c6 : Nat} {D : Dt} {Q : Out → Wd → Prop} {b ca ce i s0 s1 : Int} (H : (0 ≤ s1 ∧ s1 < 20) ∧ (((-2147483648) ≤ i + 1 ∧ i + 1 ≤ 2147483647) ∧ (wp 99 48 [vr 87, vi b, vi ca, vi ce, vi (i + 1), vu] [] (up D 91 s1 s0, SS L 1 2 2 c4 c5 c6) Q))) : wp 99 94 [vr 87, vi b, vi ca, vi ce, vi i, vu] [vi s0, vi s1, vr 91] (D, SS L 1 2 2 c4 c5 c6) Q := vc_wp [98] 200 _ _ _ _ _ _ (show (0 ≤ s1 ∧ s1 < 20) ∧ (wp 99 98 [vr 87, vi b, vi ca, vi ce, vi (w32 (i + 1)), vu] [] (up D 91 s1 s0, SS L 1 2 2 c4 c5 c6) Q) from ⟨H.1, w32_i (fun z1 : Int => wp 99 98 [vr 87, vi b, vi ca, vi ce, vi z1, vu] [] (up D 91 s1 s0, SS L 1 2 2 c4 c5 c6) Q) (H.2).1 (vc_wp [48] 200 _ _ _ _ _ _ (show wp 99 48 [vr 87, vi b, vi ca, vi ce, vi (i + 1), vu] [] (up D 91 s1 s0, SS L 1 2 2 c4 c5 c6) Q from (H.2).2))⟩)
theorem r99_120 {L c4 c5 c6 : Nat} {D : Dt} {Q : Out → Wd → Prop} {b ca ce : Int} (H : (0 ≤ b ∧ b < 48) ∧ (wp 99 136 [vr 87, vi b, vi ca, vi ce, vi (D 210 b), vu] [] (up D 87 7 0, SS L 1 2 2 c4 c5 c6) Q)) : wp 99 120 [vr 87, vi b, vi ca, vi ce, vu, vu] [] (D, SS L 1 2 2 c4 c5 c6) Q := vc_wp [125] 200 _ _ _ _ _ _ (show ((0 : Int) ≤ 0 ∧ 0 ≤ (1 : Int)) ∧ (wp 99 125 [vr 87, vi b, vi ca, vi ce, vu, vu] [] (up D 87 7 0, SS L 1 2 2 c4 c5 c6) Q) from ⟨(by decide), vc_wp [129] 200 _ _ _ _ _ _ (show wp 99 129 [vr 87, vi b, vi ca, vi ce, vu, vu] [vr 197] (up D 87 7 0, SS L 1 2 2 c4 c5 c6) Q from vc_wp [132] 200 _ _ _ _ _ _ (show wp 99 132 [vr 87, vi b, vi ca, vi ce, vu, vu] [vr 210] (up D 87 7 0, SS L 1 2 2 c4 c5 c6) Q from vc_wp [136] 200 _ _ _ _ _ _ (show (0 ≤ b ∧ b < 48) ∧ (wp 99 136 [vr 87, vi b, vi ca, vi ce, vi (D 210 b), vu] [] (up D 87 7 0, SS L 1 2 2 c4 c5 c6) Q) from ⟨H.1, H.2⟩)))⟩)
theorem r99_136 {L c4 c5 c6 : Nat} {D : Dt} {Q : Out → Wd → Prop} {b ca ce i : Int} (H : (0 ≤ b ∧ b < 48) ∧ ((i < D 211 b → (((-2147483648) ≤ i * 20 ∧ i * 20 ≤ 2147483647) ∧ ((0 ≤ i * 20 ∧ i * 20 < 20480) ∧ ((D 90 (i * 20) < 0 → (wp 99 291 [vr 87, vi b, vi ca, vi ce, vi i, vu] [] (D, SS L 1 2 2 c4 c5 c6) Q)) ∧ (¬ (D 90 (i * 20) < 0) → (wp 99 169 [vr 87, vi b, vi ca, vi ce, vi i, vi ca] [] (D, SS L 1 2 2 c4 c5 c6) Q)))))) ∧ (¬ (i < D 211 b) → ((D 87 7 = 0 → ((0 ≤ b ∧ b < 48) ∧ (wp 99 315 [vr 87, vi b, vu, vu, vi (D 210 b), vu] [] (D, SS L 1 2 2 c4 c5 c6) Q))) ∧ (¬ (D 87 7 = 0) → (wp 99 120 [vr 87, vi b, vi ca, vi ce, vu, vu] [] (D, SS L 1 2 2 c4 c5 c6) Q)))))) : wp 99 136 [vr 87, vi b, vi ca, vi ce, vi i, vu] [] (D, SS L 1 2 2 c4 c5 c6) Q := vc_wp [142] 200 _ _ _ _ _ _ (show wp 99 142 [vr 87, vi b, vi ca, vi ce, vi i, vu] [vr 197, vi i] (D, SS L 1 2 2 c4 c5 c6) Q from vc_wp [145] 200 _ _ _ _ _ _ (show wp 99 145 [vr 87, vi b, vi ca, vi ce, vi i, vu] [vr 211, vi i] (D, SS L 1 2 2 c4 c5 c6) Q from vc_wp [120, 154, 308] 200 _ _ _ _ _ _ (show (0 ≤ b ∧ b < 48) ∧ ((i < D 211 b → (wp 99 154 [vr 87, vi b, vi ca, vi ce, vi i, vu] [vr 90] (D, SS L 1 2 2 c4 c5 c6) Q)) ∧ (¬ (i < D 211 b) → ((D 87 7 = 0 → (wp 99 308 [vr 87, vi b, vi ca, vi ce, vi i, vu] [vr 197] (D, SS L 1 2 2 c4 c5 c6) Q)) ∧ (¬ (D 87 7 = 0) → (wp 99 120 [vr 87, vi b, vi ca, vi ce, vi i, vu] [] (D, SS L 1 2 2 c4 c5 c6) Q))))) from ⟨H.1, ⟨fun h6 => vc_wp [159] 200 _ _ _ _ _ _ (show wp 99 159 [vr 87, vi b, vi ca, vi ce, vi i, vu] [vi (w32 (i * 20)), vr 90] (D, SS L 1 2 2 c4 c5 c6) Q from w32_i (fun z3 : Int => wp 99 159 [vr 87, vi b, vi ca, vi ce, vi i, vu] [vi z3, vr 90] (D, SS L 1 2 2 c4 c5 c6) Q) ((H.2.1 h6)).1 (vc_wp [169, 291] 200 _ _ _ _ _ _ (show (0 ≤ i * 20 ∧ i * 20 < 20480) ∧ ((D 90 (i * 20) < 0 → (wp 99 291 [vr 87, vi b, vi ca, vi ce, vi i, vu] [] (D, SS L 1 2 2 c4 c5 c6) Q)) ∧ (¬ (D 90 (i * 20) < 0) → (wp 99 169 [vr 87, vi b, vi ca, vi ce, vi i, vi ca] [] (D, SS L 1 2 2 c4 c5 c6) Q))) from ⟨((H.2.1 h6)).2.1, ⟨fun h1 => (((H.2.1 h6)).2.2.1 h1), fun h2 => (((H.2.1 h6)).2.2.2 h2)⟩⟩))), fun h7 => ⟨fun h4 => vc_wp [311] 200 _ _ _ _ _ _ (show wp 99 311 [vr 87, vi b, vi ca, vi ce, vi i, vu] [vr 210] (D, SS L 1 2 2 c4 c5 c6) Q from vc_wp [315] 200 _ _ _ _ _ _ (show (0 ≤ b ∧ b < 48) ∧ (wp 99 315 [vr 87, vi b, vi ca, vi ce, vi (D 210 b), vu] [] (D, SS L 1 2 2 c4 c5 c6) Q) from ⟨((H.2.2 h7).1 h4).1, wp_d (Lle.k rfl (Lle.k rfl (Lle.v rfl (Lle.v rfl (Lle.k rfl (Lle.k rfl (Lle.nil))))))) (((H.2.2 h7).1 h4).2)⟩)), fun h5 => wp_d (Lle.k rfl (Lle.k rfl (Lle.k rfl (Lle.k rfl (Lle.v rfl (Lle.k rfl (Lle.nil))))))) (((H.2.2 h7).2 h5))⟩⟩⟩)))
theorem r99_169 {L c4 c5 c6 : Nat} {D : Dt} {Q : Out → Wd → Prop} {b ca ce i c : Int} (H : ((c < ce → ((0 ≤ c ∧ c < 64) ∧ ((((D 219 c ≤ i ∧ i < D 220 c → (∃ (xq3 : List Int × List Int × XB × XB × Int × TyT), (SCt xq3.2.1 xq3.2.2.1 xq3.2.2.2.1 D ∧ TC xq3.1 xq3.2.1 xq3.2.2.1 xq3.2.2.2.1 xq3.2.2.2.2.1 ∧ TV xq3.2.1 xq3.2.2.1 xq3.2.2.2.1 xq3.2.2.2.2.1 xq3.2.2.2.2.2 ∧ TR (lf (xq3.2.2.2.1 11) xq3.2.2.2.2.1) (lf (xq3.2.2.2.1 12) xq3.2.2.2.2.1) xq3.2.2.2.2.2 (D 90) ∧ (lf (xq3.2.2.2.1 11) xq3.2.2.2.2.1 ≤ i ∧ i < lf (xq3.2.2.2.1 12) xq3.2.2.2.2.1) ∧ D 217 i = htF xq3.2.2.1 xq3.2.2.2.1 xq3.2.2.2.2.1 i ∧ ¬ xq3.2.2.2.2.2 i 0 < 0 ∧ (0 ≤ c ∧ c < (xq3.2.2.2.1 6).length) ∧ cov xq3.2.2.2.1 xq3.2.2.2.2.1 c i) ∧ ((∀ (E5 : Dt), (FrE D E5 ∧ TR (lf (xq3.2.2.2.1 11) xq3.2.2.2.2.1) (lf (xq3.2.2.2.1 12) xq3.2.2.2.2.1) (jnT xq3.2.1 xq3.2.2.2.2.2 (lf (xq3.2.2.2.1 8) c) (sl (xq3.2.2.2.2.2 i) 12 (16 + lf (xq3.2.2.2.1 9) c)) 13) (E5 90) ∧ TyG (lf (xq3.2.2.2.1 11) xq3.2.2.2.2.1) (lf (xq3.2.2.2.1 12) xq3.2.2.2.2.1) xq3.2.2.2.2.2 (D 87 7) (jnT xq3.2.1 xq3.2.2.2.2.2 (lf (xq3.2.2.2.1 8) c) (sl (xq3.2.2.2.2.2 i) 12 (16 + lf (xq3.2.2.2.1 9) c)) 13) (E5 87 7)) → (wp 99 194 [vr 87, vi b, vi ca, vi ce, vi i, vi c] [] (E5, SS L 1 2 2 c4 c5 c6) Q))))) ∧ (¬ (D 219 c ≤ i ∧ i < D 220 c) → (wp 99 194 [vr 87, vi b, vi ca, vi ce, vi i, vi c] [] (D, SS L 1 2 2 c4 c5 c6) Q))))))) ∧ (¬ (c < ce) → ((0 ≤ i ∧ i < 1024 ∧ -1 ≤ D 217 i ∧ D 217 i ≤ 8) ∧ ((∀ (z10 : Int → Int), (∀ k : Int, 0 ≤ k → k < 20 → z10 k = D 90 (i * 20 + k)) → ((0 ≤ i ∧ i < 1024) ∧ ((D 212 i = 33 → (((-2147483648) ≤ (12 + D 217 i) - 2 ∧ (12 + D 217 i) - 2 ≤ 2147483647) ∧ ((0 ≤ (12 + D 217 i) - 2 ∧ (12 + D 217 i) - 2 < 20) ∧ ((z10 ((12 + D 217 i) - 2) = 1 → (wp 99 291 [vr 87, vi b, vi ca, vi ce, vi i, vu] [] (up (sp D 91 z10) 87 6 (12 + D 217 i), SS L 1 2 2 c4 c5 c6) Q)) ∧ (¬ (z10 ((12 + D 217 i) - 2) = 1) → (wp 99 239 [vr 87, vi b, vi ca, vi ce, vi i, vu] [] (up (sp D 91 z10) 87 6 (12 + D 217 i), SS L 1 2 2 c4 c5 c6) Q)))))) ∧ (¬ (D 212 i = 33) → (wp 99 239 [vr 87, vi b, vi ca, vi ce, vi i, vu] [] (up (sp D 91 z10) 87 6 (12 + D 217 i), SS L 1 2 2 c4 c5 c6) Q)))))))))) : wp 99 169 [vr 87, vi b, vi ca, vi ce, vi i, vi c] [] (D, SS L 1 2 2 c4 c5 c6) Q := vc_wp [] 200 _ _ _ _ _ _ (show ((c < ce → (wp 98 0 [vr 87, vi c, vi i] [] (D, SS L 1 2 2 c4 c5 c6) (aft wp 99 180 [vr 87, vi b, vi ca, vi ce, vi i, vi c] [] Q))) ∧ (¬ (c < ce) → (wp 102 0 [vr 87, vi i, vu] [] (D, SS L 1 2 2 c4 c5 c6) (aft wp 99 203 [vr 87, vi b, vi ca, vi ce, vi i, vi c] [] Q)))) from ⟨fun h17 => s98 ⟨(H.1 h17).1, (show wp 99 183 [vr 87, vi b, vi ca, vi ce, vi i, vi c] [vi (ib (D 219 c ≤ i ∧ i < D 220 c))] (D, SS L 1 2 2 c4 c5 c6) Q from vc_wp [194] 200 _ _ _ _ _ _ (show ((ib (D 219 c ≤ i ∧ i < D 220 c) = 0 → (wp 99 194 [vr 87, vi b, vi ca, vi ce, vi i, vi c] [] (D, SS L 1 2 2 c4 c5 c6) Q)) ∧ (¬ (ib (D 219 c ≤ i ∧ i < D 220 c) = 0) → (wp 101 0 [vr 87, vi i, vi c] [] (D, SS L 1 2 2 c4 c5 c6) (aft wp 99 191 [vr 87, vi b, vi ca, vi ce, vi i, vi c] [] Q)))) from ⟨fun h7 => ((H.1 h17).2.2 ((ib_z).mp h7)), fun h8 => Exists.elim (((H.1 h17).2.1 (Classical.not_not.mp (mt (ib_z).mpr h8)))) fun xq3 x4 => s101 ⟨xq3, x4.1, (fun E5 q6 => (show wp 99 194 [vr 87, vi b, vi ca, vi ce, vi i, vi c] [] (E5, SS L 1 2 2 c4 c5 c6) Q from (x4.2 E5 q6)))⟩⟩))⟩, fun h18 => s102 ⟨(H.2 h18).1, (fun z10 q11 => (show wp 99 206 [vr 87, vi b, vi ca, vi ce, vi i, vi c] [] (up (sp D 91 z10) 87 6 (12 + D 217 i), SS L 1 2 2 c4 c5 c6) Q from vc_wp [210] 200 _ _ _ _ _ _ (show wp 99 210 [vr 87, vi b, vi ca, vi ce, vi i, vi c] [vr 197] (up (sp D 91 z10) 87 6 (12 + D 217 i), SS L 1 2 2 c4 c5 c6) Q from vc_wp [213] 200 _ _ _ _ _ _ (show wp 99 213 [vr 87, vi b, vi ca, vi ce, vi i, vi c] [vr 212] (up (sp D 91 z10) 87 6 (12 + D 217 i), SS L 1 2 2 c4 c5 c6) Q from vc_wp [225, 239] 200 _ _ _ _ _ _ (show (0 ≤ i ∧ i < 1024) ∧ ((D 212 i = 33 → (wp 99 225 [vr 87, vi b, vi ca, vi ce, vi i, vi c] [vr 91] (up (sp D 91 z10) 87 6 (12 + D 217 i), SS L 1 2 2 c4 c5 c6) Q)) ∧ (¬ (D 212 i = 33) → (wp 99 239 [vr 87, vi b, vi ca, vi ce, vi i, vi c] [] (up (sp D 91 z10) 87 6 (12 + D 217 i), SS L 1 2 2 c4 c5 c6) Q))) from ⟨((H.2 h18).2 z10 q11).1, ⟨fun h15 => vc_wp [231] 200 _ _ _ _ _ _ (show wp 99 231 [vr 87, vi b, vi ca, vi ce, vi i, vi c] [vi (w32 ((12 + D 217 i) - 2)), vr 91] (up (sp D 91 z10) 87 6 (12 + D 217 i), SS L 1 2 2 c4 c5 c6) Q from w32_i (fun z14 : Int => wp 99 231 [vr 87, vi b, vi ca, vi ce, vi i, vi c] [vi z14, vr 91] (up (sp D 91 z10) 87 6 (12 + D 217 i), SS L 1 2 2 c4 c5 c6) Q) ((((H.2 h18).2 z10 q11).2.1 h15)).1 (vc_wp [239, 291] 200 _ _ _ _ _ _ (show (0 ≤ (12 + D 217 i) - 2 ∧ (12 + D 217 i) - 2 < 20) ∧ ((z10 ((12 + D 217 i) - 2) = 1 → (wp 99 291 [vr 87, vi b, vi ca, vi ce, vi i, vi c] [] (up (sp D 91 z10) 87 6 (12 + D 217 i), SS L 1 2 2 c4 c5 c6) Q)) ∧ (¬ (z10 ((12 + D 217 i) - 2) = 1) → (wp 99 239 [vr 87, vi b, vi ca, vi ce, vi i, vi c] [] (up (sp D 91 z10) 87 6 (12 + D 217 i), SS L 1 2 2 c4 c5 c6) Q))) from ⟨((((H.2 h18).2 z10 q11).2.1 h15)).2.1, ⟨fun h12 => wp_d (Lle.k rfl (Lle.k rfl (Lle.k rfl (Lle.k rfl (Lle.k rfl (Lle.v rfl (Lle.nil))))))) ((((((H.2 h18).2 z10 q11).2.1 h15)).2.2.1 h12)), fun h13 => wp_d (Lle.k rfl (Lle.k rfl (Lle.k rfl (Lle.k rfl (Lle.k rfl (Lle.v rfl (Lle.nil))))))) ((((((H.2 h18).2 z10 q11).2.1 h15)).2.2.2 h13))⟩⟩))), fun h16 => wp_d (Lle.k rfl (Lle.k rfl (Lle.k rfl (Lle.k rfl (Lle.k rfl (Lle.v rfl (Lle.nil))))))) ((((H.2 h18).2 z10 q11).2.2 h16))⟩⟩)))))⟩⟩)
theorem r99_194 {L c4 c5 c6 : Nat} {D : Dt} {Q : Out → Wd → Prop} {b ca ce i c : Int} (H : ((-2147483648) ≤ c + 1 ∧ c + 1 ≤ 2147483647) ∧ (wp 99 169 [vr 87, vi b, vi ca, vi ce, vi i, vi (c + 1)] [] (D, SS L 1 2 2 c4 c5 c6) Q)) : wp 99 194 [vr 87, vi b, vi ca, vi ce, vi i, vi c] [] (D, SS L 1 2 2 c4 c5 c6) Q := vc_wp [197] 200 _ _ _ _ _ _ (show wp 99 197 [vr 87, vi b, vi ca, vi ce, vi i, vi (w32 (c + 1))] [] (D, SS L 1 2 2 c4 c5 c6) Q from w32_i (fun z1 : Int => wp 99 197 [vr 87, vi b, vi ca, vi ce, vi i, vi z1] [] (D, SS L 1 2 2 c4 c5 c6) Q) (H).1 (vc_wp [169] 200 _ _ _ _ _ _ (show wp 99 169 [vr 87, vi b, vi ca, vi ce, vi i, vi (c + 1)] [] (D, SS L 1 2 2 c4 c5 c6) Q from (H).2)))
theorem r99_239 {L c4 c5 c6 : Nat} {D : Dt} {Q : Out → Wd → Prop} {b ca ce i : Int} (H : ∃ (xa1 : List Int × List Int × XB × XB × (Int → Int) × Nat), (SCt xa1.2.1 xa1.2.2.1 xa1.2.2.2.1 D ∧ PT xa1.1 xa1.2.1 xa1.2.2.1 xa1.2.2.2.1 ∧ (0 ≤ i ∧ i < (xa1.2.2.2.1 0).length) ∧ hgd xa1.2.2.1 xa1.2.2.2.1 i xa1.2.2.2.2.2 ∧ xa1.2.2.2.2.2 ≤ 8 ∧ D 87 6 = 12 + xa1.2.2.2.2.2 ∧ (∀ k : Int, 0 ≤ k → k < 20 → D 91 k = xa1.2.2.2.2.1 k) ∧ (∀ k : Int, 0 ≤ k → k < 12 + xa1.2.2.2.2.2 → tyS (8 + xa1.2.1.length) (xa1.2.2.2.2.1 k))) ∧ ((∀ (E3 : Dt), (FrA D E3 ∧ E3 87 6 = 12 + hth xa1.2.2.1 xa1.2.2.2.1 i xa1.2.2.2.2.2 ∧ ∀ k : Int, 0 ≤ k → k < 20 → E3 91 k = acW xa1.2.2.1 xa1.2.2.2.1 xa1.2.2.2.2.1 (12 + xa1.2.2.2.2.2) i k) → ((0 ≤ i ∧ i < 1024) ∧ ((((goOn (E3 212 i) → (((-2147483648) ≤ i + 1 ∧ i + 1 ≤ 2147483647) ∧ (∃ (xj7 : List Int × Int × Int × (Int → Int → Int) × (Int → Int)), ((ABp (E3 198) xj7.1 ∧ ABw xj7.1 ∧ xj7.1.length ≤ 24) ∧ TR xj7.2.1 xj7.2.2.1 xj7.2.2.2.1 (E3 90) ∧ (0 ≤ xj7.2.1 ∧ xj7.2.2.1 ≤ 1024 ∧ xj7.2.1 ≤ (i + 1) ∧ (i + 1) < xj7.2.2.1) ∧ ((0 : Int) ≤ E3 87 6 ∧ E3 87 6 ≤ (20 : Int)) ∧ (∀ k : Int, 0 ≤ k → k < E3 87 6 → E3 91 k = xj7.2.2.2.2 k ∧ tyS (8 + xj7.1.length) (xj7.2.2.2.2 k)) ∧ (∀ k : Int, 0 ≤ k → k < E3 87 6 → tyO (8 + xj7.1.length) (xj7.2.2.2.1 (i + 1) k))) ∧ ((∀ (z9 : Int → Int) (m10 : Int), (TR xj7.2.1 xj7.2.2.1 (jnT xj7.1 xj7.2.2.2.1 (i + 1) xj7.2.2.2.2 (E3 87 6)) z9 ∧ TyG xj7.2.1 xj7.2.2.1 xj7.2.2.2.1 (E3 87 7) (jnT xj7.1 xj7.2.2.2.1 (i + 1) xj7.2.2.2.2 (E3 87 6)) m10) → (wp 99 265 [vr 87, vi b, vi ca, vi ce, vi i, vu] [] (up (sp E3 90 z9) 87 7 m10, SS L 1 2 2 c4 c5 c6) Q)))))) ∧ (¬ (goOn (E3 212 i)) → (wp 99 265 [vr 87, vi b, vi ca, vi ce, vi i, vu] [] (E3, SS L 1 2 2 c4 c5 c6) Q))))))))) : wp 99 239 [vr 87, vi b, vi ca, vi ce, vi i, vu] [] (D, SS L 1 2 2 c4 c5 c6) Q := vc_wp [] 200 _ _ _ _ _ _ (show wp 104 0 [vr 87, vi i, vu, vu, vu, vu] [] (D, SS L 1 2 2 c4 c5 c6) (aft wp 99 242 [vr 87, vi b, vi ca, vi ce, vi i, vu] [] Q) from Exists.elim (H) fun xa1 x2 => s104 ⟨xa1, x2.1, (fun E3 q4 => (show wp 99 245 [vr 87, vi b, vi ca, vi ce, vi i, vu] [] (E3, SS L 1 2 2 c4 c5 c6) Q from vc_wp [249] 200 _ _ _ _ _ _ (show wp 99 249 [vr 87, vi b, vi ca, vi ce, vi i, vu] [vr 197] (E3, SS L 1 2 2 c4 c5 c6) Q from vc_wp [] 200 _ _ _ _ _ _ (show wp 217 0 [vr 197, vi i] [] (E3, SS L 1 2 2 c4 c5 c6) (aft wp 99 251 [vr 87, vi b, vi ca, vi ce, vi i, vu] [] Q) from s217 ⟨(x2.2 E3 q4).1, (show wp 99 254 [vr 87, vi b, vi ca, vi ce, vi i, vu] [vi (ib (goOn (E3 212 i)))] (E3, SS L 1 2 2 c4 c5 c6) Q from vc_wp [262, 265] 200 _ _ _ _ _ _ (show ((ib (goOn (E3 212 i)) = 0 → (wp 99 265 [vr 87, vi b, vi ca, vi ce, vi i, vu] [] (E3, SS L 1 2 2 c4 c5 c6) Q)) ∧ (¬ (ib (goOn (E3 212 i)) = 0) → (wp 99 262 [vr 87, vi b, vi ca, vi ce, vi i, vu] [vi (w32 (i + 1)), vr 87] (E3, SS L 1 2 2 c4 c5 c6) Q))) from ⟨fun h13 => ((x2.2 E3 q4).2.2 ((ib_z).mp h13)), fun h14 => w32_i (fun z12 : Int => wp 99 262 [vr 87, vi b, vi ca, vi ce, vi i, vu] [vi z12, vr 87] (E3, SS L 1 2 2 c4 c5 c6) Q) (((x2.2 E3 q4).2.1 (Classical.not_not.mp (mt (ib_z).mpr h14)))).1 (vc_wp [] 200 _ _ _ _ _ _ (show wp 100 0 [vr 87, vi (i + 1), vu, vu, vu] [] (E3, SS L 1 2 2 c4 c5 c6) (aft wp 99 262 [vr 87, vi b, vi ca, vi ce, vi i, vu] [] Q) from Exists.elim ((((x2.2 E3 q4).2.1 (Classical.not_not.mp (mt (ib_z).mpr h14)))).2) fun xj7 x8 => s100 ⟨xj7, x8.1, (fun z9 m10 q11 => (show wp 99 265 [vr 87, vi b, vi ca, vi ce, vi i, vu] [] (up (sp E3 90 z9) 87 7 m10, SS L 1 2 2 c4 c5 c6) Q from (x8.2 z9 m10 q11)))⟩))⟩))⟩))))⟩)
theorem r99_265 {L c4 c5 c6 : Nat} {D : Dt} {Q : Out → Wd → Prop} {b ca ce i : Int} (H : (0 ≤ i ∧ i < 1024) ∧ ((((isJ (D 212 i) → ((0 ≤ i ∧ i < 1024) ∧ (∃ (xj3 : List Int × Int × Int × (Int → Int → Int) × (Int → Int)), ((ABp (D 198) xj3.1 ∧ ABw xj3.1 ∧ xj3.1.length ≤ 24) ∧ TR xj3.2.1 xj3.2.2.1 xj3.2.2.2.1 (D 90) ∧ (0 ≤ xj3.2.1 ∧ xj3.2.2.1 ≤ 1024 ∧ xj3.2.1 ≤ (D 213 i) ∧ (D 213 i) < xj3.2.2.1) ∧ ((0 : Int) ≤ D 87 6 ∧ D 87 6 ≤ (20 : Int)) ∧ (∀ k : Int, 0 ≤ k → k < D 87 6 → D 91 k = xj3.2.2.2.2 k ∧ tyS (8 + xj3.1.length) (xj3.2.2.2.2 k)) ∧ (∀ k : Int, 0 ≤ k → k < D 87 6 → tyO (8 + xj3.1.length) (xj3.2.2.2.1 (D 213 i) k))) ∧ ((∀ (z5 : Int → Int) (m6 : Int), (TR xj3.2.1 xj3.2.2.1 (jnT xj3.1 xj3.2.2.2.1 (D 213 i) xj3.2.2.2.2 (D 87 6)) z5 ∧ TyG xj3.2.1 xj3.2.2.1 xj3.2.2.2.1 (D 87 7) (jnT xj3.1 xj3.2.2.2.1 (D 213 i) xj3.2.2.2.2 (D 87 6)) m6) → (wp 99 291 [vr 87, vi b, vi ca, vi ce, vi i, vu] [] (up (sp D 90 z5) 87 7 m6, SS L 1 2 2 c4 c5 c6) Q)))))) ∧ (¬ (isJ (D 212 i)) → (wp 99 291 [vr 87, vi b, vi ca, vi ce, vi i, vu] [] (D, SS L 1 2 2 c4 c5 c6) Q)))))) : wp 99 265 [vr 87, vi b, vi ca, vi ce, vi i, vu] [] (D, SS L 1 2 2 c4 c5 c6) Q := vc_wp [269] 200 _ _ _ _ _ _ (show wp 99 269 [vr 87, vi b, vi ca, vi ce, vi i, vu] [vr 197] (D, SS L 1 2 2 c4 c5 c6) Q from vc_wp [] 200 _ _ _ _ _ _ (show wp 220 0 [vr 197, vi i] [] (D, SS L 1 2 2 c4 c5 c6) (aft wp 99 271 [vr 87, vi b, vi ca, vi ce, vi i, vu] [] Q) from s220 ⟨H.1, (show wp 99 274 [vr 87, vi b, vi ca, vi ce, vi i, vu] [vi (ib (isJ (D 212 i)))] (D, SS L 1 2 2 c4 c5 c6) Q from vc_wp [282, 291] 200 _ _ _ _ _ _ (show ((ib (isJ (D 212 i)) = 0 → (wp 99 291 [vr 87, vi b, vi ca, vi ce, vi i, vu] [] (D, SS L 1 2 2 c4 c5 c6) Q)) ∧ (¬ (ib (isJ (D 212 i)) = 0) → (wp 99 282 [vr 87, vi b, vi ca, vi ce, vi i, vu] [vr 197, vr 87] (D, SS L 1 2 2 c4 c5 c6) Q))) from ⟨fun h8 => (H.2.2 ((ib_z).mp h8)), fun h9 => vc_wp [285] 200 _ _ _ _ _ _ (show wp 99 285 [vr 87, vi b, vi ca, vi ce, vi i, vu] [vr 213, vr 87] (D, SS L 1 2 2 c4 c5 c6) Q from vc_wp [] 200 _ _ _ _ _ _ (show (0 ≤ i ∧ i < 1024) ∧ (wp 100 0 [vr 87, vi (D 213 i), vu, vu, vu] [] (D, SS L 1 2 2 c4 c5 c6) (aft wp 99 288 [vr 87, vi b, vi ca, vi ce, vi i, vu] [] Q)) from ⟨(H.2.1 (Classical.not_not.mp (mt (ib_z).mpr h9))).1, Exists.elim ((H.2.1 (Classical.not_not.mp (mt (ib_z).mpr h9))).2) fun xj3 x4 => s100 ⟨xj3, x4.1, (fun z5 m6 q7 => (show wp 99 291 [vr 87, vi b, vi ca, vi ce, vi i, vu] [] (up (sp D 90 z5) 87 7 m6, SS L 1 2 2 c4 c5 c6) Q from (x4.2 z5 m6 q7)))⟩⟩))⟩))⟩))
theorem r99_291 {L c4 c5 c6 : Nat} {D : Dt} {Q : Out → Wd → Prop} {b ca ce i : Int} (H : ((-2147483648) ≤ i + 1 ∧ i + 1 ≤ 2147483647) ∧ (wp 99 136 [vr 87, vi b, vi ca, vi ce, vi (i + 1), vu] [] (D, SS L 1 2 2 c4 c5 c6) Q)) : wp 99 291 [vr 87, vi b, vi ca, vi ce, vi i, vu] [] (D, SS L 1 2 2 c4 c5 c6) Q := vc_wp [294] 200 _ _ _ _ _ _ (show wp 99 294 [vr 87, vi b, vi ca, vi ce, vi (w32 (i + 1)), vu] [] (D, SS L 1 2 2 c4 c5 c6) Q from w32_i (fun z1 : Int => wp 99 294 [vr 87, vi b, vi ca, vi ce, vi z1, vu] [] (D, SS L 1 2 2 c4 c5 c6) Q) (H).1 (vc_wp [136] 200 _ _ _ _ _ _ (show wp 99 136 [vr 87, vi b, vi ca, vi ce, vi (i + 1), vu] [] (D, SS L 1 2 2 c4 c5 c6) Q from (H).2)))
/-- one instruction -/
theorem l99i {L c4 c5 c6 : Nat} {D : Dt} {Q : Out → Wd → Prop} {ns ab : List Int} {X Y : XB} {b ca ce i : Int} {T0 : TyT} (hS : SCt ab X Y D) (hC : TC ns ab X Y b) (hca : CaR Y b ca ce) (h217 : ∀ i : Int, lf (Y 11) b ≤ i → i < lf (Y 12) b → D 217 i = htF X Y b i) (i0 : lf (Y 11) b ≤ i) (i1 : i < lf (Y 12) b) {E : Dt} {T : TyT} (f : FrE D E) (hV : TV ab X Y b T) (hT : TR (lf (Y 11) b) (lf (Y 12) b) T (E 90)) (hG : TyG (lf (Y 11) b) (lf (Y 12) b) T0 0 T (E 87 7)) (Hk : ∀ E2, FrE D E2 → TR (lf (Y 11) b) (lf (Y 12) b) (stT ab X Y b T i) (E2 90) → TyG (lf (Y 11) b) (lf (Y 12) b) T0 0 (stT ab X Y b T i) (E2 87 7) → wp 99 136 [vr 87, vi b, vi ca, vi ce, vi (i + 1), vu] [] (E2, SS L 1 2 2 c4 c5 c6) Q) : wp 99 136 [vr 87, vi b, vi ca, vi ce, vi i, vu] [] (E, SS L 1 2 2 c4 c5 c6) Q := by
  have hr := hC.1.1.rg hC.2.1.1 hC.2.1.2
  have h48 := hC.1.1.2.2.1
  have b0 := hC.2.1.1
  have b1 := hC.2.1.2
  have l12 := hC.1.1.1.2.1.2
  have h64 := hC.1.1.1.1.2.2.2.2
  have hl6 := hC.1.1.1.1.2.1
  have hal := hC.1.2.1.2.1
  have ic : 0 ≤ i ∧ i < 1024 := by omega
  have hb := ht_b (X := X) (Y := Y) (b := b) (i := i)
  have e211 : ∀ E', FrE D E' → E' 211 b = lf (Y 12) b := fun E' f' => by rw [f'.1 211 (by decide) (by decide) (by decide)]; exact hS.1.2.1.2 b b0 (by omega)
  have e212 : ∀ E', FrE D E' → E' 212 i = lf (Y 0) i := fun E' f' => by rw [f'.1 212 (by decide) (by decide) (by decide)]; exact hS.1.1.2.1 i (by omega) (by omega)
  have e213 : ∀ E', FrE D E' → E' 213 i = lf (Y 1) i := fun E' f' => by rw [f'.1 213 (by decide) (by decide) (by decide)]; exact hS.1.1.2.2.1 i (by omega) (by have := hC.1.1.1.1.1.1; omega)
  have e217 : ∀ E', FrE D E' → E' 217 i = htF X Y b i := fun E' f' => by rw [f'.1 217 (by decide) (by decide) (by decide)]; exact h217 i i0 i1
  have h291 : ∀ E2, FrE D E2 → TR (lf (Y 11) b) (lf (Y 12) b) (stT ab X Y b T i) (E2 90) → TyG (lf (Y 11) b) (lf (Y 12) b) T0 0 (stT ab X Y b T i) (E2 87 7) → wp 99 291 [vr 87, vi b, vi ca, vi ce, vi i, vu] [] (E2, SS L 1 2 2 c4 c5 c6) Q := fun E2 q1 q2 q3 => r99_291 ⟨by omega, Hk E2 q1 q2 q3⟩
  have e90 : E 90 (i * 20) = T i 0 := by
    have := hT i 0 i0 i1 (by decide) (by decide)
    rw [show i * 20 + 0 = i * 20 by omega] at this
    exact this
  have q11 := e211 E f
  refine r99_136 ⟨by omega, fun _ => ⟨by omega, by omega, ?_⟩, fun g => by omega⟩
  rw [e90]
  refine ⟨fun g => ?_, fun g => ?_⟩
  · have es : stT ab X Y b T i = T := cit_t g
    exact h291 E f (by rw [es]; exact hT) (by rw [es]; exact hG)
  -- behind the catches
  have eA := caA_e (ab := ab) (i := i) hca T
  have hcA := ca_a hC i0 i1 (Y 6).length 0 T (Int.le_refl _) (by omega) hV g
  have hc1 : TV ab X Y b (caA ab Y b i T) := hcA.1
  have hc2 : ¬ caA ab Y b i T i 0 < 0 := hcA.2.1
  have es : stT ab X Y b T i = _ := cit_f g
  have hq := TV.c hC hc1 i0 i1 hc2
  have hn := TC.n hC i0 i1 hq.1
  have eh : (((htF X Y b i).toNat : Nat) : Int) = htF X Y b i := by omega
  have hw := acW_s hC.1 (i := i) (w := caA ab Y b i T i) (h := (htF X Y b i).toNat) (by omega) (by omega) hn.1.1 (by omega) (by rw [eh]; exact hq.2)
  rw [eh] at hw
  have hfin : ∀ E1, FrE D E1 → TR (lf (Y 11) b) (lf (Y 12) b) (caA ab Y b i T) (E1 90) → TyG (lf (Y 11) b) (lf (Y 12) b) T0 0 (caA ab Y b i T) (E1 87 7) → wp 99 169 [vr 87, vi b, vi ca, vi ce, vi i, vi ce] [] (E1, SS L 1 2 2 c4 c5 c6) Q := by
    intro E1 f1 hT1 hG1
    have q17 := e217 E1 f1
    have q12 := e212 E1 f1
    have h239 : ¬ (lf (Y 0) i = 33 ∧ caA ab Y b i T i (12 + htF X Y b i - 2) = 1) → ∀ z : Int → Int, (∀ k : Int, 0 ≤ k → k < 20 → z k = caA ab Y b i T i k) → wp 99 239 [vr 87, vi b, vi ca, vi ce, vi i, vu] [] (up (sp E1 91 z) 87 6 (12 + htF X Y b i), SS L 1 2 2 c4 c5 c6) Q := by
      intro g1 z hz
      rw [cit_f g1] at es
      have f2 : FrE D (up (sp E1 91 z) 87 6 (12 + htF X Y b i)) := (f1.s (Or.inr rfl)).u (Or.inr (Or.inr ⟨rfl, Or.inl rfl⟩))
      refine r99_239 ⟨(ns, ab, X, Y, caA ab Y b i T i, (htF X Y b i).toNat), ⟨hS.p f2.p, hC.1, ⟨by omega, by dsimp only; omega⟩, hn.1.1, by dsimp only; omega, ?_, fun k k0 k1 => ?_, ?_⟩, fun E3 x => ?_⟩
      · rw [ub_s]; dsimp only; rw [eh]
      · rw [ub_a (by decide), sp_s]; exact hz k k0 k1
      · dsimp only; rw [eh]; exact hq.2
      · dsimp only at x
        rw [eh] at x
        obtain ⟨x1, x2, x3⟩ := x
        have f3 : FrE D E3 := f2.t x1.e
        have t90 : E3 90 = E1 90 := by rw [x1.1 90 (by decide) (by decide), ub_a (by decide), sp_a (by decide)]
        have t877 : E3 87 7 = E1 87 7 := by rw [x1.2 7 (by decide), ub_n (by decide), sp_a (by decide)]
        have h265 : ∀ (E4 : Dt) (T4 : TyT), FrE D E4 → E4 87 6 = 12 + hth X Y i (htF X Y b i).toNat → (∀ k : Int, 0 ≤ k → k < 20 → E4 91 k = acW X Y (caA ab Y b i T i) (12 + htF X Y b i) i k) → T4 = cit (goOn (lf (Y 0) i)) (jnT ab (caA ab Y b i T) (i + 1) (acW X Y (caA ab Y b i T i) (12 + htF X Y b i) i) (12 + hth X Y i (htF X Y b i).toNat)) (caA ab Y b i T) → TV ab X Y b T4 → TR (lf (Y 11) b) (lf (Y 12) b) T4 (E4 90) → TyG (lf (Y 11) b) (lf (Y 12) b) T0 0 T4 (E4 87 7) → wp 99 265 [vr 87, vi b, vi ca, vi ce, vi i, vu] [] (E4, SS L 1 2 2 c4 c5 c6) Q := by
          intro E4 T4 f4 y6 y91 eT4 v4 hT4 hG4
          refine r99_265 ?_
          rw [e212 E4 f4, e213 E4 f4, y6]
          refine ⟨ic, fun g3 => ⟨ic, (ab, lf (Y 11) b, lf (Y 12) b, T4, acW X Y (caA ab Y b i T i) (12 + htF X Y b i) i), ⟨⟨(hS.p f4.p).2.1, hC.1.2.1.1, hal⟩, hT4, ⟨by dsimp only; omega, by dsimp only; omega, (hn.2.2.1 g3).1.1, (hn.2.2.1 g3).1.2⟩, ⟨by omega, by omega⟩, fun k k0 k1 => ⟨y91 k k0 (by omega), hw k k0 (by omega)⟩, fun k k0 k1 => TV.o hC v4 (hn.2.2.1 g3).1.1 (hn.2.2.1 g3).1.2 k0 (by rw [(hn.2.2.1 g3).2]; omega)⟩, fun z5 m6 x5 => ?_⟩, fun g3 => ?_⟩
          · dsimp only at x5
            have e2 : stT ab X Y b T i = jnT ab T4 (lf (Y 1) i) (acW X Y (caA ab Y b i T i) (12 + htF X Y b i) i) (12 + hth X Y i (htF X Y b i).toNat) := by
              rw [es]
              unfold gnT
              rw [cit_t g3, eT4]
            refine h291 _ ((f4.s (Or.inl rfl)).u (Or.inr (Or.inr ⟨rfl, Or.inr rfl⟩))) ?_ ?_
            · rw [e2, ub_a (by decide), sp_s]; exact x5.1
            · rw [e2, ub_s]; exact hG4.t x5.2
          · have e2 : stT ab X Y b T i = T4 := by
              rw [es]
              unfold gnT
              rw [cit_f g3, eT4]
            exact h291 E4 f4 (by rw [e2]; exact hT4) (by rw [e2]; exact hG4)
        rw [e212 E3 f3, x2]
        refine ⟨ic, fun g2 => ⟨by omega, (ab, lf (Y 11) b, lf (Y 12) b, caA ab Y b i T, acW X Y (caA ab Y b i T i) (12 + htF X Y b i) i), ⟨⟨(hS.p f3.p).2.1, hC.1.2.1.1, hal⟩, by rw [t90]; exact hT1, ⟨by dsimp only; omega, by dsimp only; omega, by dsimp only; omega, (hn.2.1 g2).1⟩, ⟨by omega, by omega⟩, fun k k0 k1 => ⟨x3 k k0 (by omega), hw k k0 (by omega)⟩, fun k k0 k1 => TV.o hC hc1 (by omega) (hn.2.1 g2).1 k0 (by rw [(hn.2.1 g2).2]; omega)⟩, fun z9 m10 x9 => ?_⟩, fun g2 => ?_⟩
        · dsimp only at x9
          refine h265 _ _ ((f3.s (Or.inl rfl)).u (Or.inr (Or.inr ⟨rfl, Or.inr rfl⟩))) ?_ (fun k k0 k1 => ?_) (cit_t g2).symm ?_ ?_ ?_
          · rw [ub_n (by decide), sp_a (by decide)]; exact x2
          · rw [ub_a (by decide), sp_a (by decide)]; exact x3 k k0 k1
          · have := TV.j hC hc1 (j := i + 1) (by omega) (hn.2.1 g2).1 (by rw [(hn.2.1 g2).2]; omega) (w := acW X Y (caA ab Y b i T i) (12 + htF X Y b i) i) (fun k k0 k1 => hw k k0 (by rw [(hn.2.1 g2).2] at k1; exact k1))
            rw [(hn.2.1 g2).2] at this
            exact this
          · rw [ub_a (by decide), sp_s]; exact x9.1
          · rw [ub_s]
            rw [t877] at x9
            exact hG1.t x9.2
        · exact h265 E3 _ f3 x2 x3 (cit_f g2).symm hc1 (by rw [t90]; exact hT1) (by rw [t877]; exact hG1)
    refine r99_169 ⟨fun x => by omega, fun _ => ⟨by rw [q17]; omega, fun z hz => ⟨ic, ?_⟩⟩⟩
    have hz' : ∀ k : Int, 0 ≤ k → k < 20 → z k = caA ab Y b i T i k := fun k k0 k1 => (hz k k0 k1).trans (hT1 i k i0 i1 k0 k1)
    rw [q17, q12]
    refine ⟨fun g33 => ⟨by omega, ?_⟩, fun g33 => h239 (fun x => g33 x.1) z hz'⟩
    have htk : tkF X Y i = 2 := by unfold tkF; rw [g33]; rfl
    have hd1 := hn.1.1.1
    rw [eh, htk] at hd1
    refine ⟨by omega, ?_⟩
    rw [hz' _ (by omega) (by omega)]
    refine ⟨fun g1 => ?_, fun g1 => h239 (fun x => g1 x.2) z hz'⟩
    rw [cit_t ⟨g33, g1⟩] at es
    refine h291 _ ((f1.s (Or.inr rfl)).u (Or.inr (Or.inr ⟨rfl, Or.inl rfl⟩))) ?_ ?_
    · rw [es, ub_a (by decide), sp_a (by decide)]; exact hT1
    · rw [es, ub_n (by decide), sp_a (by decide)]; exact hG1
  -- the catches
  have h169 : ∀ (M : Nat) (c : Int) (E1 : Dt), (ce - c).toNat = M → ca ≤ c → c ≤ ce → FrE D E1 → TR (lf (Y 11) b) (lf (Y 12) b) (caT ab Y b i (c - ca).toNat ca T) (E1 90) → TyG (lf (Y 11) b) (lf (Y 12) b) T0 0 (caT ab Y b i (c - ca).toNat ca T) (E1 87 7) → wp 99 169 [vr 87, vi b, vi ca, vi ce, vi i, vi c] [] (E1, SS L 1 2 2 c4 c5 c6) Q := by
    intro M
    induction M with
    | zero =>
      intro c E1 e c0 c1 f1 hT1 hG1
      have ec : c = ce := by omega
      rw [ec] at hT1 hG1 ⊢
      rw [← eA] at hT1 hG1
      exact hfin E1 f1 hT1 hG1
    | succ M ih =>
      intro c E1 e c0 c1 f1 hT1 hG1
      have hcr := hca.1
      have c2 : 0 ≤ c ∧ c < (Y 6).length := by omega
      have hcb : lf (Y 10) c = b := (hca.2 c c2.1 c2.2).mpr (by omega)
      have e219 : E1 219 c = lf (Y 6) c := by rw [f1.1 219 (by decide) (by decide) (by decide)]; exact hS.1.1.2.2.2.2.2.2.2.1 c c2.1 c2.2
      have e220 : E1 220 c = lf (Y 7) c := by rw [f1.1 220 (by decide) (by decide) (by decide)]; exact hS.1.1.2.2.2.2.2.2.2.2.1 c c2.1 (by omega)
      have hv1 := ca_a hC i0 i1 (c - ca).toNat ca T (by omega) (by omega) hV g
      have enx : caT ab Y b i (c + 1 - ca).toNat ca T = cit (cov Y b c i) (jnT ab (caT ab Y b i (c - ca).toNat ca T) (lf (Y 8) c) (sl (caT ab Y b i (c - ca).toNat ca T i) 12 (16 + lf (Y 9) c)) 13) (caT ab Y b i (c - ca).toNat ca T) := by
        rw [show (c + 1 - ca).toNat = (c - ca).toNat + 1 by omega, caT_a, show ca + (((c - ca).toNat : Nat) : Int) = c by omega]
        rfl
      refine r99_169 ⟨fun _ => ?_, fun x => by omega⟩
      rw [e219, e220]
      refine ⟨by omega, fun gc => ⟨(ns, ab, X, Y, b, caT ab Y b i (c - ca).toNat ca T), ⟨hS.p f1.p, hC, hv1.1, hT1, ⟨i0, i1⟩, e217 E1 f1, hv1.2.1, c2, ⟨hcb, gc⟩⟩, fun E2 x => ?_⟩, fun gc => ?_⟩
      · dsimp only at x
        rw [cit_t ⟨hcb, gc⟩] at enx
        exact r99_194 ⟨by omega, ih (c + 1) E2 (by omega) (by omega) (by omega) (f1.t x.1) (by rw [enx]; exact x.2.1) (by rw [enx]; exact hG1.t x.2.2)⟩
      · rw [cit_f (fun x => gc x.2)] at enx
        exact r99_194 ⟨by omega, ih (c + 1) E1 (by omega) (by omega) (by omega) f1 (by rw [enx]; exact hT1) (by rw [enx]; exact hG1)⟩
  have hcr := hca.1
  exact h169 _ ca E rfl (Int.le_refl _) (by omega) f (by rw [show (ca - ca).toNat = 0 by omega]; exact hT) (by rw [show (ca - ca).toNat = 0 by omega]; exact hG)
