/-! names: SafeCode's readHead, the rest -/
set_option maxRecDepth 100000
/-- a new body's arrays while its head is read: its types up to p -/
def PC (K : TK) (ns : List Int) (X : XB) (c t m p : Int) (E : Dt) : Prop := E 197 7 = (X 4).length ∧ L1 (E 203) (X 4 ++ [c]) ∧ L1 (E 81) (X 5 ++ [t + 1]) ∧ L1 (E 205) (X 6 ++ [ib (K.w t 11)]) ∧ L1 (E 206) (X 7) ∧ L1 (E 208) (X 8) ∧ L1 (E 209) (X 9) ∧ L1 (E 82) (X 10 ++ [m]) ∧ L1 (E 204) (X 11) ∧ (∀ b k : Int, 0 ≤ b → b < (X 4).length → 0 ≤ k → k < (X (20 + b.toNat)).length → E 207 (b * 12 + k) = lf (X (20 + b.toNat)) k) ∧ ∀ k : Int, 0 ≤ k → k < p → k < 12 → E 207 (((X 4).length : Int) * 12 + k) = lf (pyO K ns c t) k
theorem l79e {L c3 c4 c5 c6 : Nat} {D : Dt} {Q : Out → Wd → Prop} {K : TK} {ns : List Int} {X : XB} {c t m v : Int} {E : Dt} (hS : SKp K (D 54) (D 55) (D 56) (D 57) (D 224)) (hn : K.n ≤ 4000) (hl : BLn X) (hb : BOK K X) (ht : MOK K t) (hN : (X 4).length < 48) (hv : ∀ i : Int, 0 ≤ i → i < (X 4).length → 0 ≤ lf (X 5) i ∧ lf (X 5) i < K.n) (hf : FrB D E) (hp : PC K ns X c t m (pcO K t) E) (hr : v = rsO K ns t) (H1 : (pcO K t ≤ K.val (bbp K t + 2) ∧ K.val (bbp K t + 2) ≤ 12) → ∀ E, (FrB D E ∧ BS K (bdA K ns X c t m) E) → Q (.inl []) (E, SS L 1 2 c3 c4 c5 c6)) (H2 : ¬ (pcO K t ≤ K.val (bbp K t + 2) ∧ K.val (bbp K t + 2) ≤ 12) → ∀ E, FrK D E → Q (.inr 52) (up (up E 51 1 3) 51 2 (bbp K t + 2), SS L 1 2 c3 c4 c5 c6)) : wp 79 354 [vr 79, vu, vi (t + 1), vu, vu, vu, vu, vu, vu, vi (X 4).length, vi (tcO K t), vi (ib (K.w t 11)), vi (bbp K t + 1), vu, vu] [vi v, vi (X 4).length, vr 208] (E, SS L 1 2 c3 c4 c5 c6) Q := by
  have lt := ht.lt
  have t0 := ht.1
  have to := ht.ok
  have hi := ib_01 (K.w t 11)
  have hS1 := sk_k hS hf.k
  have hfu : ∀ v, FrB D (up E 208 (X 4).length v) := fun v => hf.u (Or.inr (Or.inr (Or.inl ⟨by decide, by decide⟩)))
  have e2 : bbp K t + 1 + 1 = bbp K t + 2 := by omega
  refine r79_354 (K := K) ?_
  rw [e2]
  have hpc : pcO K t = ib (K.w t 11) + tcO K t := rfl
  refine ⟨by omega, by omega, ⟨hS1, by omega, to.2.2.2.2.2.2.2.2.1⟩, by omega, fun g => ?_, fun g => ⟨fun g1 => ?_, fun g1 => ⟨by omega, by omega, by omega, by omega, by omega, ?_⟩⟩⟩
  · refine r79_390 (K := K) ⟨by omega, ?_⟩
    rw [e2]
    exact H2 (by omega) _ (hfu _).k
  · refine r79_390 (K := K) ⟨by omega, ?_⟩
    rw [e2]
    exact H2 (by omega) _ (hfu _).k
  · obtain ⟨l5, l6, l7, l8, l9, l10, l11, l12⟩ := hl
    obtain ⟨p1, p2, p3, p4, p5, p6, p7, p8, p9, p10, p11⟩ := hp
    refine l79f hS ⟨l5, l6, l7, l8, l9, l10, l11, l12⟩ hb ht hN hv (H1 (by omega)) _ 0 _ rfl (by omega) (by omega) ((((hfu _).u (Or.inr (Or.inr (Or.inl ⟨by decide, by decide⟩)))).u (Or.inr (Or.inr (Or.inl ⟨by decide, by decide⟩)))).u (Or.inr (Or.inr (Or.inl ⟨by decide, by decide⟩)))) ⟨p1, p2, p3, p4, ?_, ?_, ?_, p8, ?_⟩ (fun i i0 i1 => ?_) ?_
    · refine p5.a ?_ (fun i hi => ?_)
      · show up (up E 208 (X 4).length v) 206 (X 4).length (ib (K.w t 11) + tcO K t) 206 (X 7).length = _
        rw [l7, ub_s]; rfl
      · show up (up E 208 (X 4).length v) 206 (X 4).length (ib (K.w t 11) + tcO K t) 206 i = _
        rw [ub_n (by omega), ub_a (by decide)]
    · refine p6.a ?_ (fun i hi => ?_)
      · show up E 208 (X 4).length v 208 (X 8).length = _
        rw [l8, ub_s]; exact hr
      · show up E 208 (X 4).length v 208 i = _
        rw [ub_n (by omega)]
    · refine p7.a ?_ (fun i hi => ?_)
      · show up (up (up E 208 (X 4).length v) 206 (X 4).length (ib (K.w t 11) + tcO K t)) 209 (X 4).length (K.val (bbp K t + 2)) 209 (X 9).length = _
        rw [l9, ub_s]
      · show up (up (up E 208 (X 4).length v) 206 (X 4).length (ib (K.w t 11) + tcO K t)) 209 (X 4).length (K.val (bbp K t + 2)) 209 i = _
        rw [ub_n (by omega), ub_a (by decide), ub_a (by decide)]
    · intro b k b0 b1 k0 k1
      show E 207 (b * 12 + k) = _
      by_cases eb : b < (X 4).length
      · rw [bdA_p (by omega)] at k1 ⊢
        exact p10 b k b0 eb k0 k1
      · have e3 : b = (X 4).length := by omega
        rw [show b.toNat = (X 4).length by omega, bdA_n] at k1 ⊢
        rw [e3]
        have k2 : k < pcO K t := by
          have k3 := k1
          unfold pyO at k3
          rw [List.length_map, List.length_range] at k3
          omega
        exact p11 k k0 k2 (by omega)
    · rw [ub_n (by omega), ub_a (by decide), ub_a (by decide), ub_a (by decide)]
      exact p9 i i0 i1
    · rw [ub_s]
      rw [cit_t (by rw [fs_n (by decide)]; decide)]
theorem pyO_k {K : TK} {ns : List Int} {c t k : Int} (h0 : 0 ≤ k) (h1 : k < pcO K t) : lf (pyO K ns c t) k = cit (K.w t 11 ∧ k = 0) (16 + c) (tyOf K ns (t + 3 + k - ib (K.w t 11))) := by
  unfold pyO
  rw [lf_m h0 (by omega)]
  rw [show ((k.toNat : Nat) : Int) = k by omega]
  have : (k.toNat = 0) = (k = 0) := propext ⟨fun _ => by omega, fun _ => by omega⟩
  rw [this]
theorem l79d {L c3 c4 c5 c6 : Nat} {D : Dt} {Q : Out → Wd → Prop} {K : TK} {ns ab : List Int} {X : XB} {c t m : Int} (hS : SKp K (D 54) (D 55) (D 56) (D 57) (D 224)) (hC : CS K ns (D 197 0) (D 60)) (hn : K.n ≤ 4000) (hl : BLn X) (hb : BOK K X) (ht : MOK K t) (hN : (X 4).length < 48) (hv : ∀ i : Int, 0 ≤ i → i < (X 4).length → 0 ≤ lf (X 5) i ∧ lf (X 5) i < K.n) (H1 : (tyF K ns t 0 < 0 ∧ (K.w (bbp K t + 1) 14 ∨ ¬ tyOf K ns (bbp K t + 1) < 0) ∧ (pcO K t ≤ K.val (bbp K t + 2) ∧ K.val (bbp K t + 2) ≤ 12)) → ∀ E, (FrB D E ∧ BS K (bdA K ns X c t m) E) → Q (.inl []) (E, SS L 1 2 c3 c4 c5 c6)) (H2 : (tyF K ns t 0 < 0 ∧ (K.w (bbp K t + 1) 14 ∨ ¬ tyOf K ns (bbp K t + 1) < 0) ∧ ¬ (pcO K t ≤ K.val (bbp K t + 2) ∧ K.val (bbp K t + 2) ≤ 12)) → ∀ E, FrK D E → Q (.inr 52) (up (up E 51 1 3) 51 2 (bbp K t + 2), SS L 1 2 c3 c4 c5 c6)) (H3 : (tyF K ns t 0 < 0 ∧ ¬ (K.w (bbp K t + 1) 14 ∨ ¬ tyOf K ns (bbp K t + 1) < 0)) → ∀ E, FrK D E → Q (.inr 52) (up (up E 51 1 3) 51 2 (bbp K t + 1), SS L 1 2 c3 c4 c5 c6)) (H4 : ¬ tyF K ns t 0 < 0 → ∀ E, FrK D E → Q (.inr 52) (up (up E 51 1 3) 51 2 (t + 3 + tyF K ns t 0), SS L 1 2 c3 c4 c5 c6)) : ∀ (M : Nat) (j : Int) (E : Dt), (tcO K t - j).toNat = M → 0 ≤ j → j ≤ tcO K t → FrB D E → PC K ns X c t m (ib (K.w t 11) + j) E → tyF K ns t 0 = tyF K ns t j → wp 79 253 [vr 79, vu, vi (t + 1), vu, vu, vu, vu, vu, vu, vi (X 4).length, vi (tcO K t), vi (ib (K.w t 11)), vi j, vu, vu] [] (E, SS L 1 2 c3 c4 c5 c6) Q := by
  have lt := ht.lt
  have t0 := ht.1
  have to := ht.ok
  have hi := ib_01 (K.w t 11)
  intro M
  induction M with
  | zero =>
    intro j E e h0 h1 hf hp hty
    have ej : j = tcO K t := by omega
    have hS1 := sk_k hS hf.k
    have hC1 : CS K ns (E 197 0) (E 60) := by
      rw [hf.2 0 (by decide), hf.1 60 (by omega) (by omega) (by omega) (by omega)]; exact hC
    have hno : tyF K ns t 0 < 0 := by
      rw [hty, show tyF K ns t j = -1 from fs_n (by omega)]; decide
    have er : t + 1 + 2 + tcO K t + 1 = bbp K t + 1 := by omega
    rw [ej] at hp
    refine r79_253 (K := K) ⟨fun h => by omega, fun _ => ⟨by omega, by omega, by omega, ?_⟩⟩
    rw [er]
    refine ⟨⟨hS1, by omega⟩, fun g => ?_, fun g => ⟨ns, ⟨hS1, hC1, by omega, by omega⟩, fun g2 => ?_, fun g2 => ?_⟩⟩
    · exact l79e hS hn hl hb ht hN hv hf hp (cit_t g).symm (fun x => H1 ⟨hno, Or.inl g, x⟩) (fun x => H2 ⟨hno, Or.inl g, x⟩)
    · exact l79e hS hn hl hb ht hN hv hf hp (cit_f g).symm (fun x => H1 ⟨hno, Or.inr g2, x⟩) (fun x => H2 ⟨hno, Or.inr g2, x⟩)
    · exact H3 ⟨hno, fun x => x.elim g (fun y => y g2)⟩ E hf.k
  | succ M ih =>
    intro j E e h0 h1 hf hp hty
    have hj : j < tcO K t := by omega
    have hS1 := sk_k hS hf.k
    have hC1 : CS K ns (E 197 0) (E 60) := by
      rw [hf.2 0 (by decide), hf.1 60 (by omega) (by omega) (by omega) (by omega)]; exact hC
    have et : t + 1 + 2 + j = t + 3 + j := by omega
    refine r79_253 (K := K) ?_
    rw [et]
    refine ⟨fun _ => ⟨by omega, by omega, ns, ⟨hS1, hC1, by omega, by omega⟩, fun g => ⟨by omega, fun g1 => ⟨by omega, by omega, by omega, by omega, by omega, ?_⟩, fun g1 => ⟨by omega, ?_⟩⟩, fun g => ?_⟩, fun h => absurd hj h⟩
    · obtain ⟨p1, p2, p3, p4, p5, p6, p7, p8, p9, p10, p11⟩ := hp
      refine ih (j + 1) _ (by omega) (by omega) (by omega) (hf.u (Or.inr (Or.inr (Or.inl ⟨by decide, by decide⟩)))) ⟨p1, p2, p3, p4, p5, p6, p7, p8, p9, fun b k b0 b1 k0 k1 => ?_, fun k k0 k1 k2 => ?_⟩ ?_
      · have hl12 := (hb b b0 b1).1
        rw [ub_n (by omega)]
        exact p10 b k b0 b1 k0 k1
      · by_cases ek : k = ib (K.w t 11) + j
        · have hpk : k < pcO K t := by unfold pcO; omega
          rw [pyO_k k0 hpk, show ((X 4).length : Int) * 12 + k = ((X 4).length : Int) * 12 + ib (K.w t 11) + j by omega, ub_s, show t + 3 + k - ib (K.w t 11) = t + 3 + j by omega]
          refine (cit_f fun x => ?_).symm
          rw [ib_t x.1] at ek
          have := x.2
          omega
        · rw [ub_n (by omega)]
          exact p11 k k0 (by omega) k2
      · exact hty.trans (fs_s (P := fun j => tyOf K ns (t + 3 + j) < 0) hj g)
    · obtain ⟨p1, p2, p3, p4, p5, p6, p7, p8, p9, p10, p11⟩ := hp
      refine ih (j + 1) E (by omega) (by omega) (by omega) hf ⟨p1, p2, p3, p4, p5, p6, p7, p8, p9, p10, fun k k0 k1 k2 => p11 k k0 (by omega) k2⟩ (hty.trans (fs_s (P := fun j => tyOf K ns (t + 3 + j) < 0) hj g))
    · have hy : tyF K ns t 0 = j := hty.trans (fs_y (P := fun j => tyOf K ns (t + 3 + j) < 0) hj g)
      have := H4 (by rw [hy]; omega) E hf.k
      rw [hy] at this
      exact this
