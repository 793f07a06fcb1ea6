/-! braces: behind a class or a member -/
set_option maxRecDepth 100000
def fch (K : TK) (t : Int) : Int := K.tx (K.tf t)
theorem w_fc {K : TK} {t : Int} {s : Nat} (h : K.w t s) (h1 : 1 ≤ (sbt s).length) : fch K t = (sbt s).getD 0 0 := by
  obtain ⟨h2, h3⟩ := strR_i h.2
  have h4 : K.tx (K.tf t + 0) = (sbt s).getD 0 0 := h3 0 (by omega) (by omega)
  rw [show K.tf t + 0 = K.tf t by omega] at h4
  exact h4
theorem w7_fc {K : TK} {t : Int} (h : K.w t 7) : fch K t = 123 := (w_fc h (by decide)).trans (by decide)
theorem w8_fc {K : TK} {t : Int} (h : K.w t 8) : fch K t = 125 := (w_fc h (by decide)).trans (by decide)
/-- no brace -/
def nbr (K : TK) (t : Int) : Prop := ¬ K.w t 7 ∧ ¬ K.w t 8
theorem nbr_i {K : TK} {t : Int} (h : ¬ fch K t = 123 ∧ ¬ fch K t = 125) : nbr K t := ⟨fun x => h.1 (w7_fc x), fun x => h.2 (w8_fc x)⟩
theorem sn_nb {K : TK} {t : Int} (h : K.sn t) : nbr K t := nbr_i (by have h1 := h.2.2.2.1; have h2 := h.2.2.2.2.1; unfold fch; omega)
theorem cn_nb {K : TK} {t : Int} (h : K.cn t) : nbr K t := nbr_i (by have h1 := h.2.2.2.1; have h2 := h.2.2.2.2.1; unfold fch; omega)
theorem ty_nb {K : TK} {t : Int} (h : K.ty t) : nbr K t := by
  rcases h.2 with h1 | h1
  · obtain ⟨h2, h3⟩ := strR_i h1
    have h4 : K.tx (K.tf t + 0) = 105 := h3 0 (by omega) (by omega)
    rw [show K.tf t + 0 = K.tf t by omega] at h4
    exact nbr_i (by unfold fch; omega)
  · exact nbr_i (by have h2 := h1.2.2.1; have h3 := h1.2.2.2.1; unfold fch; omega)
theorem ref_nb {K : TK} {t : Int} (h : K.ref t) : nbr K t := nbr_i (by have h1 := h.2.1.2.2.1; have h2 := h.2.1.2.2.2.1; unfold fch; omega)
theorem num_nb {K : TK} {t : Int} (h : K.num t) : nbr K t := by
  refine nbr_i ?_
  unfold fch
  by_cases e : K.tx (K.tf t) = 45
  · omega
  · have h1 := h.2.2.1.2
    have h2 := h.2.1
    unfold nBeg at h1 h2
    rw [if_neg e] at h1 h2
    have h3 := h1 (K.tf t) (by omega) (by omega)
    omega
theorem w_nb {K : TK} {t : Int} {s : Nat} (h : K.w t s) (h1 : 1 ≤ (sbt s).length) (h2 : ¬ (sbt s).getD 0 0 = 123 ∧ ¬ (sbt s).getD 0 0 = 125) : nbr K t := nbr_i (by rw [w_fc h h1]; exact h2)
def NBs (K : TK) (a b : Int) : Prop := ∀ t, a ≤ t → t < b → nbr K t
theorem NBs.one {K : TK} {a b : Int} (h : nbr K a) (h2 : NBs K (a + 1) b) : NBs K a b := fun t h3 h4 => by
  by_cases e : t = a
  · rw [e]; exact h
  · exact h2 t (by omega) h4
theorem NBs.app {K : TK} {a b c : Int} (h : NBs K a b) (h2 : NBs K b c) : NBs K a c := fun t h3 h4 => by
  by_cases e : t < b
  · exact h t h3 e
  · exact h2 t (by omega) h4
theorem NBs.z {K : TK} {a : Int} : NBs K a a := fun t h1 h2 => by omega
theorem pm_nb {K : TK} {c : Prop} {a b : Int} (hc : c → nbr K a) (h : pm c a = (true, b)) : NBs K a b := by
  have h1 := pm_e h
  rw [h1.2]
  exact NBs.one (hc h1.1) NBs.z
theorem pops_nb {K : TK} {op a b : Int} (h : pops K op a = (true, b)) : NBs K a b := by
  unfold pops at h
  split at h
  · exact pm_nb num_nb h
  · split at h
    · obtain ⟨c, h1, h2⟩ := pb_t h
      exact (pm_nb num_nb h1).app (pm_nb num_nb h2)
    · split at h
      · exact pm_nb sn_nb h
      · split at h
        · exact pm_nb cn_nb h
        · split at h
          · exact pm_nb (fun x => x.elim (fun y => w_nb y (by decide) (by decide)) cn_nb) h
          · split at h
            · exact pm_nb ref_nb h
            · split at h
              · exact pm_nb (fun x => ty_nb x.1) h
              · cases h; exact NBs.z
theorem line_nb {K : TK} {a b : Int} (h : pline K a = (true, b)) : NBs K a b := by
  unfold pline at h
  rcases Classical.em (K.sn a) with h1 | h1
  · rw [cit_t h1] at h
    refine NBs.one (sn_nb h1) ?_
    rcases Classical.em (K.w (a + 1) 15) with h2 | h2
    · rw [cit_t h2] at h
      cases h
      refine NBs.one (w_nb h2 (by decide) (by decide)) ?_
      rw [show a + 1 + 1 = a + 2 by omega]
      exact NBs.z
    · rw [cit_f h2] at h
      rcases Classical.em (K.w a 16) with h3 | h3
      · rw [cit_t h3] at h
        obtain ⟨c1, g1, h⟩ := pb_t h
        obtain ⟨c2, g2, h⟩ := pb_t h
        obtain ⟨c3, g3, h⟩ := pb_t h
        exact (pm_nb sn_nb g1).app ((pm_nb sn_nb g2).app ((pm_nb sn_nb g3).app (pm_nb cn_nb h)))
      · rw [cit_f h3] at h
        rcases Classical.em (K.op a < 0) with h4 | h4
        · rw [cit_t h4] at h; cases h
        · rw [cit_f h4] at h
          exact pops_nb h
  · rw [cit_f h1] at h; cases h
theorem plp_nb {K : TK} {st : Int → Prop} {f : Int → PR} (hf : ∀ a b, f a = (true, b) → NBs K a b) : ∀ (N : Nat) (a b : Int), plp st f N a = (true, b) → NBs K a b
  | 0, _, _, h => by cases h
  | N + 1, a, b, h => by
    unfold plp at h
    rcases Classical.em (st a) with h1 | h1
    · rw [cit_t h1] at h
      cases h
      exact NBs.z
    · rw [cit_f h1] at h
      obtain ⟨c, h2, h3⟩ := pb_t h
      exact (hf a c h2).app (plp_nb hf N c b h3)
noncomputable def balN (K : TK) : Nat → Int → Int → Int
  | 0, k, _ => k
  | N + 1, k, d => cit (0 < d + ib (K.w k 7) - ib (K.w k 8)) (balN K N (k + 1) (d + ib (K.w k 7) - ib (K.w k 8))) (k + 1)
/-- from a place within so many braces to behind the last -/
noncomputable def bal (K : TK) (k d : Int) : Int := balN K (fu K k) k d
theorem bal_s {K : TK} {k d : Int} (h : k < K.n) : bal K k d = cit (0 < d + ib (K.w k 7) - ib (K.w k 8)) (bal K (k + 1) (d + ib (K.w k 7) - ib (K.w k 8))) (k + 1) := by
  unfold bal
  rw [show fu K k = fu K (k + 1) + 1 by unfold fu; omega]
  rfl
theorem not78 {K : TK} {k : Int} (h : K.w k 7) : ¬ K.w k 8 := fun x => by have h1 := w7_fc h; have h2 := w8_fc x; omega
theorem bal_o {K : TK} {k d : Int} (h : K.w k 7) (hd : 0 ≤ d) : bal K k d = bal K (k + 1) (d + 1) := by
  rw [bal_s (w_lt h), ib_t h, ib_f (not78 h), cit_t (by omega), show d + 1 - 0 = d + 1 by omega]
theorem bal_c {K : TK} {k d : Int} (h : K.w k 8) : bal K k d = cit (0 < d - 1) (bal K (k + 1) (d - 1)) (k + 1) := by
  rw [bal_s (w_lt h), ib_t h, ib_f (fun x => not78 x h), show d + 0 - 1 = d - 1 by omega]
theorem bal_n {K : TK} {d : Int} (hd : 0 < d) : ∀ (N : Nat) (k e : Int), (e - k).toNat = N → k ≤ e → e ≤ K.n → NBs K k e → bal K k d = bal K e d
  | 0, k, e, h, h1, _, _ => by rw [show k = e by omega]
  | N + 1, k, e, h, h1, h2, hn => by
    have h3 := hn k (by omega) (by omega)
    rw [bal_s (by omega), ib_f h3.1, ib_f h3.2, show d + 0 - 0 = d by omega, cit_t hd]
    exact bal_n hd N (k + 1) e (by omega) (by omega) h2 (fun t h4 h5 => hn t (by omega) h5)
/-- a body, in a class -/
theorem body_bal {K : TK} {a e d : Int} (hd : 0 ≤ d) (h : pbody K a = (true, e)) : ∃ b, a ≤ b ∧ b < e ∧ NBs K a b ∧ K.w b 7 ∧ bal K b d = cit (0 < d) (bal K e d) e := by
  unfold pbody at h
  obtain ⟨c1, g1, h⟩ := pb_t h
  obtain ⟨c2, g2, h⟩ := pb_t h
  obtain ⟨c3, g3, h⟩ := pb_t h
  obtain ⟨c4, g4, h⟩ := pb_t h
  obtain ⟨c5, g5, h⟩ := pb_t h
  obtain ⟨c6, g6, h⟩ := pb_t h
  cases h
  have i1 := pm_e g1
  have i2 := plp_ok (adv_tys K) _ _ _ g2
  have i3 := pm_e g3
  have i4 := pm_e g4
  have i5 := pm_e g5
  have i6 := plp_ok (adv_line K) _ _ _ g6
  have n1 : NBs K a c1 := pm_nb (fun x => w_nb x (by decide) (by decide)) g1
  have n2 : NBs K c1 c2 := plp_nb (fun _ _ x => pm_nb ty_nb x) _ _ _ g2
  have n3 : NBs K c2 (c2 + 1) := NBs.one (w_nb i2.2.1 (by decide) (by decide)) NBs.z
  have n4 : NBs K (c2 + 1) c3 := pm_nb (fun x => x.elim (fun y => w_nb y (by decide) (by decide)) ty_nb) g3
  have n5 : NBs K c3 c4 := pm_nb num_nb g4
  have n6 : NBs K c5 c6 := plp_nb (fun _ _ => line_nb) _ _ _ g6
  have hl := w_lt i6.2.1
  refine ⟨c4, by omega, by omega, n1.app (n2.app (n3.app (n4.app n5))), i5.1, ?_⟩
  rw [bal_o i5.1 hd, ← i5.2, bal_n (by omega) _ c5 c6 rfl i6.1 (by omega) n6, bal_c i6.2.1, show d + 1 - 1 = d by omega]
theorem mem_bal {K : TK} {a e d : Int} (hd : 0 < d) (h : pmem K a = (true, e)) : bal K a d = bal K e d := by
  have hae := adv_mem K _ _ h
  unfold pmem at h
  rcases Classical.em (K.w a 9) with h9 | h9
  · rw [cit_t h9] at h
    obtain ⟨c1, g1, h⟩ := pb_t h
    have n : NBs K a e := NBs.one (w_nb h9 (by decide) (by decide)) ((pm_nb sn_nb g1).app (pm_nb ty_nb h))
    exact bal_n hd _ a e rfl (by omega) hae.2 n
  · rw [cit_f h9] at h
    obtain ⟨c1, g1, h⟩ := pb_t h
    obtain ⟨c2, g2, h⟩ := pb_t h
    obtain ⟨b, h1, h2, h3, h4, h5⟩ := body_bal (Int.le_of_lt hd) h
    have i1 := pm_e g1
    have i2 := pm_e g2
    have n : NBs K a b := ((pm_nb (fun x => x.elim (fun y => w_nb y (by decide) (by decide)) (fun y => w_nb y (by decide) (by decide))) g1).app (pm_nb sn_nb g2)).app h3
    rw [bal_n hd _ a b rfl (by omega) (by omega) n, h5, cit_t hd]
theorem mems_bal {K : TK} : ∀ (N : Nat) (a e : Int), plp (fun b => K.w b 8) (pmem K) N a = (true, e) → bal K a 1 = e + 1
  | 0, _, _, h => by cases h
  | N + 1, a, e, h => by
    unfold plp at h
    rcases Classical.em (K.w a 8) with h1 | h1
    · rw [cit_t h1] at h
      cases h
      rw [bal_c h1, cit_f (by decide)]
    · rw [cit_f h1] at h
      obtain ⟨c, h2, h3⟩ := pb_t h
      rw [mem_bal (by decide) h2]
      exact mems_bal N c e h3
/-- the first brace from a place on, and behind what it holds -/
noncomputable def bhd (K : TK) (t : Int) : Int := bal K (scan (fun k => ¬ K.w k 7) t K.n) 0
theorem scan_nb {K : TK} {a b : Int} (hab : a ≤ b) (hn : NBs K a b) (hb : K.w b 7) : scan (fun k => ¬ K.w k 7) a K.n = b := by
  have h := scan_ok (fun k => ¬ K.w k 7) K.n _ a rfl
  have hl := w_lt hb
  have h1 : ¬ scan (fun k => ¬ K.w k 7) a K.n < b := fun hlt => (h.2.2.2 (by omega)) (hn _ h.1 hlt).1
  have h2 : ¬ b < scan (fun k => ¬ K.w k 7) a K.n := fun hlt => h.2.2.1 b hab hlt hb
  omega
theorem bhd_cls {K : TK} {a e : Int} (h : pcls K a = (true, e)) : K.w (scan (fun k => ¬ K.w k 7) a K.n) 7 ∧ bhd K a = e := by
  unfold pcls at h
  obtain ⟨c1, g1, h⟩ := pb_t h
  obtain ⟨c2, g2, h⟩ := pb_t h
  obtain ⟨c3, g3, h⟩ := pb_t h
  obtain ⟨c4, g4, h⟩ := pb_t h
  obtain ⟨c5, g5, h⟩ := pb_t h
  obtain ⟨c6, g6, h⟩ := pb_t h
  cases h
  have i1 := pm_e g1
  have i2 := pm_e g2
  have i3 := pm_e g3
  have i4 := pm_e g4
  have i5 := pm_e g5
  have n : NBs K a c4 := (pm_nb (fun x => w_nb x (by decide) (by decide)) g1).app ((pm_nb cn_nb g2).app ((pm_nb (fun x => w_nb x (by decide) (by decide)) g3).app (pm_nb cn_nb g4)))
  unfold bhd
  rw [scan_nb (by omega) n i5.1, bal_o i5.1 (by decide)]
  refine ⟨i5.1, ?_⟩
  rw [show (0 : Int) + 1 = 1 by decide, ← i5.2]
  exact mems_bal _ _ _ g6
theorem bhd_mem {K : TK} {a e : Int} (h9 : ¬ K.w a 9) (h : pmem K a = (true, e)) : K.w (scan (fun k => ¬ K.w k 7) a K.n) 7 ∧ bhd K a = e := by
  unfold pmem at h
  rw [cit_f h9] at h
  obtain ⟨c1, g1, h⟩ := pb_t h
  obtain ⟨c2, g2, h⟩ := pb_t h
  obtain ⟨b, h1, h2, h3, h4, h5⟩ := body_bal (by decide : (0 : Int) ≤ 0) h
  have i1 := pm_e g1
  have i2 := pm_e g2
  have n : NBs K a b := ((pm_nb (fun x => x.elim (fun y => w_nb y (by decide) (by decide)) (fun y => w_nb y (by decide) (by decide))) g1).app (pm_nb sn_nb g2)).app h3
  unfold bhd
  rw [scan_nb (by omega) n h4, h5, cit_f (by decide)]
  exact ⟨h4, rfl⟩
theorem bal_lt {K : TK} {k d : Int} (h : bal K k d ≤ K.n) : k < K.n := by
  by_cases e : k < K.n
  · exact e
  · unfold bal at h
    rw [show fu K k = 1 by unfold fu; omega] at h
    have h2 : balN K 1 k d = k + 1 := by
      show cit _ (k + 1) (k + 1) = k + 1
      rcases Classical.em (0 < d + ib (K.w k 7) - ib (K.w k 8)) with g | g
      · rw [cit_t g]
      · rw [cit_f g]
    omega
theorem r257_0 {L c2 c3 c4 c5 c6 : Nat} {K : TK} {D : Dt} {Q : Out → Wd → Prop} {t : Int} (H : wp 257 2 [vr 226, vu, vi t, vu] [] (D, SS L 1 c2 c3 c4 c5 c6) Q) : wp 257 0 [vr 226, vi t, vu, vu] [] (D, SS L 1 c2 c3 c4 c5 c6) Q := vc_wp [2] 200 _ _ _ _ _ _ (show wp 257 2 [vr 226, vi t, vi t, vu] [] (D, SS L 1 c2 c3 c4 c5 c6) Q from wp_d (Lle.k rfl (Lle.v rfl (Lle.k rfl (Lle.k rfl (Lle.nil))))) (H))
theorem r257_2 {L c2 c3 c4 c5 c6 : Nat} {K : TK} {D : Dt} {Q : Out → Wd → Prop} {k : Int} (H : (MKp K (D 226 10) (D 321) (D 322) (D 320) ∧ 0 ≤ k) ∧ ((((K.w k 7 → (wp 257 20 [vr 226, vu, vi k, vi 0] [] (D, SS L 1 c2 c3 c4 c5 c6) Q)) ∧ (¬ (K.w k 7) → (((-2147483648) ≤ k + 1 ∧ k + 1 ≤ 2147483647) ∧ (wp 257 2 [vr 226, vu, vi (k + 1), vu] [] (D, SS L 1 c2 c3 c4 c5 c6) Q))))))) : wp 257 2 [vr 226, vu, vi k, vu] [] (D, SS L 1 c2 c3 c4 c5 c6) Q := vc_wp [] 200 _ _ _ _ _ _ (show wp 235 0 [vr 226, vi k, vr 23, vu] [] (D, SS L 1 c2 c3 c4 c5 c6) (aft wp 257 6 [vr 226, vu, vi k, vu] [] Q) from k235s23 ⟨H.1, (show wp 257 9 [vr 226, vu, vi k, vu] [vi (ib (K.w k 7))] (D, SS L 1 c2 c3 c4 c5 c6) Q from vc_wp [15, 20] 200 _ _ _ _ _ _ (show ((ib (K.w k 7) = 0 → (wp 257 15 [vr 226, vu, vi (w32 (k + 1)), vu] [] (D, SS L 1 c2 c3 c4 c5 c6) Q)) ∧ (¬ (ib (K.w k 7) = 0) → (wp 257 20 [vr 226, vu, vi k, vi 0] [] (D, SS L 1 c2 c3 c4 c5 c6) Q))) from ⟨fun h4 => w32_i (fun z3 : Int => wp 257 15 [vr 226, vu, vi z3, vu] [] (D, SS L 1 c2 c3 c4 c5 c6) Q) ((H.2.2 ((ib_z).mp h4))).1 (vc_wp [2] 200 _ _ _ _ _ _ (show wp 257 2 [vr 226, vu, vi (k + 1), vu] [] (D, SS L 1 c2 c3 c4 c5 c6) Q from ((H.2.2 ((ib_z).mp h4))).2)), fun h5 => (H.2.1 (Classical.not_not.mp (mt (ib_z).mpr h5)))⟩))⟩)
theorem r257_20 {L c2 c3 c4 c5 c6 : Nat} {K : TK} {D : Dt} {Q : Out → Wd → Prop} {k o : Int} (H : (MKp K (D 226 10) (D 321) (D 322) (D 320) ∧ 0 ≤ k) ∧ ((((K.w k 7 → (((-2147483648) ≤ o + 1 ∧ o + 1 ≤ 2147483647) ∧ ((MKp K (D 226 10) (D 321) (D 322) (D 320) ∧ 0 ≤ k) ∧ ((((K.w k 8 → (((-2147483648) ≤ (o + 1) + (-1) ∧ (o + 1) + (-1) ≤ 2147483647) ∧ (((-2147483648) ≤ k + 1 ∧ k + 1 ≤ 2147483647) ∧ ((0 < (o + 1) + (-1) → (wp 257 20 [vr 226, vu, vi (k + 1), vi ((o + 1) + (-1))] [] (D, SS L 1 c2 c3 c4 c5 c6) Q)) ∧ (¬ (0 < (o + 1) + (-1)) → (Q (.inl [vi (k + 1)]) (D, SS L 1 c2 c3 c4 c5 c6))))))) ∧ (¬ (K.w k 8) → (((-2147483648) ≤ k + 1 ∧ k + 1 ≤ 2147483647) ∧ ((0 < o + 1 → (wp 257 20 [vr 226, vu, vi (k + 1), vi (o + 1)] [] (D, SS L 1 c2 c3 c4 c5 c6) Q)) ∧ (¬ (0 < o + 1) → (Q (.inl [vi (k + 1)]) (D, SS L 1 c2 c3 c4 c5 c6)))))))))))) ∧ (¬ (K.w k 7) → ((MKp K (D 226 10) (D 321) (D 322) (D 320) ∧ 0 ≤ k) ∧ ((((K.w k 8 → (((-2147483648) ≤ o + (-1) ∧ o + (-1) ≤ 2147483647) ∧ (((-2147483648) ≤ k + 1 ∧ k + 1 ≤ 2147483647) ∧ ((0 < o + (-1) → (wp 257 20 [vr 226, vu, vi (k + 1), vi (o + (-1))] [] (D, SS L 1 c2 c3 c4 c5 c6) Q)) ∧ (¬ (0 < o + (-1)) → (Q (.inl [vi (k + 1)]) (D, SS L 1 c2 c3 c4 c5 c6))))))) ∧ (¬ (K.w k 8) → (((-2147483648) ≤ k + 1 ∧ k + 1 ≤ 2147483647) ∧ ((0 < o → (wp 257 20 [vr 226, vu, vi (k + 1), vi o] [] (D, SS L 1 c2 c3 c4 c5 c6) Q)) ∧ (¬ (0 < o) → (Q (.inl [vi (k + 1)]) (D, SS L 1 c2 c3 c4 c5 c6))))))))))))))) : wp 257 20 [vr 226, vu, vi k, vi o] [] (D, SS L 1 c2 c3 c4 c5 c6) Q := vc_wp [] 200 _ _ _ _ _ _ (show wp 235 0 [vr 226, vi k, vr 23, vu] [] (D, SS L 1 c2 c3 c4 c5 c6) (aft wp 257 24 [vr 226, vu, vi k, vi o] [] Q) from k235s23 ⟨H.1, (show wp 257 27 [vr 226, vu, vi k, vi o] [vi (ib (K.w k 7))] (D, SS L 1 c2 c3 c4 c5 c6) Q from vc_wp [33] 200 _ _ _ _ _ _ (show ((ib (K.w k 7) = 0 → (wp 257 33 [vr 226, vu, vi k, vi o] [] (D, SS L 1 c2 c3 c4 c5 c6) Q)) ∧ (¬ (ib (K.w k 7) = 0) → (wp 257 33 [vr 226, vu, vi k, vi (w32 (o + 1))] [] (D, SS L 1 c2 c3 c4 c5 c6) Q))) from ⟨fun h26 => vc_wp [] 200 _ _ _ _ _ _ (show wp 235 0 [vr 226, vi k, vr 24, vu] [] (D, SS L 1 c2 c3 c4 c5 c6) (aft wp 257 37 [vr 226, vu, vi k, vi o] [] Q) from k235s24 ⟨(H.2.2 ((ib_z).mp h26)).1, (show wp 257 40 [vr 226, vu, vi k, vi o] [vi (ib (K.w k 8))] (D, SS L 1 c2 c3 c4 c5 c6) Q from vc_wp [46] 200 _ _ _ _ _ _ (show ((ib (K.w k 8) = 0 → (wp 257 46 [vr 226, vu, vi k, vi o] [] (D, SS L 1 c2 c3 c4 c5 c6) Q)) ∧ (¬ (ib (K.w k 8) = 0) → (wp 257 46 [vr 226, vu, vi k, vi (w32 (o + (-1)))] [] (D, SS L 1 c2 c3 c4 c5 c6) Q))) from ⟨fun h12 => vc_wp [49] 200 _ _ _ _ _ _ (show wp 257 49 [vr 226, vu, vi (w32 (k + 1)), vi o] [] (D, SS L 1 c2 c3 c4 c5 c6) Q from w32_i (fun z7 : Int => wp 257 49 [vr 226, vu, vi z7, vi o] [] (D, SS L 1 c2 c3 c4 c5 c6) Q) (((H.2.2 ((ib_z).mp h26)).2.2 ((ib_z).mp h12))).1 (vc_wp [20] 200 _ _ _ _ _ _ (show ((0 < o → (wp 257 20 [vr 226, vu, vi (k + 1), vi o] [] (D, SS L 1 c2 c3 c4 c5 c6) Q)) ∧ (¬ (0 < o) → (Q (.inl [vi (k + 1)]) (D, SS L 1 c2 c3 c4 c5 c6)))) from ⟨fun h5 => ((((H.2.2 ((ib_z).mp h26)).2.2 ((ib_z).mp h12))).2.1 h5), fun h6 => ((((H.2.2 ((ib_z).mp h26)).2.2 ((ib_z).mp h12))).2.2 h6)⟩))), fun h13 => w32_i (fun z11 : Int => wp 257 46 [vr 226, vu, vi k, vi z11] [] (D, SS L 1 c2 c3 c4 c5 c6) Q) (((H.2.2 ((ib_z).mp h26)).2.1 (Classical.not_not.mp (mt (ib_z).mpr h13)))).1 (vc_wp [49] 200 _ _ _ _ _ _ (show wp 257 49 [vr 226, vu, vi (w32 (k + 1)), vi (o + (-1))] [] (D, SS L 1 c2 c3 c4 c5 c6) Q from w32_i (fun z10 : Int => wp 257 49 [vr 226, vu, vi z10, vi (o + (-1))] [] (D, SS L 1 c2 c3 c4 c5 c6) Q) ((((H.2.2 ((ib_z).mp h26)).2.1 (Classical.not_not.mp (mt (ib_z).mpr h13)))).2).1 (vc_wp [20] 200 _ _ _ _ _ _ (show ((0 < o + (-1) → (wp 257 20 [vr 226, vu, vi (k + 1), vi (o + (-1))] [] (D, SS L 1 c2 c3 c4 c5 c6) Q)) ∧ (¬ (0 < o + (-1)) → (Q (.inl [vi (k + 1)]) (D, SS L 1 c2 c3 c4 c5 c6)))) from ⟨fun h8 => (((((H.2.2 ((ib_z).mp h26)).2.1 (Classical.not_not.mp (mt (ib_z).mpr h13)))).2).2.1 h8), fun h9 => (((((H.2.2 ((ib_z).mp h26)).2.1 (Classical.not_not.mp (mt (ib_z).mpr h13)))).2).2.2 h9)⟩))))⟩))⟩), fun h27 => w32_i (fun z25 : Int => wp 257 33 [vr 226, vu, vi k, vi z25] [] (D, SS L 1 c2 c3 c4 c5 c6) Q) ((H.2.1 (Classical.not_not.mp (mt (ib_z).mpr h27)))).1 (vc_wp [] 200 _ _ _ _ _ _ (show wp 235 0 [vr 226, vi k, vr 24, vu] [] (D, SS L 1 c2 c3 c4 c5 c6) (aft wp 257 37 [vr 226, vu, vi k, vi (o + 1)] [] Q) from k235s24 ⟨((H.2.1 (Classical.not_not.mp (mt (ib_z).mpr h27)))).2.1, (show wp 257 40 [vr 226, vu, vi k, vi (o + 1)] [vi (ib (K.w k 8))] (D, SS L 1 c2 c3 c4 c5 c6) Q from vc_wp [46] 200 _ _ _ _ _ _ (show ((ib (K.w k 8) = 0 → (wp 257 46 [vr 226, vu, vi k, vi (o + 1)] [] (D, SS L 1 c2 c3 c4 c5 c6) Q)) ∧ (¬ (ib (K.w k 8) = 0) → (wp 257 46 [vr 226, vu, vi k, vi (w32 ((o + 1) + (-1)))] [] (D, SS L 1 c2 c3 c4 c5 c6) Q))) from ⟨fun h23 => vc_wp [49] 200 _ _ _ _ _ _ (show wp 257 49 [vr 226, vu, vi (w32 (k + 1)), vi (o + 1)] [] (D, SS L 1 c2 c3 c4 c5 c6) Q from w32_i (fun z18 : Int => wp 257 49 [vr 226, vu, vi z18, vi (o + 1)] [] (D, SS L 1 c2 c3 c4 c5 c6) Q) ((((H.2.1 (Classical.not_not.mp (mt (ib_z).mpr h27)))).2.2.2 ((ib_z).mp h23))).1 (vc_wp [20] 200 _ _ _ _ _ _ (show ((0 < o + 1 → (wp 257 20 [vr 226, vu, vi (k + 1), vi (o + 1)] [] (D, SS L 1 c2 c3 c4 c5 c6) Q)) ∧ (¬ (0 < o + 1) → (Q (.inl [vi (k + 1)]) (D, SS L 1 c2 c3 c4 c5 c6)))) from ⟨fun h16 => (((((H.2.1 (Classical.not_not.mp (mt (ib_z).mpr h27)))).2.2.2 ((ib_z).mp h23))).2.1 h16), fun h17 => (((((H.2.1 (Classical.not_not.mp (mt (ib_z).mpr h27)))).2.2.2 ((ib_z).mp h23))).2.2 h17)⟩))), fun h24 => w32_i (fun z22 : Int => wp 257 46 [vr 226, vu, vi k, vi z22] [] (D, SS L 1 c2 c3 c4 c5 c6) Q) ((((H.2.1 (Classical.not_not.mp (mt (ib_z).mpr h27)))).2.2.1 (Classical.not_not.mp (mt (ib_z).mpr h24)))).1 (vc_wp [49] 200 _ _ _ _ _ _ (show wp 257 49 [vr 226, vu, vi (w32 (k + 1)), vi ((o + 1) + (-1))] [] (D, SS L 1 c2 c3 c4 c5 c6) Q from w32_i (fun z21 : Int => wp 257 49 [vr 226, vu, vi z21, vi ((o + 1) + (-1))] [] (D, SS L 1 c2 c3 c4 c5 c6) Q) (((((H.2.1 (Classical.not_not.mp (mt (ib_z).mpr h27)))).2.2.1 (Classical.not_not.mp (mt (ib_z).mpr h24)))).2).1 (vc_wp [20] 200 _ _ _ _ _ _ (show ((0 < (o + 1) + (-1) → (wp 257 20 [vr 226, vu, vi (k + 1), vi ((o + 1) + (-1))] [] (D, SS L 1 c2 c3 c4 c5 c6) Q)) ∧ (¬ (0 < (o + 1) + (-1)) → (Q (.inl [vi (k + 1)]) (D, SS L 1 c2 c3 c4 c5 c6)))) from ⟨fun h19 => ((((((H.2.1 (Classical.not_not.mp (mt (ib_z).mpr h27)))).2.2.1 (Classical.not_not.mp (mt (ib_z).mpr h24)))).2).2.1 h19), fun h20 => ((((((H.2.1 (Classical.not_not.mp (mt (ib_z).mpr h27)))).2.2.1 (Classical.not_not.mp (mt (ib_z).mpr h24)))).2).2.2 h20)⟩))))⟩))⟩))⟩))⟩)
theorem l257b {L c2 c3 c4 c5 c6 : Nat} {D : Dt} {Q : Out → Wd → Prop} {K : TK} {E : Int} (hM : MKp K (D 226 10) (D 321) (D 322) (D 320)) (hE : E ≤ K.n) (H : Q (.inl [vi E]) (D, SS L 1 c2 c3 c4 c5 c6)) : ∀ (N : Nat) (k o : Int), (K.n - k).toNat = N → 0 ≤ k → 0 ≤ o → o ≤ k → bal K k o = E → wp 257 20 [vr 226, vu, vi k, vi o] [] (D, SS L 1 c2 c3 c4 c5 c6) Q := by
  intro N
  have hn : K.n ≤ 16000 := by have h2 := hM.1.2.1; have h3 := hM.2.2.1; dsimp only at h2; omega
  induction N with
  | zero => intro k o e _ _ _ hb; have := bal_lt (K := K) (k := k) (d := o) (by omega); omega
  | succ N ih =>
    intro k o e h0 h1 h2 hb
    have hk := bal_lt (K := K) (k := k) (d := o) (by omega)
    rw [bal_s hk] at hb
    refine r257_20 (K := K) ⟨⟨hM, h0⟩, fun h7 => ⟨by omega, ⟨hM, h0⟩, fun h8 => absurd h8 (not78 h7), fun h8 => ⟨by omega, fun g => ?_, fun g => ?_⟩⟩, fun h7 => ⟨⟨hM, h0⟩, fun h8 => ⟨by omega, by omega, fun g => ?_, fun g => ?_⟩, fun h8 => ⟨by omega, fun g => ?_, fun g => ?_⟩⟩⟩
    · rw [ib_t h7, ib_f h8, cit_t (by omega), show o + 1 - 0 = o + 1 by omega] at hb
      exact ih (k + 1) (o + 1) (by omega) (by omega) (by omega) (by omega) hb
    · omega
    · rw [ib_f h7, ib_t h8, cit_t (by omega), show o + 0 - 1 = o + -1 by omega] at hb
      exact ih (k + 1) (o + -1) (by omega) (by omega) (by omega) (by omega) hb
    · rw [ib_f h7, ib_t h8, cit_f (by omega)] at hb
      exact q_i H hb.symm
    · rw [ib_f h7, ib_f h8, cit_t (by omega), show o + 0 - 0 = o by omega] at hb
      exact ih (k + 1) o (by omega) (by omega) (by omega) (by omega) hb
    · rw [ib_f h7, ib_f h8, cit_f (by omega)] at hb
      exact q_i H hb.symm
theorem s257 {L c2 c3 c4 c5 c6 : Nat} {D : Dt} {Q : Out → Wd → Prop} {K : TK} {t : Int} (H : (MKp K (D 226 10) (D 321) (D 322) (D 320) ∧ 0 ≤ t ∧ K.w (scan (fun k => ¬ K.w k 7) t K.n) 7 ∧ bhd K t ≤ K.n) ∧ Q (.inl [vi (bhd K t)]) (D, SS L 1 c2 c3 c4 c5 c6)) : wp 257 0 [vr 226, vi t, vu, vu] [] (D, SS L 1 c2 c3 c4 c5 c6) Q := by
  obtain ⟨⟨hM, h0, hw, hE⟩, H⟩ := H
  have hn : K.n ≤ 16000 := by have h2 := hM.1.2.1; have h3 := hM.2.2.1; dsimp only at h2; omega
  have hl : ∀ (N : Nat) (k : Int), (K.n - k).toNat = N → 0 ≤ k → scan (fun k => ¬ K.w k 7) k K.n = scan (fun k => ¬ K.w k 7) t K.n → wp 257 2 [vr 226, vu, vi k, vu] [] (D, SS L 1 c2 c3 c4 c5 c6) Q := by
    intro N
    induction N with
    | zero =>
      intro k e hk hs
      rw [scan_n (by omega)] at hs
      rw [← hs] at hw
      have := w_lt hw
      omega
    | succ N ih =>
      intro k e hk hs
      refine r257_2 (K := K) ⟨⟨hM, hk⟩, fun h7 => ?_, fun h7 => ⟨by omega, ih (k + 1) (by omega) (by omega) ?_⟩⟩
      · rw [scan_p (p := fun k => ¬ K.w k 7) (fun x => x h7)] at hs
        exact l257b hM hE H _ k 0 rfl hk (by omega) (by omega) (by rw [hs]; rfl)
      · rw [← hs]
        exact (scan_t (p := fun k => ¬ K.w k 7) (by omega) h7).symm
  exact r257_0 (K := K) (hl _ t rfl h0 rfl)
theorem r267_0 {L c2 c3 c4 c5 c6 : Nat} {K : TK} {D : Dt} {Q : Out → Wd → Prop} {t : Int} (H : (MKp K (D 226 10) (D 321) (D 322) (D 320) ∧ 0 ≤ t) ∧ ((((K.w t 9 → (((-2147483648) ≤ t + 3 ∧ t + 3 ≤ 2147483647) ∧ (Q (.inl [vi (t + 3)]) (D, SS L 1 c2 c3 c4 c5 c6)))) ∧ (¬ (K.w t 9) → ((MKp K (D 226 10) (D 321) (D 322) (D 320) ∧ 0 ≤ t ∧ K.w (scan (fun k => ¬ K.w k 7) t K.n) 7 ∧ bhd K t ≤ K.n) ∧ ((Q (.inl [vi (bhd K t)]) (D, SS L 1 c2 c3 c4 c5 c6))))))))) : wp 267 0 [vr 226, vi t] [] (D, SS L 1 c2 c3 c4 c5 c6) Q := vc_wp [] 200 _ _ _ _ _ _ (show wp 235 0 [vr 226, vi t, vr 25, vu] [] (D, SS L 1 c2 c3 c4 c5 c6) (aft wp 267 4 [vr 226, vi t] [] Q) from k235s25 ⟨H.1, (show wp 267 7 [vr 226, vi t] [vi (ib (K.w t 9))] (D, SS L 1 c2 c3 c4 c5 c6) Q from vc_wp [13] 200 _ _ _ _ _ _ (show ((ib (K.w t 9) = 0 → (wp 257 0 [vr 226, vi t, vu, vu] [] (D, SS L 1 c2 c3 c4 c5 c6) (aft wp 267 18 [vr 226, vi t] [] Q))) ∧ (¬ (ib (K.w t 9) = 0) → (wp 267 13 [vr 226, vi t] [vi (w32 (t + 3))] (D, SS L 1 c2 c3 c4 c5 c6) Q))) from ⟨fun h6 => s257 ⟨(H.2.2 ((ib_z).mp h6)).1, (show wp 267 21 [vr 226, vi t] [vi (bhd K t)] (D, SS L 1 c2 c3 c4 c5 c6) Q from vc_wp [] 200 _ _ _ _ _ _ (show Q (.inl [vi (bhd K t)]) (D, SS L 1 c2 c3 c4 c5 c6) from (H.2.2 ((ib_z).mp h6)).2))⟩, fun h7 => w32_i (fun z5 : Int => wp 267 13 [vr 226, vi t] [vi z5] (D, SS L 1 c2 c3 c4 c5 c6) Q) ((H.2.1 (Classical.not_not.mp (mt (ib_z).mpr h7)))).1 (vc_wp [] 200 _ _ _ _ _ _ (show Q (.inl [vi (t + 3)]) (D, SS L 1 c2 c3 c4 c5 c6) from ((H.2.1 (Classical.not_not.mp (mt (ib_z).mpr h7)))).2))⟩))⟩)
theorem s267 {L c2 c3 c4 c5 c6 : Nat} {D : Dt} {Q : Out → Wd → Prop} {K : TK} {t : Int} (H : (MKp K (D 226 10) (D 321) (D 322) (D 320) ∧ 0 ≤ t ∧ (pmem K t).1 = true) ∧ Q (.inl [vi (pmem K t).2]) (D, SS L 1 c2 c3 c4 c5 c6)) : wp 267 0 [vr 226, vi t] [] (D, SS L 1 c2 c3 c4 c5 c6) Q := by
  obtain ⟨⟨hM, h0, hp⟩, H⟩ := H
  have hn : K.n ≤ 16000 := by have h2 := hM.1.2.1; have h3 := hM.2.2.1; dsimp only at h2; omega
  have e := PR_t hp
  have ha := adv_mem K _ _ e
  refine r267_0 (K := K) ⟨⟨hM, h0⟩, fun h9 => ⟨by omega, ?_⟩, fun h9 => ?_⟩
  · have e2 : pmem K t = pb (pm (K.sn (t + 1)) (t + 1)) fun b => pm (K.ty b) b := cit_t h9
    rw [e2] at e
    obtain ⟨c, g1, g2⟩ := pb_t e
    have i1 := (pm_e g1).2
    have i2 := (pm_e g2).2
    rw [← e2] at i2
    rw [show t + 3 = (pmem K t).2 by omega]
    exact H
  · have h := bhd_mem h9 e
    rw [h.2]
    exact ⟨⟨hM, h0, h.1, ha.2⟩, H⟩
theorem r256_0 {L c2 c3 c4 c5 c6 : Nat} {D : Dt} {Q : Out → Wd → Prop} {t : Int} (H : Q (.inl [vi 0]) (up D 226 12 t, SS L 1 c2 c3 c4 c5 c6)) : wp 256 0 [vr 226, vi t] [] (D, SS L 1 c2 c3 c4 c5 c6) Q := vc_wp [5] 200 _ _ _ _ _ _ (show wp 256 5 [vr 226, vi t] [] (up D 226 12 t, SS L 1 c2 c3 c4 c5 c6) Q from vc_wp [] 200 _ _ _ _ _ _ (show ((0 : Int) ≤ 0 ∧ 0 ≤ (1 : Int)) ∧ (Q (.inl [vi 0]) (up D 226 12 t, SS L 1 c2 c3 c4 c5 c6)) from ⟨(by decide), H⟩))
