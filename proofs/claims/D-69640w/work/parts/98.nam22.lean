/-! names: labels -/
set_option maxRecDepth 100000
/-- of some lines the labels, their places if the first instruction is at a, how many instructions -/
noncomputable def lbT (K : TK) : List Int → List Int
  | [] => []
  | l :: ls => cit (K.w (l + 1) 15) (l :: lbT K ls) (lbT K ls)
noncomputable def lbP (K : TK) : List Int → Int → List Int
  | [], _ => []
  | l :: ls, a => cit (K.w (l + 1) 15) (a :: lbP K ls a) (cit (K.w l 16) (lbP K ls a) (lbP K ls (a + 1)))
noncomputable def lnC (K : TK) : List Int → Int
  | [] => 0
  | l :: ls => cit (K.w (l + 1) 15) (lnC K ls) (cit (K.w l 16) (lnC K ls) (lnC K ls + 1))
noncomputable def labK (K : TK) (lt : List Int) (t : Int) : Int := fsF (fun k => K.same t (lf lt k)) 0 lt.length
noncomputable def labA (K : TK) (lt lp : List Int) (t : Int) : Int := cit (labK K lt t < 0) (-1) (lf lp (labK K lt t))
theorem lbP_len {K : TK} : ∀ (ln : List Int) (a : Int), (lbP K ln a).length = (lbT K ln).length
  | [], _ => rfl
  | l :: ls, a => by
    show (cit _ _ _ : List Int).length = (cit _ _ _ : List Int).length
    rcases Classical.em (K.w (l + 1) 15) with h | h
    · rw [cit_t h, cit_t h, List.length_cons, List.length_cons, lbP_len ls]
    · rw [cit_f h, cit_f h]
      rcases Classical.em (K.w l 16) with h1 | h1
      · rw [cit_t h1, lbP_len ls]
      · rw [cit_f h1, lbP_len ls]
theorem lbT_len {K : TK} : ∀ (ln : List Int), (lbT K ln).length ≤ ln.length
  | [] => Nat.le_refl _
  | l :: ls => by
    show (cit _ _ _ : List Int).length ≤ _
    have := lbT_len (K := K) ls
    rcases Classical.em (K.w (l + 1) 15) with h | h
    · rw [cit_t h, List.length_cons, List.length_cons]; omega
    · rw [cit_f h, List.length_cons]; omega
theorem lnC_b {K : TK} : ∀ (ln : List Int), 0 ≤ lnC K ln ∧ lnC K ln ≤ ln.length
  | [] => ⟨Int.le_refl _, Int.le_refl _⟩
  | l :: ls => by
    show 0 ≤ cit _ _ _ ∧ cit _ _ _ ≤ _
    have := lnC_b (K := K) ls
    rw [List.length_cons]
    rcases Classical.em (K.w (l + 1) 15) with h | h
    · rw [cit_t h]; omega
    · rw [cit_f h]
      rcases Classical.em (K.w l 16) with h1 | h1
      · rw [cit_t h1]; omega
      · rw [cit_f h1]; omega
theorem lbT_mem {K : TK} : ∀ (ln : List Int) (x : Int), x ∈ lbT K ln → x ∈ ln
  | [], _, h => by cases h
  | l :: ls, x, h => by
    have h : x ∈ (cit (K.w (l + 1) 15) (l :: lbT K ls) (lbT K ls) : List Int) := h
    rcases Classical.em (K.w (l + 1) 15) with g | g
    · rw [cit_t g] at h
      rcases List.mem_cons.mp h with e | e
      · rw [e]; exact List.mem_cons_self ..
      · exact List.mem_cons_of_mem _ (lbT_mem ls x e)
    · rw [cit_f g] at h
      exact List.mem_cons_of_mem _ (lbT_mem ls x h)
theorem lf_mem {l : List Int} {i : Int} (h0 : 0 ≤ i) (h1 : i < l.length) : lf l i ∈ l := by
  unfold lf
  have h2 : i.toNat < l.length := by omega
  rw [List.getD_eq_getElem?_getD, List.getElem?_eq_getElem h2]
  exact List.getElem_mem h2
theorem labK_b {K : TK} {lt : List Int} {t : Int} : labK K lt t = -1 ∨ (0 ≤ labK K lt t ∧ labK K lt t < lt.length ∧ K.same t (lf lt (labK K lt t)) ∧ ∀ i, 0 ≤ i → i < labK K lt t → ¬ K.same t (lf lt i)) := fs_b (P := fun k => K.same t (lf lt k)) (by decide)
/-- SafeCode's labels -/
def LbS (K : TK) (lt lp : List Int) (D : Dt) : Prop := LR (D 83) (D 84) lt ∧ LR (D 85) (D 86) lp ∧ lp.length = lt.length ∧ (∀ x ∈ lt, 0 ≤ x ∧ x < K.n) ∧ lt.length ≤ 4000
theorem r88_0 {L c3 c4 c5 c6 : Nat} {K : TK} {D : Dt} {Q : Out → Wd → Prop} {t : Int} (H : wp 88 2 [vr 79, vi t, vi 0] [] (D, SS L 1 2 c3 c4 c5 c6) Q) : wp 88 0 [vr 79, vi t, vu] [] (D, SS L 1 2 c3 c4 c5 c6) Q := vc_wp [2] 200 _ _ _ _ _ _ (show wp 88 2 [vr 79, vi t, vi 0] [] (D, SS L 1 2 c3 c4 c5 c6) Q from H)
theorem r88_2 {L c3 c4 c5 c6 : Nat} {K : TK} {D : Dt} {Q : Out → Wd → Prop} {t k : Int} (H : ((k < D 83 1 → ((0 ≤ k ∧ k < D 84 (-1)) ∧ ((SKp K (D 54) (D 55) (D 56) (D 57) (D 224) ∧ 0 ≤ (D 84 k) ∧ (D 84 k) < K.n ∧ 0 ≤ t ∧ t < K.n) ∧ ((((K.same (D 84 k) t → ((0 ≤ k ∧ k < D 86 (-1)) ∧ (Q (.inl [vi (D 86 k)]) (D, SS L 1 2 c3 c4 c5 c6)))) ∧ (¬ (K.same (D 84 k) t) → (((-2147483648) ≤ k + 1 ∧ k + 1 ≤ 2147483647) ∧ (wp 88 2 [vr 79, vi t, vi (k + 1)] [] (D, SS L 1 2 c3 c4 c5 c6) Q))))))))) ∧ (¬ (k < D 83 1) → (Q (.inl [vi (-1)]) (D, SS L 1 2 c3 c4 c5 c6))))) : wp 88 2 [vr 79, vi t, vi k] [] (D, SS L 1 2 c3 c4 c5 c6) Q := vc_wp [7] 200 _ _ _ _ _ _ (show wp 88 7 [vr 79, vi t, vi k] [vr 83, vi k] (D, SS L 1 2 c3 c4 c5 c6) Q from vc_wp [17] 200 _ _ _ _ _ _ (show ((k < D 83 1 → (wp 88 17 [vr 79, vi t, vi k] [vr 53] (D, SS L 1 2 c3 c4 c5 c6) Q)) ∧ (¬ (k < D 83 1) → (Q (.inl [vi (-1)]) (D, SS L 1 2 c3 c4 c5 c6)))) from ⟨fun h6 => vc_wp [21] 200 _ _ _ _ _ _ (show wp 88 21 [vr 79, vi t, vi k] [vr 83, vr 53] (D, SS L 1 2 c3 c4 c5 c6) Q from vc_wp [24] 200 _ _ _ _ _ _ (show wp 88 24 [vr 79, vi t, vi k] [vr 84, vr 53] (D, SS L 1 2 c3 c4 c5 c6) Q from vc_wp [] 200 _ _ _ _ _ _ (show (0 ≤ k ∧ k < D 84 (-1)) ∧ (wp 54 0 [vr 53, vi (D 84 k), vi t] [] (D, SS L 1 2 c3 c4 c5 c6) (aft wp 88 27 [vr 79, vi t, vi k] [] Q)) from ⟨(H.1 h6).1, k54 ⟨(H.1 h6).2.1, (show wp 88 30 [vr 79, vi t, vi k] [vi (ib (K.same (D 84 k) t))] (D, SS L 1 2 c3 c4 c5 c6) Q from vc_wp [37, 46] 200 _ _ _ _ _ _ (show ((ib (K.same (D 84 k) t) = 0 → (wp 88 46 [vr 79, vi t, vi (w32 (k + 1))] [] (D, SS L 1 2 c3 c4 c5 c6) Q)) ∧ (¬ (ib (K.same (D 84 k) t) = 0) → (wp 88 37 [vr 79, vi t, vi k] [vr 85] (D, SS L 1 2 c3 c4 c5 c6) Q))) from ⟨fun h4 => w32_i (fun z3 : Int => wp 88 46 [vr 79, vi t, vi z3] [] (D, SS L 1 2 c3 c4 c5 c6) Q) (((H.1 h6).2.2.2 ((ib_z).mp h4))).1 (vc_wp [2] 200 _ _ _ _ _ _ (show wp 88 2 [vr 79, vi t, vi (k + 1)] [] (D, SS L 1 2 c3 c4 c5 c6) Q from (((H.1 h6).2.2.2 ((ib_z).mp h4))).2)), fun h5 => vc_wp [40] 200 _ _ _ _ _ _ (show wp 88 40 [vr 79, vi t, vi k] [vr 86] (D, SS L 1 2 c3 c4 c5 c6) Q from vc_wp [] 200 _ _ _ _ _ _ (show (0 ≤ k ∧ k < D 86 (-1)) ∧ (Q (.inl [vi (D 86 k)]) (D, SS L 1 2 c3 c4 c5 c6)) from ⟨((H.1 h6).2.2.1 (Classical.not_not.mp (mt (ib_z).mpr h5))).1, ((H.1 h6).2.2.1 (Classical.not_not.mp (mt (ib_z).mpr h5))).2⟩))⟩))⟩⟩))), fun h7 => (H.2 h7)⟩))
theorem s88 {L c3 c4 c5 c6 : Nat} {D : Dt} {Q : Out → Wd → Prop} {K : TK} {t : Int} (H : ∃ x : List Int × List Int, (SKp K (D 54) (D 55) (D 56) (D 57) (D 224) ∧ LbS K x.1 x.2 D ∧ 0 ≤ t ∧ t < K.n) ∧ Q (.inl [vi (labA K x.1 x.2 t)]) (D, SS L 1 2 c3 c4 c5 c6)) : wp 88 0 [vr 79, vi t, vu] [] (D, SS L 1 2 c3 c4 c5 c6) Q := by
  obtain ⟨⟨lt, lp⟩, ⟨hS, ⟨h1, h2, h3, h4, h5⟩, t0, t1⟩, H⟩ := H
  dsimp only at *
  have hL : ∀ (M : Nat) (k : Int), (lt.length - k).toNat = M → 0 ≤ k → k ≤ lt.length → labK K lt t = fsF (fun k => K.same t (lf lt k)) k lt.length → wp 88 2 [vr 79, vi t, vi k] [] (D, SS L 1 2 c3 c4 c5 c6) Q := by
    intro M
    induction M with
    | zero =>
      intro k e k0 k1 hk
      refine r88_2 (K := K) ⟨fun g => by rw [h1.1] at g; omega, fun _ => q_i H ?_⟩
      unfold labA
      rw [hk, fs_n (by omega)]
      exact cit_t (by decide)
    | succ M ih =>
      intro k e k0 k1 hk
      have hk1 : k < lt.length := by omega
      have e1 := lr_lf h1 k0 hk1
      have e2 := lr_lf h2 k0 (by omega)
      have e3 := h4 _ (lf_mem k0 hk1)
      refine r88_2 (K := K) ⟨fun g => ?_, fun g => by rw [h1.1] at g; omega⟩
      rw [e1.1, e2.1]
      refine ⟨⟨k0, e1.2⟩, ⟨hS, e3.1, e3.2, t0, t1⟩, fun g1 => ⟨⟨k0, e2.2⟩, q_i H ?_⟩, fun g1 => ⟨by omega, ?_⟩⟩
      · unfold labA
        rw [hk, fs_y (P := fun k => K.same t (lf lt k)) hk1 (same_s g1)]
        exact cit_f (by omega)
      · exact ih (k + 1) (by omega) (by omega) (by omega) (hk.trans (fs_s (P := fun k => K.same t (lf lt k)) hk1 (fun x => g1 (same_s x))))
  exact r88_0 (K := K) (hL _ 0 rfl (by omega) (by omega) rfl)
/-- the model's labels -/
def LbM (K : TK) (lt lp : List Int) (D : Dt) : Prop := D 226 19 = lt.length ∧ L1 (D 327) lt ∧ L1 (D 328) lp ∧ lp.length = lt.length ∧ (∀ x ∈ lt, 0 ≤ x ∧ x < K.n) ∧ lt.length ≤ 16000
theorem r271_0 {L c2 c3 c4 c5 c6 : Nat} {K : TK} {D : Dt} {Q : Out → Wd → Prop} {t : Int} (H : wp 271 2 [vr 226, vi t, vi 0] [] (D, SS L 1 c2 c3 c4 c5 c6) Q) : wp 271 0 [vr 226, vi t, vu] [] (D, SS L 1 c2 c3 c4 c5 c6) Q := vc_wp [2] 200 _ _ _ _ _ _ (show wp 271 2 [vr 226, vi t, vi 0] [] (D, SS L 1 c2 c3 c4 c5 c6) Q from H)
theorem r271_2 {L c2 c3 c4 c5 c6 : Nat} {K : TK} {D : Dt} {Q : Out → Wd → Prop} {t k : Int} (H : ((k < D 226 19 → ((0 ≤ k ∧ k < 16000) ∧ ((MKp K (D 226 10) (D 321) (D 322) (D 320) ∧ 0 ≤ t ∧ t < K.n ∧ 0 ≤ (D 327 k) ∧ (D 327 k) < K.n) ∧ ((((K.same t (D 327 k) → (Q (.inl [vi k]) (D, SS L 1 c2 c3 c4 c5 c6))) ∧ (¬ (K.same t (D 327 k)) → (((-2147483648) ≤ k + 1 ∧ k + 1 ≤ 2147483647) ∧ (wp 271 2 [vr 226, vi t, vi (k + 1)] [] (D, SS L 1 c2 c3 c4 c5 c6) Q))))))))) ∧ (¬ (k < D 226 19) → (Q (.inl [vi (-1)]) (D, SS L 1 c2 c3 c4 c5 c6))))) : wp 271 2 [vr 226, vi t, vi k] [] (D, SS L 1 c2 c3 c4 c5 c6) Q := vc_wp [16] 200 _ _ _ _ _ _ (show ((k < D 226 19 → (wp 271 16 [vr 226, vi t, vi k] [vr 327, vi t, vr 226] (D, SS L 1 c2 c3 c4 c5 c6) Q)) ∧ (¬ (k < D 226 19) → (Q (.inl [vi (-1)]) (D, SS L 1 c2 c3 c4 c5 c6)))) from ⟨fun h6 => vc_wp [] 200 _ _ _ _ _ _ (show (0 ≤ k ∧ k < 16000) ∧ (wp 266 0 [vr 226, vi t, vi (D 327 k)] [] (D, SS L 1 c2 c3 c4 c5 c6) (aft wp 271 18 [vr 226, vi t, vi k] [] Q)) from ⟨(H.1 h6).1, k266 ⟨(H.1 h6).2.1, (show wp 271 21 [vr 226, vi t, vi k] [vi (ib (K.same t (D 327 k)))] (D, SS L 1 c2 c3 c4 c5 c6) Q from vc_wp [29] 200 _ _ _ _ _ _ (show ((ib (K.same t (D 327 k)) = 0 → (wp 271 29 [vr 226, vi t, vi (w32 (k + 1))] [] (D, SS L 1 c2 c3 c4 c5 c6) Q)) ∧ (¬ (ib (K.same t (D 327 k)) = 0) → (Q (.inl [vi k]) (D, SS L 1 c2 c3 c4 c5 c6)))) from ⟨fun h4 => w32_i (fun z3 : Int => wp 271 29 [vr 226, vi t, vi z3] [] (D, SS L 1 c2 c3 c4 c5 c6) Q) (((H.1 h6).2.2.2 ((ib_z).mp h4))).1 (vc_wp [2] 200 _ _ _ _ _ _ (show wp 271 2 [vr 226, vi t, vi (k + 1)] [] (D, SS L 1 c2 c3 c4 c5 c6) Q from (((H.1 h6).2.2.2 ((ib_z).mp h4))).2)), fun h5 => ((H.1 h6).2.2.1 (Classical.not_not.mp (mt (ib_z).mpr h5)))⟩))⟩⟩), fun h7 => (H.2 h7)⟩)
theorem s271 {L c2 c3 c4 c5 c6 : Nat} {D : Dt} {Q : Out → Wd → Prop} {K : TK} {t : Int} (H : ∃ x : List Int × List Int, (MKp K (D 226 10) (D 321) (D 322) (D 320) ∧ LbM K x.1 x.2 D ∧ 0 ≤ t ∧ t < K.n) ∧ Q (.inl [vi (labK K x.1 t)]) (D, SS L 1 c2 c3 c4 c5 c6)) : wp 271 0 [vr 226, vi t, vu] [] (D, SS L 1 c2 c3 c4 c5 c6) Q := by
  obtain ⟨⟨lt, lp⟩, ⟨hM, ⟨h1, h2, h3, h6, h4, h5⟩, t0, t1⟩, H⟩ := H
  dsimp only at *
  have hL : ∀ (M : Nat) (k : Int), (lt.length - k).toNat = M → 0 ≤ k → k ≤ lt.length → labK K lt t = fsF (fun k => K.same t (lf lt k)) k lt.length → wp 271 2 [vr 226, vi t, vi k] [] (D, SS L 1 c2 c3 c4 c5 c6) Q := by
    intro M
    induction M with
    | zero =>
      intro k e k0 k1 hk
      refine r271_2 (K := K) ⟨fun g => by rw [h1] at g; omega, fun _ => q_i H ?_⟩
      rw [hk, fs_n (by omega)]
    | succ M ih =>
      intro k e k0 k1 hk
      have hk1 : k < lt.length := by omega
      have e1 := h2 k k0 hk1
      have e3 := h4 _ (lf_mem k0 hk1)
      refine r271_2 (K := K) ⟨fun g => ?_, fun g => by rw [h1] at g; omega⟩
      rw [e1]
      refine ⟨by omega, ⟨hM, t0, t1, e3.1, e3.2⟩, fun g1 => q_i H ?_, fun g1 => ⟨by omega, ?_⟩⟩
      · rw [hk, fs_y (P := fun k => K.same t (lf lt k)) hk1 g1]
      · exact ih (k + 1) (by omega) (by omega) (by omega) (hk.trans (fs_s (P := fun k => K.same t (lf lt k)) hk1 g1))
  exact r271_0 (K := K) (hL _ 0 rfl (by omega) (by omega) rfl)
theorem r273_0 {L c2 c3 c4 c5 c6 : Nat} {K : TK} {D : Dt} {Q : Out → Wd → Prop} {t : Int} (H : ∃ (xl1 : List Int × List Int), (MKp K (D 226 10) (D 321) (D 322) (D 320) ∧ LbM K xl1.1 xl1.2 D ∧ 0 ≤ t ∧ t < K.n) ∧ ((((labK K xl1.1 t < 0 → (Q (.inl [vi (-1)]) (D, SS L 1 c2 c3 c4 c5 c6))) ∧ (¬ (labK K xl1.1 t < 0) → ((0 ≤ labK K xl1.1 t ∧ labK K xl1.1 t < 16000) ∧ (Q (.inl [vi (D 328 (labK K xl1.1 t))]) (D, SS L 1 c2 c3 c4 c5 c6)))))))) : wp 273 0 [vr 226, vi t, vu] [] (D, SS L 1 c2 c3 c4 c5 c6) Q := vc_wp [] 200 _ _ _ _ _ _ (show wp 271 0 [vr 226, vi t, vu] [] (D, SS L 1 c2 c3 c4 c5 c6) (aft wp 273 2 [vr 226, vi t, vu] [] Q) from Exists.elim (H) fun xl1 x2 => s271 ⟨xl1, x2.1, (show wp 273 5 [vr 226, vi t, vu] [vi (labK K xl1.1 t)] (D, SS L 1 c2 c3 c4 c5 c6) Q from vc_wp [18] 200 _ _ _ _ _ _ (show ((labK K xl1.1 t < 0 → (Q (.inl [vi (-1)]) (D, SS L 1 c2 c3 c4 c5 c6))) ∧ (¬ (labK K xl1.1 t < 0) → (wp 273 18 [vr 226, vi t, vi (labK K xl1.1 t)] [vr 328] (D, SS L 1 c2 c3 c4 c5 c6) Q))) from ⟨fun h4 => (x2.2.1 h4), fun h5 => vc_wp [] 200 _ _ _ _ _ _ (show (0 ≤ labK K xl1.1 t ∧ labK K xl1.1 t < 16000) ∧ (Q (.inl [vi (D 328 (labK K xl1.1 t))]) (D, SS L 1 c2 c3 c4 c5 c6)) from ⟨(x2.2.2 h5).1, (x2.2.2 h5).2⟩)⟩))⟩)
theorem s273 {L c2 c3 c4 c5 c6 : Nat} {D : Dt} {Q : Out → Wd → Prop} {K : TK} {t : Int} (H : ∃ x : List Int × List Int, (MKp K (D 226 10) (D 321) (D 322) (D 320) ∧ LbM K x.1 x.2 D ∧ 0 ≤ t ∧ t < K.n) ∧ Q (.inl [vi (labA K x.1 x.2 t)]) (D, SS L 1 c2 c3 c4 c5 c6)) : wp 273 0 [vr 226, vi t, vu] [] (D, SS L 1 c2 c3 c4 c5 c6) Q := by
  obtain ⟨⟨lt, lp⟩, ⟨hM, hL, t0, t1⟩, H⟩ := H
  dsimp only at *
  refine r273_0 (K := K) ⟨(lt, lp), ⟨hM, hL, t0, t1⟩, fun g => q_i H (cit_t g), fun g => ?_⟩
  dsimp only at g ⊢
  obtain ⟨h1, h2, h3, h6, h4, h5⟩ := hL
  rcases labK_b (K := K) (lt := lt) (t := t) with x | x
  · omega
  · rw [h3 _ x.1 (by omega)]
    exact ⟨by omega, q_i H (cit_f g)⟩
/-- lines in SafeCode's rows -/
def LNp (K : TK) (ln : List Int) (fr : Int) (D : Dt) : Prop := ∀ i : Int, 0 ≤ i → i < ln.length → (fr + i < D 74 (-1) ∧ fr + i < D 76 (-1) ∧ fr + i < D 78 (-1)) ∧ D 74 (fr + i) = lkd K (lf ln i) ∧ D 76 (fr + i) = lf ln i ∧ D 78 (fr + i) = lop K (lf ln i)
def FrV (D E : Dt) : Prop := ∀ b, ¬ (83 ≤ b ∧ b ≤ 86) → E b = D b
theorem r86_0 {L c3 c4 c5 c6 : Nat} {K : TK} {D : Dt} {Q : Out → Wd → Prop} {fr to : Int} (H : wp 86 25 [vr 79, vu, vi to, vi (D 197 17), vi fr] [] (up (up D 83 1 0) 85 1 0, SS L 1 2 c3 c4 c5 c6) Q) : wp 86 0 [vr 79, vi fr, vi to, vu, vu] [] (D, SS L 1 2 c3 c4 c5 c6) Q := vc_wp [4] 200 _ _ _ _ _ _ (show wp 86 4 [vr 79, vi fr, vi to, vu, vu] [vr 83] (D, SS L 1 2 c3 c4 c5 c6) Q from vc_wp [] 200 _ _ _ _ _ _ (show wp 57 0 [vr 83] [] (D, SS L 1 2 c3 c4 c5 c6) (aft wp 86 4 [vr 79, vi fr, vi to, vu, vu] [] Q) from r57_0a83 (show wp 86 7 [vr 79, vi fr, vi to, vu, vu] [] (up D 83 1 0, SS L 1 2 c3 c4 c5 c6) Q from vc_wp [11] 200 _ _ _ _ _ _ (show wp 86 11 [vr 79, vi fr, vi to, vu, vu] [vr 85] (up D 83 1 0, SS L 1 2 c3 c4 c5 c6) Q from vc_wp [] 200 _ _ _ _ _ _ (show wp 57 0 [vr 85] [] (up D 83 1 0, SS L 1 2 c3 c4 c5 c6) (aft wp 86 11 [vr 79, vi fr, vi to, vu, vu] [] Q) from r57_0a85 (show wp 86 14 [vr 79, vi fr, vi to, vu, vu] [] (up (up D 83 1 0) 85 1 0, SS L 1 2 c3 c4 c5 c6) Q from vc_wp [18] 200 _ _ _ _ _ _ (show wp 86 18 [vr 79, vi fr, vi to, vu, vu] [vr 197] (up (up D 83 1 0) 85 1 0, SS L 1 2 c3 c4 c5 c6) Q from vc_wp [25] 200 _ _ _ _ _ _ (show wp 86 25 [vr 79, vi fr, vi to, vi (D 197 17), vi fr] [] (up (up D 83 1 0) 85 1 0, SS L 1 2 c3 c4 c5 c6) Q from wp_d (Lle.k rfl (Lle.v rfl (Lle.k rfl (Lle.k rfl (Lle.k rfl (Lle.nil)))))) (H)))))))))
theorem r86_25 {L c3 c4 c5 c6 : Nat} {K : TK} {D : Dt} {Q : Out → Wd → Prop} {to a l : Int} (H : ((l < to → ((0 ≤ l ∧ l < D 74 (-1)) ∧ ((D 74 l = 0 → ((0 ≤ l ∧ l < D 76 (-1)) ∧ ((RowOK (D 83) (D 84) ∧ D 83 1 ≤ 4096) ∧ ((∀ (z2 : Int → Int) (r3 : Int → Int), (AddP (D 83) (D 84) z2 r3 (D 76 l)) → ((RowOK (D 85) (D 86) ∧ D 85 1 ≤ 4096) ∧ ((∀ (z6 : Int → Int) (r7 : Int → Int), (AddP (D 85) (D 86) z6 r7 a) → (wp 86 98 [vr 79, vu, vi to, vi a, vi l] [] (sp (sp (sp (sp D 83 z2) 84 r3) 85 z6) 86 r7, SS L 1 2 c3 c4 c5 c6) Q))))))))) ∧ (¬ (D 74 l = 0) → ((0 ≤ l ∧ l < D 74 (-1)) ∧ ((D 74 l = 2 → (((-2147483648) ≤ a + 1 ∧ a + 1 ≤ 2147483647) ∧ (wp 86 98 [vr 79, vu, vi to, vi (a + 1), vi l] [] (D, SS L 1 2 c3 c4 c5 c6) Q))) ∧ (¬ (D 74 l = 2) → (wp 86 98 [vr 79, vu, vi to, vi a, vi l] [] (D, SS L 1 2 c3 c4 c5 c6) Q)))))))) ∧ (¬ (l < to) → (Q (.inl []) (D, SS L 1 2 c3 c4 c5 c6))))) : wp 86 25 [vr 79, vu, vi to, vi a, vi l] [] (D, SS L 1 2 c3 c4 c5 c6) Q := vc_wp [35] 200 _ _ _ _ _ _ (show ((l < to → (wp 86 35 [vr 79, vu, vi to, vi a, vi l] [vr 58] (D, SS L 1 2 c3 c4 c5 c6) Q)) ∧ (¬ (l < to) → (Q (.inl []) (D, SS L 1 2 c3 c4 c5 c6)))) from ⟨fun h14 => vc_wp [38] 200 _ _ _ _ _ _ (show wp 86 38 [vr 79, vu, vi to, vi a, vi l] [vr 73] (D, SS L 1 2 c3 c4 c5 c6) Q from vc_wp [41] 200 _ _ _ _ _ _ (show wp 86 41 [vr 79, vu, vi to, vi a, vi l] [vr 74] (D, SS L 1 2 c3 c4 c5 c6) Q from vc_wp [51, 82] 200 _ _ _ _ _ _ (show (0 ≤ l ∧ l < D 74 (-1)) ∧ ((D 74 l = 0 → (wp 86 51 [vr 79, vu, vi to, vi a, vi l] [vr 83] (D, SS L 1 2 c3 c4 c5 c6) Q)) ∧ (¬ (D 74 l = 0) → (wp 86 82 [vr 79, vu, vi to, vi a, vi l] [vr 58] (D, SS L 1 2 c3 c4 c5 c6) Q))) from ⟨(H.1 h14).1, ⟨fun h12 => vc_wp [55] 200 _ _ _ _ _ _ (show wp 86 55 [vr 79, vu, vi to, vi a, vi l] [vr 58, vr 83] (D, SS L 1 2 c3 c4 c5 c6) Q from vc_wp [58] 200 _ _ _ _ _ _ (show wp 86 58 [vr 79, vu, vi to, vi a, vi l] [vr 75, vr 83] (D, SS L 1 2 c3 c4 c5 c6) Q from vc_wp [61] 200 _ _ _ _ _ _ (show wp 86 61 [vr 79, vu, vi to, vi a, vi l] [vr 76, vr 83] (D, SS L 1 2 c3 c4 c5 c6) Q from vc_wp [] 200 _ _ _ _ _ _ (show (0 ≤ l ∧ l < D 76 (-1)) ∧ (wp 58 0 [vr 83, vi (D 76 l)] [] (D, SS L 1 2 c3 c4 c5 c6) (aft wp 86 64 [vr 79, vu, vi to, vi a, vi l] [] Q)) from ⟨((H.1 h14).2.1 h12).1, s58a83 ⟨((H.1 h14).2.1 h12).2.1, (fun z2 r3 q4 => (show wp 86 67 [vr 79, vu, vi to, vi a, vi l] [] (sp (sp D 83 z2) 84 r3, SS L 1 2 c3 c4 c5 c6) Q from vc_wp [71] 200 _ _ _ _ _ _ (show wp 86 71 [vr 79, vu, vi to, vi a, vi l] [vr 85] (sp (sp D 83 z2) 84 r3, SS L 1 2 c3 c4 c5 c6) Q from vc_wp [] 200 _ _ _ _ _ _ (show wp 58 0 [vr 85, vi a] [] (sp (sp D 83 z2) 84 r3, SS L 1 2 c3 c4 c5 c6) (aft wp 86 72 [vr 79, vu, vi to, vi a, vi l] [] Q) from s58a85 ⟨(((H.1 h14).2.1 h12).2.2 z2 r3 q4).1, (fun z6 r7 q8 => (show wp 86 75 [vr 79, vu, vi to, vi a, vi l] [] (sp (sp (sp (sp D 83 z2) 84 r3) 85 z6) 86 r7, SS L 1 2 c3 c4 c5 c6) Q from vc_wp [98] 200 _ _ _ _ _ _ (show wp 86 98 [vr 79, vu, vi to, vi a, vi l] [] (sp (sp (sp (sp D 83 z2) 84 r3) 85 z6) 86 r7, SS L 1 2 c3 c4 c5 c6) Q from ((((H.1 h14).2.1 h12).2.2 z2 r3 q4).2 z6 r7 q8))))⟩))))⟩⟩)))), fun h13 => vc_wp [85] 200 _ _ _ _ _ _ (show wp 86 85 [vr 79, vu, vi to, vi a, vi l] [vr 73] (D, SS L 1 2 c3 c4 c5 c6) Q from vc_wp [88] 200 _ _ _ _ _ _ (show wp 86 88 [vr 79, vu, vi to, vi a, vi l] [vr 74] (D, SS L 1 2 c3 c4 c5 c6) Q from vc_wp [98] 200 _ _ _ _ _ _ (show (0 ≤ l ∧ l < D 74 (-1)) ∧ ((D 74 l = 2 → (wp 86 98 [vr 79, vu, vi to, vi (w32 (a + 1)), vi l] [] (D, SS L 1 2 c3 c4 c5 c6) Q)) ∧ (¬ (D 74 l = 2) → (wp 86 98 [vr 79, vu, vi to, vi a, vi l] [] (D, SS L 1 2 c3 c4 c5 c6) Q))) from ⟨((H.1 h14).2.2 h13).1, ⟨fun h10 => w32_i (fun z9 : Int => wp 86 98 [vr 79, vu, vi to, vi z9, vi l] [] (D, SS L 1 2 c3 c4 c5 c6) Q) ((((H.1 h14).2.2 h13).2.1 h10)).1 (((((H.1 h14).2.2 h13).2.1 h10)).2), fun h11 => (((H.1 h14).2.2 h13).2.2 h11)⟩⟩)))⟩⟩))), fun h15 => (H.2 h15)⟩)
theorem r86_98 {L c3 c4 c5 c6 : Nat} {K : TK} {D : Dt} {Q : Out → Wd → Prop} {to a l : Int} (H : ((-2147483648) ≤ l + 1 ∧ l + 1 ≤ 2147483647) ∧ (wp 86 25 [vr 79, vu, vi to, vi a, vi (l + 1)] [] (D, SS L 1 2 c3 c4 c5 c6) Q)) : wp 86 98 [vr 79, vu, vi to, vi a, vi l] [] (D, SS L 1 2 c3 c4 c5 c6) Q := vc_wp [101] 200 _ _ _ _ _ _ (show wp 86 101 [vr 79, vu, vi to, vi a, vi (w32 (l + 1))] [] (D, SS L 1 2 c3 c4 c5 c6) Q from w32_i (fun z1 : Int => wp 86 101 [vr 79, vu, vi to, vi a, vi z1] [] (D, SS L 1 2 c3 c4 c5 c6) Q) (H).1 (vc_wp [25] 200 _ _ _ _ _ _ (show wp 86 25 [vr 79, vu, vi to, vi a, vi (l + 1)] [] (D, SS L 1 2 c3 c4 c5 c6) Q from (H).2)))
theorem LR.z {z r : Int → Int} (h : RowOK z r) {D : Int → Int} (hz : D 1 = 0) : LR D r [] := ⟨hz, ⟨by omega, by have := h.1; have := h.2.1; omega, h.2.2⟩, fun i hi => by cases hi⟩
theorem lkd_0 {K : TK} {l : Int} : lkd K l = 0 ↔ K.w (l + 1) 15 := by
  unfold lkd
  rcases Classical.em (K.w (l + 1) 15) with h | h
  · rw [cit_t h]; exact ⟨fun _ => h, fun _ => rfl⟩
  · rw [cit_f h]
    rcases Classical.em (K.w l 16) with h1 | h1
    · rw [cit_t h1]; exact ⟨fun x => by omega, fun x => absurd x h⟩
    · rw [cit_f h1]; exact ⟨fun x => by omega, fun x => absurd x h⟩
theorem lkd_2 {K : TK} {l : Int} (h : ¬ K.w (l + 1) 15) : lkd K l = 2 ↔ ¬ K.w l 16 := by
  unfold lkd
  rw [cit_f h]
  rcases Classical.em (K.w l 16) with h1 | h1
  · rw [cit_t h1]; exact ⟨fun x => by omega, fun x => absurd h1 x⟩
  · rw [cit_f h1]; exact ⟨fun _ => h1, fun _ => rfl⟩
theorem lkd_1 {K : TK} {l : Int} (h : ¬ K.w (l + 1) 15) : lkd K l = 1 ↔ K.w l 16 := by
  unfold lkd
  rw [cit_f h]
  rcases Classical.em (K.w l 16) with h1 | h1
  · rw [cit_t h1]; exact ⟨fun _ => h1, fun _ => rfl⟩
  · rw [cit_f h1]; exact ⟨fun x => by omega, fun x => absurd x h1⟩
theorem lf_dc {l : List Int} {i : Nat} (h : i < l.length) : l.drop i = lf l i :: l.drop (i + 1) := by
  rw [drop_c h]
  unfold lf
  rw [Int.toNat_natCast]
theorem s86 {L c3 c4 c5 c6 : Nat} {D : Dt} {Q : Out → Wd → Prop} {K : TK} {fr to : Int} (H : ∃ ln : List Int, (LNp K ln fr D ∧ to = fr + ln.length ∧ 0 ≤ fr ∧ fr ≤ 4000 ∧ ln.length ≤ 4000 ∧ (∀ x ∈ ln, 0 ≤ x ∧ x < K.n) ∧ RowOK (D 83) (D 84) ∧ RowOK (D 85) (D 86) ∧ 0 ≤ D 197 17 ∧ D 197 17 ≤ 1024) ∧ ∀ E, (FrV D E ∧ LbS K (lbT K ln) (lbP K ln (D 197 17)) E) → Q (.inl []) (E, SS L 1 2 c3 c4 c5 c6)) : wp 86 0 [vr 79, vi fr, vi to, vu, vu] [] (D, SS L 1 2 c3 c4 c5 c6) Q := by
  obtain ⟨ln, ⟨hL, hto, f0, f1, hl, hg, r1, r2, z0, z1⟩, H⟩ := H
  have hLoop : ∀ (M i : Nat) (a : Int) (E : Dt) (lt lp : List Int), ln.length - i = M → i ≤ ln.length → 0 ≤ a → a ≤ 1024 + i → FrV D E → LR (E 83) (E 84) lt → LR (E 85) (E 86) lp → lt.length ≤ i → lp.length ≤ i → lt ++ lbT K (ln.drop i) = lbT K ln → lp ++ lbP K (ln.drop i) a = lbP K ln (D 197 17) → wp 86 25 [vr 79, vu, vi to, vi a, vi (fr + i)] [] (E, SS L 1 2 c3 c4 c5 c6) Q := by
    intro M
    induction M with
    | zero =>
      intro i a E lt lp e hi ha ha2 hf h1 h2 hlt hlp e1 e2
      rw [drop_z (by omega)] at e1 e2
      have e1 : lt ++ [] = lbT K ln := e1
      have e2 : lp ++ [] = lbP K ln (D 197 17) := e2
      rw [List.append_nil] at e1 e2
      refine r86_25 (K := K) ⟨fun g => by omega, fun _ => H E ⟨hf, by rw [← e1]; exact h1, by rw [← e2]; exact h2, lbP_len _ _, fun x hx => hg x (lbT_mem _ _ hx), ?_⟩⟩
      have := lbT_len (K := K) ln
      omega
    | succ M ih =>
      intro i a E lt lp e hi ha ha2 hf h1 h2 hlt hlp e1 e2
      have hi1 : i < ln.length := by omega
      obtain ⟨⟨b74, b76, b78⟩, e74, e76, e78⟩ := hL i (by omega) (by omega)
      rw [lf_dc hi1] at e1 e2
      have g74 : E 74 = D 74 := hf 74 (by omega)
      have g76 : E 76 = D 76 := hf 76 (by omega)
      refine r86_25 (K := K) ?_
      rw [g74, g76, e74, e76]
      refine ⟨fun _ => ⟨by omega, fun g1 => ⟨by omega, ⟨h1.2.1, by rw [h1.1]; omega⟩, fun z2 r3 ha1 => ⟨⟨h2.2.1, by rw [h2.1]; omega⟩, fun z6 r7 ha2' => r86_98 (K := K) ⟨by omega, ?_⟩⟩⟩, fun g1 => ⟨by omega, fun g2 => ⟨by omega, r86_98 (K := K) ⟨by omega, ?_⟩⟩, fun g2 => r86_98 (K := K) ⟨by omega, ?_⟩⟩⟩, fun g => by omega⟩
      · have g3 := lkd_0.mp g1
        have := ih (i + 1) a (sp (sp (sp (sp E 83 z2) 84 r3) 85 z6) 86 r7) (lt ++ [lf ln i]) (lp ++ [a]) (by omega) (by omega) ha (by omega) (fun b hb => ?_) (h1.add ha1) (h2.add ha2') (by rw [len_app]; omega) (by rw [len_app]; omega) ?_ ?_
        · rw [show fr + (i : Int) + 1 = fr + ((i + 1 : Nat) : Int) by omega]; exact this
        · show sp (sp (sp (sp E 83 z2) 84 r3) 85 z6) 86 r7 b = _
          have : sp (sp (sp (sp E 83 z2) 84 r3) 85 z6) 86 r7 b = E b := by
            unfold sp
            rw [nbq (p := b) (q := 86) (by omega), nbq (p := b) (q := 85) (by omega), nbq (p := b) (q := 84) (by omega), nbq (p := b) (q := 83) (by omega)]
            rfl
          rw [this]
          exact hf b hb
        · rw [← e1, List.append_assoc]
          show _ = lt ++ cit _ _ _
          rw [cit_t g3]
          rfl
        · rw [← e2, List.append_assoc]
          show _ = lp ++ cit _ _ _
          rw [cit_t g3]
          rfl
      · have g3 : ¬ K.w (lf ln i + 1) 15 := fun x => g1 (lkd_0.mpr x)
        have g4 := (lkd_2 g3).mp g2
        have := ih (i + 1) (a + 1) E lt lp (by omega) (by omega) (by omega) (by omega) hf h1 h2 (by omega) (by omega) ?_ ?_
        · rw [show fr + (i : Int) + 1 = fr + ((i + 1 : Nat) : Int) by omega]; exact this
        · rw [← e1]
          show _ = lt ++ cit _ _ _
          rw [cit_f g3]
        · rw [← e2]
          show _ = lp ++ cit _ _ _
          rw [cit_f g3, cit_f g4]
      · have g3 : ¬ K.w (lf ln i + 1) 15 := fun x => g1 (lkd_0.mpr x)
        have g4 := Classical.not_not.mp (mt (lkd_2 g3).mpr g2)
        have := ih (i + 1) a E lt lp (by omega) (by omega) (by omega) (by omega) hf h1 h2 (by omega) (by omega) ?_ ?_
        · rw [show fr + (i : Int) + 1 = fr + ((i + 1 : Nat) : Int) by omega]; exact this
        · rw [← e1]
          show _ = lt ++ cit _ _ _
          rw [cit_f g3]
        · rw [← e2]
          show _ = lp ++ cit _ _ _
          rw [cit_f g3, cit_t g4]
  have := hLoop _ 0 (D 197 17) (up (up D 83 1 0) 85 1 0) [] [] rfl (by omega) z0 (by omega) (fun b hb => by rw [ub_a (by omega), ub_a (by omega)]) (LR.z r1 (by rw [ub_a (by decide), ub_s])) (LR.z r2 ub_s) (by decide) (by decide) rfl rfl
  rw [show fr + ((0 : Nat) : Int) = fr by omega] at this
  exact r86_0 (K := K) this
