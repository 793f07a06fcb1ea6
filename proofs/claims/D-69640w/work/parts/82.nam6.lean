/-! names: fields and bodies by their names -/
set_option maxRecDepth 100000
def lf (l : List Int) (i : Int) : Int := l.getD i.toNat 0
/-- the first place from k on; -1 if there is none -/
noncomputable def fsF (P : Int → Prop) (k n : Int) : Int := cit (scan (fun i => ¬ P i) k n < n) (scan (fun i => ¬ P i) k n) (-1)
theorem fs_n {P : Int → Prop} {k n : Int} (h : ¬ k < n) : fsF P k n = -1 := by
  unfold fsF
  rw [scan_n h]
  exact cit_f h
theorem fs_y {P : Int → Prop} {k n : Int} (h : k < n) (hp : P k) : fsF P k n = k := by
  unfold fsF
  rw [scan_p (p := fun i => ¬ P i) (fun x => x hp)]
  exact cit_t h
theorem fs_s {P : Int → Prop} {k n : Int} (h : k < n) (hp : ¬ P k) : fsF P k n = fsF P (k + 1) n := by
  unfold fsF
  rw [scan_t (p := fun i => ¬ P i) h hp]
theorem fs_b {P : Int → Prop} {k n : Int} (hk : 0 ≤ k) : fsF P k n = -1 ∨ (k ≤ fsF P k n ∧ fsF P k n < n ∧ P (fsF P k n) ∧ ∀ i, k ≤ i → i < fsF P k n → ¬ P i) := by
  have h := scan_ok (fun i => ¬ P i) n _ k rfl
  unfold fsF
  rcases Classical.em (scan (fun i => ¬ P i) k n < n) with g | g
  · rw [cit_t g]
    exact Or.inr ⟨h.1, g, Classical.not_not.mp (h.2.2.2 g), fun i h1 h2 => h.2.2.1 i h1 h2⟩
  · rw [cit_f g]; exact Or.inl rfl
theorem fs_no {P : Int → Prop} {k n : Int} (hk : 0 ≤ k) (h : fsF P k n < 0) : ∀ i, k ≤ i → i < n → ¬ P i := by
  have hs := scan_ok (fun i => ¬ P i) n _ k rfl
  unfold fsF at h
  rcases Classical.em (scan (fun i => ¬ P i) k n < n) with g | g
  · rw [cit_t g] at h; omega
  · intro i h1 h2
    exact hs.2.2.1 i h1 (by omega)
/-- two rows: numbers, and tokens of names -/
def L2p (K : TK) (n : Int) (f g : Int → Int) (l1 l2 : List Int) : Prop := n = l1.length ∧ l2.length = l1.length ∧ l1.length ≤ 48 ∧ ∀ i : Int, 0 ≤ i → i < l1.length → f i = lf l1 i ∧ g i = lf l2 i ∧ 0 ≤ lf l2 i ∧ lf l2 i < K.n
def nmP (K : TK) (l2 : List Int) (a b i : Int) : Prop := sameP K.tx a b (K.tf (lf l2 i)) (K.tt (lf l2 i))
noncomputable def bidx (K : TK) (l1 l2 : List Int) (c a b : Int) : Int := fsF (fun i => lf l1 i = c ∧ nmP K l2 a b i) 0 l1.length
noncomputable def neN (K : TK) (ab l1 l2 : List Int) (a b : Int) : Nat → Int → Int
  | 0, _ => -1
  | N + 1, c => cit (c < 0) (-1) (cit (bidx K l1 l2 c a b < 0) (neN K ab l1 l2 a b N (abF ab c)) (bidx K l1 l2 c a b))
/-- the nearest of a name, in a class or above it -/
noncomputable def nea (K : TK) (ab l1 l2 : List Int) (c a b : Int) : Int := neN K ab l1 l2 a b (c.toNat + 1) c
theorem neN_fu {K : TK} {ab l1 l2 : List Int} {a b : Int} (hw : ABw ab) : ∀ (N M : Nat) (c : Int), c < 8 + ab.length → c.toNat < N → c.toNat < M → neN K ab l1 l2 a b N c = neN K ab l1 l2 a b M c
  | 0, _, _, _, h, _ => by omega
  | _ + 1, 0, _, _, _, h => by omega
  | N + 1, M + 1, c, h, h1, h2 => by
    show cit _ _ _ = cit _ _ _
    rcases Classical.em (c < 0) with h0 | h0
    · rw [cit_t h0, cit_t h0]
    · rw [cit_f h0, cit_f h0]
      have hc := abF_w hw (c := c) (by omega) h
      by_cases hn : abF ab c < 0
      · have z : ∀ X : Nat, neN K ab l1 l2 a b X (abF ab c) = -1 := fun X => by
          cases X with
          | zero => rfl
          | succ X => exact cit_t hn
        rw [z, z]
      · rw [neN_fu hw N M (abF ab c) (by omega) (by omega) (by omega)]
theorem nea_n {K : TK} {ab l1 l2 : List Int} {c a b : Int} (h : c < 0) : nea K ab l1 l2 c a b = -1 := cit_t h
theorem nea_y {K : TK} {ab l1 l2 : List Int} {c a b : Int} (h : ¬ c < 0) (h1 : ¬ bidx K l1 l2 c a b < 0) : nea K ab l1 l2 c a b = bidx K l1 l2 c a b := (cit_f h).trans (cit_f h1)
theorem nea_s {K : TK} {ab l1 l2 : List Int} {c a b : Int} (hw : ABw ab) (h : ¬ c < 0) (hc : c < 8 + ab.length) (h1 : bidx K l1 l2 c a b < 0) : nea K ab l1 l2 c a b = nea K ab l1 l2 (abF ab c) a b := by
  refine ((cit_f h).trans (cit_t h1)).trans ?_
  have h2 := abF_w hw (c := c) (by omega) hc
  by_cases hn : abF ab c < 0
  · rw [nea_n hn]
    cases hk : c.toNat with
    | zero => rfl
    | succ k => exact cit_t hn
  · exact neN_fu hw _ _ _ (by omega) (by omega) (by omega)
theorem r81_0 {L c3 c4 c5 c6 : Nat} {D : Dt} {Q : Out → Wd → Prop} {c a b : Int} (H : wp 81 3 [vr 79, vi c, vi a, vi b, vi 0] [] (D, SS L 1 2 c3 c4 c5 c6) Q) : wp 81 0 [vr 79, vi c, vi a, vi b, vu] [] (D, SS L 1 2 c3 c4 c5 c6) Q := vc_wp [3] 200 _ _ _ _ _ _ (show wp 81 3 [vr 79, vi c, vi a, vi b, vi 0] [] (D, SS L 1 2 c3 c4 c5 c6) Q from H)
theorem r81_3 {L c3 c4 c5 c6 : Nat} {D : Dt} {Q : Out → Wd → Prop} {c a b k : Int} (H : ((k < D 197 7 → ((0 ≤ k ∧ k < 48) ∧ ((D 203 k = c → ((0 ≤ k ∧ k < 48) ∧ ((0 ≤ D 81 k ∧ D 81 k < D 55 (-1)) ∧ ((0 ≤ k ∧ k < 48) ∧ ((0 ≤ D 81 k ∧ D 81 k < D 57 (-1)) ∧ ((0 ≤ a ∧ a ≤ 16000 ∧ 0 ≤ b ∧ b ≤ 16000 ∧ 0 ≤ (D 55 (D 81 k)) ∧ (D 55 (D 81 k)) ≤ 16000 ∧ 0 ≤ (D 57 (D 81 k)) ∧ (D 57 (D 81 k)) ≤ 16000) ∧ ((((sameP (D 224) a b (D 55 (D 81 k)) (D 57 (D 81 k)) → (Q (.inl [vi k]) (D, SS L 1 2 c3 c4 c5 c6))) ∧ (¬ (sameP (D 224) a b (D 55 (D 81 k)) (D 57 (D 81 k))) → (((-2147483648) ≤ k + 1 ∧ k + 1 ≤ 2147483647) ∧ (wp 81 3 [vr 79, vi c, vi a, vi b, vi (k + 1)] [] (D, SS L 1 2 c3 c4 c5 c6) Q)))))))))))) ∧ (¬ (D 203 k = c) → (((-2147483648) ≤ k + 1 ∧ k + 1 ≤ 2147483647) ∧ (wp 81 3 [vr 79, vi c, vi a, vi b, vi (k + 1)] [] (D, SS L 1 2 c3 c4 c5 c6) Q)))))) ∧ (¬ (k < D 197 7) → (Q (.inl [vi (-1)]) (D, SS L 1 2 c3 c4 c5 c6))))) : wp 81 3 [vr 79, vi c, vi a, vi b, vi k] [] (D, SS L 1 2 c3 c4 c5 c6) Q := vc_wp [9] 200 _ _ _ _ _ _ (show wp 81 9 [vr 79, vi c, vi a, vi b, vi k] [vr 197, vi k] (D, SS L 1 2 c3 c4 c5 c6) Q from vc_wp [19] 200 _ _ _ _ _ _ (show ((k < D 197 7 → (wp 81 19 [vr 79, vi c, vi a, vi b, vi k] [vr 197] (D, SS L 1 2 c3 c4 c5 c6) Q)) ∧ (¬ (k < D 197 7) → (Q (.inl [vi (-1)]) (D, SS L 1 2 c3 c4 c5 c6)))) from ⟨fun h9 => vc_wp [22] 200 _ _ _ _ _ _ (show wp 81 22 [vr 79, vi c, vi a, vi b, vi k] [vr 203] (D, SS L 1 2 c3 c4 c5 c6) Q from vc_wp [33, 83] 200 _ _ _ _ _ _ (show (0 ≤ k ∧ k < 48) ∧ ((D 203 k = c → (wp 81 33 [vr 79, vi c, vi a, vi b, vi k] [vr 53] (D, SS L 1 2 c3 c4 c5 c6) Q)) ∧ (¬ (D 203 k = c) → (wp 81 83 [vr 79, vi c, vi a, vi b, vi (w32 (k + 1))] [] (D, SS L 1 2 c3 c4 c5 c6) Q))) from ⟨(H.1 h9).1, ⟨fun h7 => vc_wp [39] 200 _ _ _ _ _ _ (show wp 81 39 [vr 79, vi c, vi a, vi b, vi k] [vr 53, vi b, vi a, vr 53] (D, SS L 1 2 c3 c4 c5 c6) Q from vc_wp [42] 200 _ _ _ _ _ _ (show wp 81 42 [vr 79, vi c, vi a, vi b, vi k] [vr 54, vi b, vi a, vr 53] (D, SS L 1 2 c3 c4 c5 c6) Q from vc_wp [45] 200 _ _ _ _ _ _ (show wp 81 45 [vr 79, vi c, vi a, vi b, vi k] [vr 55, vi b, vi a, vr 53] (D, SS L 1 2 c3 c4 c5 c6) Q from vc_wp [49] 200 _ _ _ _ _ _ (show wp 81 49 [vr 79, vi c, vi a, vi b, vi k] [vr 81, vr 55, vi b, vi a, vr 53] (D, SS L 1 2 c3 c4 c5 c6) Q from vc_wp [57] 200 _ _ _ _ _ _ (show (0 ≤ k ∧ k < 48) ∧ ((0 ≤ D 81 k ∧ D 81 k < D 55 (-1)) ∧ (wp 81 57 [vr 79, vi c, vi a, vi b, vi k] [vr 53, vi (D 55 (D 81 k)), vi b, vi a, vr 53] (D, SS L 1 2 c3 c4 c5 c6) Q)) from ⟨((H.1 h9).2.1 h7).1, ⟨((H.1 h9).2.1 h7).2.1, vc_wp [60] 200 _ _ _ _ _ _ (show wp 81 60 [vr 79, vi c, vi a, vi b, vi k] [vr 56, vi (D 55 (D 81 k)), vi b, vi a, vr 53] (D, SS L 1 2 c3 c4 c5 c6) Q from vc_wp [63] 200 _ _ _ _ _ _ (show wp 81 63 [vr 79, vi c, vi a, vi b, vi k] [vr 57, vi (D 55 (D 81 k)), vi b, vi a, vr 53] (D, SS L 1 2 c3 c4 c5 c6) Q from vc_wp [67] 200 _ _ _ _ _ _ (show wp 81 67 [vr 79, vi c, vi a, vi b, vi k] [vr 81, vr 57, vi (D 55 (D 81 k)), vi b, vi a, vr 53] (D, SS L 1 2 c3 c4 c5 c6) Q from vc_wp [] 200 _ _ _ _ _ _ (show (0 ≤ k ∧ k < 48) ∧ ((0 ≤ D 81 k ∧ D 81 k < D 57 (-1)) ∧ (wp 52 0 [vr 53, vi a, vi b, vi (D 55 (D 81 k)), vi (D 57 (D 81 k)), vu] [] (D, SS L 1 2 c3 c4 c5 c6) (aft wp 81 71 [vr 79, vi c, vi a, vi b, vi k] [] Q))) from ⟨((H.1 h9).2.1 h7).2.2.1, ⟨((H.1 h9).2.1 h7).2.2.2.1, s52 ⟨((H.1 h9).2.1 h7).2.2.2.2.1, (show wp 81 74 [vr 79, vi c, vi a, vi b, vi k] [vi (ib (sameP (D 224) a b (D 55 (D 81 k)) (D 57 (D 81 k))))] (D, SS L 1 2 c3 c4 c5 c6) Q from vc_wp [83] 200 _ _ _ _ _ _ (show ((ib (sameP (D 224) a b (D 55 (D 81 k)) (D 57 (D 81 k))) = 0 → (wp 81 83 [vr 79, vi c, vi a, vi b, vi (w32 (k + 1))] [] (D, SS L 1 2 c3 c4 c5 c6) Q)) ∧ (¬ (ib (sameP (D 224) a b (D 55 (D 81 k)) (D 57 (D 81 k))) = 0) → (Q (.inl [vi k]) (D, SS L 1 2 c3 c4 c5 c6)))) from ⟨fun h4 => w32_i (fun z3 : Int => wp 81 83 [vr 79, vi c, vi a, vi b, vi z3] [] (D, SS L 1 2 c3 c4 c5 c6) Q) ((((H.1 h9).2.1 h7).2.2.2.2.2.2 ((ib_z).mp h4))).1 (vc_wp [3] 200 _ _ _ _ _ _ (show wp 81 3 [vr 79, vi c, vi a, vi b, vi (k + 1)] [] (D, SS L 1 2 c3 c4 c5 c6) Q from ((((H.1 h9).2.1 h7).2.2.2.2.2.2 ((ib_z).mp h4))).2)), fun h5 => (((H.1 h9).2.1 h7).2.2.2.2.2.1 (Classical.not_not.mp (mt (ib_z).mpr h5)))⟩))⟩⟩⟩))))⟩⟩))))), fun h8 => w32_i (fun z6 : Int => wp 81 83 [vr 79, vi c, vi a, vi b, vi z6] [] (D, SS L 1 2 c3 c4 c5 c6) Q) (((H.1 h9).2.2 h8)).1 (vc_wp [3] 200 _ _ _ _ _ _ (show wp 81 3 [vr 79, vi c, vi a, vi b, vi (k + 1)] [] (D, SS L 1 2 c3 c4 c5 c6) Q from (((H.1 h9).2.2 h8)).2))⟩⟩)), fun h10 => (H.2 h10)⟩))
theorem s81 {L c3 c4 c5 c6 : Nat} {D : Dt} {Q : Out → Wd → Prop} {K : TK} {c a b : Int} (H : ∃ x : List Int × List Int, (SKp K (D 54) (D 55) (D 56) (D 57) (D 224) ∧ L2p K (D 197 7) (D 203) (D 81) x.1 x.2 ∧ 0 ≤ a ∧ a ≤ 16000 ∧ 0 ≤ b ∧ b ≤ 16000) ∧ Q (.inl [vi (bidx K x.1 x.2 c a b)]) (D, SS L 1 2 c3 c4 c5 c6)) : wp 81 0 [vr 79, vi c, vi a, vi b, vu] [] (D, SS L 1 2 c3 c4 c5 c6) Q := by
  obtain ⟨⟨l1, l2⟩, ⟨hS, ⟨p1, p2, p3, p4⟩, hab⟩, H⟩ := H
  dsimp only at *
  have hl : ∀ (N : Nat) (k : Int), ((l1.length : Int) - k).toNat = N → 0 ≤ k → Q (.inl [vi (fsF (fun i => lf l1 i = c ∧ nmP K l2 a b i) k l1.length)]) (D, SS L 1 2 c3 c4 c5 c6) → wp 81 3 [vr 79, vi c, vi a, vi b, vi k] [] (D, SS L 1 2 c3 c4 c5 c6) Q := by
    intro N
    induction N with
    | zero => intro k e hk HH; exact r81_3 ⟨fun h => by omega, fun _ => q_i HH (fs_n (by omega))⟩
    | succ N ih =>
      intro k e hk HH
      have h1 := p4 k hk (by omega)
      have h2 := sk_tok hS h1.2.2.1 h1.2.2.2
      refine r81_3 ?_
      rw [h1.1, h1.2.1, h2.1, h2.2.1, hS.2.1]
      refine ⟨fun _ => ⟨by omega, fun g1 => ⟨by omega, by omega, by omega, by omega, by omega, fun g2 => q_i HH (fs_y (P := fun i => lf l1 i = c ∧ nmP K l2 a b i) (by omega) ⟨g1, g2⟩), fun g2 => ⟨by omega, ih (k + 1) (by omega) (by omega) (q_i HH (fs_s (P := fun i => lf l1 i = c ∧ nmP K l2 a b i) (by omega) fun x => g2 x.2))⟩⟩, fun g1 => ⟨by omega, ih (k + 1) (by omega) (by omega) (q_i HH (fs_s (P := fun i => lf l1 i = c ∧ nmP K l2 a b i) (by omega) fun x => g1 x.1))⟩⟩, fun h => by omega⟩
  exact r81_0 (hl _ 0 rfl (by omega) H)
theorem r80_0 {L c3 c4 c5 c6 : Nat} {K : TK} {D : Dt} {Q : Out → Wd → Prop} {oc a b : Int} (H : wp 80 3 [vr 79, vu, vi a, vi b, vi oc, vu] [] (D, SS L 1 2 c3 c4 c5 c6) Q) : wp 80 0 [vr 79, vi oc, vi a, vi b, vu, vu] [] (D, SS L 1 2 c3 c4 c5 c6) Q := vc_wp [3] 200 _ _ _ _ _ _ (show wp 80 3 [vr 79, vi oc, vi a, vi b, vi oc, vu] [] (D, SS L 1 2 c3 c4 c5 c6) Q from wp_d (Lle.k rfl (Lle.v rfl (Lle.k rfl (Lle.k rfl (Lle.k rfl (Lle.k rfl (Lle.nil))))))) (H))
theorem r80_3 {L c3 c4 c5 c6 : Nat} {K : TK} {D : Dt} {Q : Out → Wd → Prop} {a b c : Int} (H : ((c < 0 → (Q (.inl [vi (-1)]) (D, SS L 1 2 c3 c4 c5 c6))) ∧ (¬ (c < 0) → (∃ (xl1 : List Int × List Int), (SKp K (D 54) (D 55) (D 56) (D 57) (D 224) ∧ L2p K (D 197 7) (D 203) (D 81) xl1.1 xl1.2 ∧ 0 ≤ a ∧ a ≤ 16000 ∧ 0 ≤ b ∧ b ≤ 16000) ∧ ((((bidx K xl1.1 xl1.2 c a b < 0 → ((0 ≤ c ∧ c < 32) ∧ (wp 80 3 [vr 79, vu, vi a, vi b, vi (D 198 c), vu] [] (D, SS L 1 2 c3 c4 c5 c6) Q))) ∧ (¬ (bidx K xl1.1 xl1.2 c a b < 0) → (Q (.inl [vi (bidx K xl1.1 xl1.2 c a b)]) (D, SS L 1 2 c3 c4 c5 c6)))))))))) : wp 80 3 [vr 79, vu, vi a, vi b, vi c, vu] [] (D, SS L 1 2 c3 c4 c5 c6) Q := vc_wp [] 200 _ _ _ _ _ _ (show ((c < 0 → (Q (.inl [vi (-1)]) (D, SS L 1 2 c3 c4 c5 c6))) ∧ (¬ (c < 0) → (wp 81 0 [vr 79, vi c, vi a, vi b, vu] [] (D, SS L 1 2 c3 c4 c5 c6) (aft wp 80 13 [vr 79, vu, vi a, vi b, vi c, vu] [] Q)))) from ⟨fun h6 => (H.1 h6), fun h7 => Exists.elim ((H.2 h7)) fun xl1 x2 => s81 ⟨xl1, x2.1, (show wp 80 16 [vr 79, vu, vi a, vi b, vi c, vu] [vi (bidx K xl1.1 xl1.2 c a b)] (D, SS L 1 2 c3 c4 c5 c6) Q from vc_wp [30] 200 _ _ _ _ _ _ (show ((bidx K xl1.1 xl1.2 c a b < 0 → (wp 80 30 [vr 79, vu, vi a, vi b, vi c, vi (bidx K xl1.1 xl1.2 c a b)] [vr 197] (D, SS L 1 2 c3 c4 c5 c6) Q)) ∧ (¬ (bidx K xl1.1 xl1.2 c a b < 0) → (Q (.inl [vi (bidx K xl1.1 xl1.2 c a b)]) (D, SS L 1 2 c3 c4 c5 c6)))) from ⟨fun h4 => vc_wp [33] 200 _ _ _ _ _ _ (show wp 80 33 [vr 79, vu, vi a, vi b, vi c, vi (bidx K xl1.1 xl1.2 c a b)] [vr 198] (D, SS L 1 2 c3 c4 c5 c6) Q from vc_wp [3] 200 _ _ _ _ _ _ (show (0 ≤ c ∧ c < 32) ∧ (wp 80 3 [vr 79, vu, vi a, vi b, vi (D 198 c), vi (bidx K xl1.1 xl1.2 c a b)] [] (D, SS L 1 2 c3 c4 c5 c6) Q) from ⟨(x2.2.1 h4).1, wp_d (Lle.k rfl (Lle.k rfl (Lle.k rfl (Lle.k rfl (Lle.k rfl (Lle.v rfl (Lle.nil))))))) ((x2.2.1 h4).2)⟩)), fun h5 => (x2.2.2 h5)⟩))⟩⟩)
theorem s80 {L c3 c4 c5 c6 : Nat} {D : Dt} {Q : Out → Wd → Prop} {K : TK} {c a b : Int} (H : ∃ x : List Int × List Int × List Int, (SKp K (D 54) (D 55) (D 56) (D 57) (D 224) ∧ L2p K (D 197 7) (D 203) (D 81) x.2.1 x.2.2 ∧ (ABp (D 198) x.1 ∧ ABw x.1 ∧ x.1.length ≤ 24) ∧ c < 8 + x.1.length ∧ 0 ≤ a ∧ a ≤ 16000 ∧ 0 ≤ b ∧ b ≤ 16000) ∧ Q (.inl [vi (nea K x.1 x.2.1 x.2.2 c a b)]) (D, SS L 1 2 c3 c4 c5 c6)) : wp 80 0 [vr 79, vi c, vi a, vi b, vu, vu] [] (D, SS L 1 2 c3 c4 c5 c6) Q := by
  obtain ⟨⟨ab, l1, l2⟩, ⟨hS, hp, ⟨hA, hw, hl⟩, hc, hab⟩, H⟩ := H
  dsimp only at *
  have hL : ∀ (N : Nat) (c : Int), c.toNat < N → c < 8 + ab.length → Q (.inl [vi (nea K ab l1 l2 c a b)]) (D, SS L 1 2 c3 c4 c5 c6) → wp 80 3 [vr 79, vu, vi a, vi b, vi c, vu] [] (D, SS L 1 2 c3 c4 c5 c6) Q := by
    intro N
    induction N with
    | zero => intro c h; omega
    | succ N ih =>
      intro c hN hc HH
      refine r80_3 (K := K) ⟨fun h => q_i HH (nea_n h), fun h => ⟨(l1, l2), ⟨hS, hp, hab⟩, fun g => ⟨by omega, ?_⟩, fun g => q_i HH (nea_y h g)⟩⟩
      rw [abF_e hA (by omega) hc]
      have h2 := abF_w hw (c := c) (by omega) hc
      have HH' := q_i HH (nea_s hw h hc g)
      by_cases hz : abF ab c < 0
      · exact r80_3 (K := K) ⟨fun _ => q_i HH' (nea_n hz), fun h' => absurd hz h'⟩
      · exact ih _ (by omega) (by omega) HH'
  exact r80_0 (K := K) (hL _ c (Nat.lt_succ_self _) hc H)
theorem r75_0 {L c3 c4 c5 c6 : Nat} {D : Dt} {Q : Out → Wd → Prop} {oc a b : Int} (H : wp 75 3 [vr 79, vu, vi a, vi b, vi oc, vu] [] (D, SS L 1 2 c3 c4 c5 c6) Q) : wp 75 0 [vr 79, vi oc, vi a, vi b, vu, vu] [] (D, SS L 1 2 c3 c4 c5 c6) Q := vc_wp [3] 200 _ _ _ _ _ _ (show wp 75 3 [vr 79, vi oc, vi a, vi b, vi oc, vu] [] (D, SS L 1 2 c3 c4 c5 c6) Q from wp_d (Lle.k rfl (Lle.v rfl (Lle.k rfl (Lle.k rfl (Lle.k rfl (Lle.k rfl (Lle.nil))))))) (H))
theorem r75_3 {L c3 c4 c5 c6 : Nat} {D : Dt} {Q : Out → Wd → Prop} {a b c : Int} (H : ((c < 0 → (Q (.inl [vi (-1)]) (D, SS L 1 2 c3 c4 c5 c6))) ∧ (¬ (c < 0) → (wp 75 11 [vr 79, vu, vi a, vi b, vi c, vi 0] [] (D, SS L 1 2 c3 c4 c5 c6) Q)))) : wp 75 3 [vr 79, vu, vi a, vi b, vi c, vu] [] (D, SS L 1 2 c3 c4 c5 c6) Q := vc_wp [11] 200 _ _ _ _ _ _ (show ((c < 0 → (Q (.inl [vi (-1)]) (D, SS L 1 2 c3 c4 c5 c6))) ∧ (¬ (c < 0) → (wp 75 11 [vr 79, vu, vi a, vi b, vi c, vi 0] [] (D, SS L 1 2 c3 c4 c5 c6) Q))) from ⟨fun h1 => (H.1 h1), fun h2 => (H.2 h2)⟩)
theorem r75_11 {L c3 c4 c5 c6 : Nat} {D : Dt} {Q : Out → Wd → Prop} {a b c k : Int} (H : ((k < D 197 2 → ((0 ≤ k ∧ k < 48) ∧ ((D 199 k = c → ((0 ≤ k ∧ k < 48) ∧ ((0 ≤ D 80 k ∧ D 80 k < D 55 (-1)) ∧ ((0 ≤ k ∧ k < 48) ∧ ((0 ≤ D 80 k ∧ D 80 k < D 57 (-1)) ∧ ((0 ≤ a ∧ a ≤ 16000 ∧ 0 ≤ b ∧ b ≤ 16000 ∧ 0 ≤ (D 55 (D 80 k)) ∧ (D 55 (D 80 k)) ≤ 16000 ∧ 0 ≤ (D 57 (D 80 k)) ∧ (D 57 (D 80 k)) ≤ 16000) ∧ ((((sameP (D 224) a b (D 55 (D 80 k)) (D 57 (D 80 k)) → (Q (.inl [vi k]) (D, SS L 1 2 c3 c4 c5 c6))) ∧ (¬ (sameP (D 224) a b (D 55 (D 80 k)) (D 57 (D 80 k))) → (((-2147483648) ≤ k + 1 ∧ k + 1 ≤ 2147483647) ∧ (wp 75 11 [vr 79, vu, vi a, vi b, vi c, vi (k + 1)] [] (D, SS L 1 2 c3 c4 c5 c6) Q)))))))))))) ∧ (¬ (D 199 k = c) → (((-2147483648) ≤ k + 1 ∧ k + 1 ≤ 2147483647) ∧ (wp 75 11 [vr 79, vu, vi a, vi b, vi c, vi (k + 1)] [] (D, SS L 1 2 c3 c4 c5 c6) Q)))))) ∧ (¬ (k < D 197 2) → ((0 ≤ c ∧ c < 32) ∧ (wp 75 3 [vr 79, vu, vi a, vi b, vi (D 198 c), vu] [] (D, SS L 1 2 c3 c4 c5 c6) Q))))) : wp 75 11 [vr 79, vu, vi a, vi b, vi c, vi k] [] (D, SS L 1 2 c3 c4 c5 c6) Q := vc_wp [17] 200 _ _ _ _ _ _ (show wp 75 17 [vr 79, vu, vi a, vi b, vi c, vi k] [vr 197, vi k] (D, SS L 1 2 c3 c4 c5 c6) Q from vc_wp [27, 99] 200 _ _ _ _ _ _ (show ((k < D 197 2 → (wp 75 27 [vr 79, vu, vi a, vi b, vi c, vi k] [vr 197] (D, SS L 1 2 c3 c4 c5 c6) Q)) ∧ (¬ (k < D 197 2) → (wp 75 99 [vr 79, vu, vi a, vi b, vi c, vi k] [vr 197] (D, SS L 1 2 c3 c4 c5 c6) Q))) from ⟨fun h9 => vc_wp [30] 200 _ _ _ _ _ _ (show wp 75 30 [vr 79, vu, vi a, vi b, vi c, vi k] [vr 199] (D, SS L 1 2 c3 c4 c5 c6) Q from vc_wp [42, 92] 200 _ _ _ _ _ _ (show (0 ≤ k ∧ k < 48) ∧ ((D 199 k = c → (wp 75 42 [vr 79, vu, vi a, vi b, vi c, vi k] [vr 53] (D, SS L 1 2 c3 c4 c5 c6) Q)) ∧ (¬ (D 199 k = c) → (wp 75 92 [vr 79, vu, vi a, vi b, vi c, vi (w32 (k + 1))] [] (D, SS L 1 2 c3 c4 c5 c6) Q))) from ⟨(H.1 h9).1, ⟨fun h7 => vc_wp [48] 200 _ _ _ _ _ _ (show wp 75 48 [vr 79, vu, vi a, vi b, vi c, vi k] [vr 53, vi b, vi a, vr 53] (D, SS L 1 2 c3 c4 c5 c6) Q from vc_wp [51] 200 _ _ _ _ _ _ (show wp 75 51 [vr 79, vu, vi a, vi b, vi c, vi k] [vr 54, vi b, vi a, vr 53] (D, SS L 1 2 c3 c4 c5 c6) Q from vc_wp [54] 200 _ _ _ _ _ _ (show wp 75 54 [vr 79, vu, vi a, vi b, vi c, vi k] [vr 55, vi b, vi a, vr 53] (D, SS L 1 2 c3 c4 c5 c6) Q from vc_wp [58] 200 _ _ _ _ _ _ (show wp 75 58 [vr 79, vu, vi a, vi b, vi c, vi k] [vr 80, vr 55, vi b, vi a, vr 53] (D, SS L 1 2 c3 c4 c5 c6) Q from vc_wp [66] 200 _ _ _ _ _ _ (show (0 ≤ k ∧ k < 48) ∧ ((0 ≤ D 80 k ∧ D 80 k < D 55 (-1)) ∧ (wp 75 66 [vr 79, vu, vi a, vi b, vi c, vi k] [vr 53, vi (D 55 (D 80 k)), vi b, vi a, vr 53] (D, SS L 1 2 c3 c4 c5 c6) Q)) from ⟨((H.1 h9).2.1 h7).1, ⟨((H.1 h9).2.1 h7).2.1, vc_wp [69] 200 _ _ _ _ _ _ (show wp 75 69 [vr 79, vu, vi a, vi b, vi c, vi k] [vr 56, vi (D 55 (D 80 k)), vi b, vi a, vr 53] (D, SS L 1 2 c3 c4 c5 c6) Q from vc_wp [72] 200 _ _ _ _ _ _ (show wp 75 72 [vr 79, vu, vi a, vi b, vi c, vi k] [vr 57, vi (D 55 (D 80 k)), vi b, vi a, vr 53] (D, SS L 1 2 c3 c4 c5 c6) Q from vc_wp [76] 200 _ _ _ _ _ _ (show wp 75 76 [vr 79, vu, vi a, vi b, vi c, vi k] [vr 80, vr 57, vi (D 55 (D 80 k)), vi b, vi a, vr 53] (D, SS L 1 2 c3 c4 c5 c6) Q from vc_wp [] 200 _ _ _ _ _ _ (show (0 ≤ k ∧ k < 48) ∧ ((0 ≤ D 80 k ∧ D 80 k < D 57 (-1)) ∧ (wp 52 0 [vr 53, vi a, vi b, vi (D 55 (D 80 k)), vi (D 57 (D 80 k)), vu] [] (D, SS L 1 2 c3 c4 c5 c6) (aft wp 75 80 [vr 79, vu, vi a, vi b, vi c, vi k] [] Q))) from ⟨((H.1 h9).2.1 h7).2.2.1, ⟨((H.1 h9).2.1 h7).2.2.2.1, s52 ⟨((H.1 h9).2.1 h7).2.2.2.2.1, (show wp 75 83 [vr 79, vu, vi a, vi b, vi c, vi k] [vi (ib (sameP (D 224) a b (D 55 (D 80 k)) (D 57 (D 80 k))))] (D, SS L 1 2 c3 c4 c5 c6) Q from vc_wp [92] 200 _ _ _ _ _ _ (show ((ib (sameP (D 224) a b (D 55 (D 80 k)) (D 57 (D 80 k))) = 0 → (wp 75 92 [vr 79, vu, vi a, vi b, vi c, vi (w32 (k + 1))] [] (D, SS L 1 2 c3 c4 c5 c6) Q)) ∧ (¬ (ib (sameP (D 224) a b (D 55 (D 80 k)) (D 57 (D 80 k))) = 0) → (Q (.inl [vi k]) (D, SS L 1 2 c3 c4 c5 c6)))) from ⟨fun h4 => w32_i (fun z3 : Int => wp 75 92 [vr 79, vu, vi a, vi b, vi c, vi z3] [] (D, SS L 1 2 c3 c4 c5 c6) Q) ((((H.1 h9).2.1 h7).2.2.2.2.2.2 ((ib_z).mp h4))).1 (vc_wp [11] 200 _ _ _ _ _ _ (show wp 75 11 [vr 79, vu, vi a, vi b, vi c, vi (k + 1)] [] (D, SS L 1 2 c3 c4 c5 c6) Q from ((((H.1 h9).2.1 h7).2.2.2.2.2.2 ((ib_z).mp h4))).2)), fun h5 => (((H.1 h9).2.1 h7).2.2.2.2.2.1 (Classical.not_not.mp (mt (ib_z).mpr h5)))⟩))⟩⟩⟩))))⟩⟩))))), fun h8 => w32_i (fun z6 : Int => wp 75 92 [vr 79, vu, vi a, vi b, vi c, vi z6] [] (D, SS L 1 2 c3 c4 c5 c6) Q) (((H.1 h9).2.2 h8)).1 (vc_wp [11] 200 _ _ _ _ _ _ (show wp 75 11 [vr 79, vu, vi a, vi b, vi c, vi (k + 1)] [] (D, SS L 1 2 c3 c4 c5 c6) Q from (((H.1 h9).2.2 h8)).2))⟩⟩)), fun h10 => vc_wp [102] 200 _ _ _ _ _ _ (show wp 75 102 [vr 79, vu, vi a, vi b, vi c, vi k] [vr 198] (D, SS L 1 2 c3 c4 c5 c6) Q from vc_wp [3] 200 _ _ _ _ _ _ (show (0 ≤ c ∧ c < 32) ∧ (wp 75 3 [vr 79, vu, vi a, vi b, vi (D 198 c), vi k] [] (D, SS L 1 2 c3 c4 c5 c6) Q) from ⟨(H.2 h10).1, wp_d (Lle.k rfl (Lle.k rfl (Lle.k rfl (Lle.k rfl (Lle.k rfl (Lle.v rfl (Lle.nil))))))) ((H.2 h10).2)⟩))⟩))
theorem s75 {L c3 c4 c5 c6 : Nat} {D : Dt} {Q : Out → Wd → Prop} {K : TK} {c a b : Int} (H : ∃ x : List Int × List Int × List Int, (SKp K (D 54) (D 55) (D 56) (D 57) (D 224) ∧ L2p K (D 197 2) (D 199) (D 80) x.2.1 x.2.2 ∧ (ABp (D 198) x.1 ∧ ABw x.1 ∧ x.1.length ≤ 24) ∧ c < 8 + x.1.length ∧ 0 ≤ a ∧ a ≤ 16000 ∧ 0 ≤ b ∧ b ≤ 16000) ∧ Q (.inl [vi (nea K x.1 x.2.1 x.2.2 c a b)]) (D, SS L 1 2 c3 c4 c5 c6)) : wp 75 0 [vr 79, vi c, vi a, vi b, vu, vu] [] (D, SS L 1 2 c3 c4 c5 c6) Q := by
  obtain ⟨⟨ab, l1, l2⟩, ⟨hS, ⟨p1, p2, p3, p4⟩, ⟨hA, hw, hl⟩, hc, hab⟩, H⟩ := H
  dsimp only at *
  have hL : ∀ (N : Nat) (c : Int), c.toNat < N → c < 8 + ab.length → Q (.inl [vi (nea K ab l1 l2 c a b)]) (D, SS L 1 2 c3 c4 c5 c6) → wp 75 3 [vr 79, vu, vi a, vi b, vi c, vu] [] (D, SS L 1 2 c3 c4 c5 c6) Q := by
    intro N
    induction N with
    | zero => intro c h; omega
    | succ N ih =>
      intro c hN hc HH
      refine r75_3 ⟨fun h => q_i HH (nea_n h), fun h => ?_⟩
      have hl2 : ∀ (M : Nat) (k : Int), ((l1.length : Int) - k).toNat = M → 0 ≤ k → bidx K l1 l2 c a b = fsF (fun i => lf l1 i = c ∧ nmP K l2 a b i) k l1.length → wp 75 11 [vr 79, vu, vi a, vi b, vi c, vi k] [] (D, SS L 1 2 c3 c4 c5 c6) Q := by
        intro M
        induction M with
        | zero =>
          intro k e hk he
          rw [fs_n (by omega)] at he
          refine r75_11 ⟨fun h => by omega, fun _ => ⟨by omega, ?_⟩⟩
          rw [abF_e hA (by omega) hc]
          have h2 := abF_w hw (c := c) (by omega) hc
          have HH' := q_i HH (nea_s hw h hc (by rw [he]; decide))
          by_cases hz : abF ab c < 0
          · exact r75_3 ⟨fun _ => q_i HH' (nea_n hz), fun h' => absurd hz h'⟩
          · exact ih _ (by omega) (by omega) HH'
        | succ M ihM =>
          intro k e hk he
          have h1 := p4 k hk (by omega)
          have h2 := sk_tok hS h1.2.2.1 h1.2.2.2
          refine r75_11 ?_
          rw [h1.1, h1.2.1, h2.1, h2.2.1, hS.2.1]
          refine ⟨fun _ => ⟨by omega, fun g1 => ⟨by omega, by omega, by omega, by omega, by omega, fun g2 => ?_, fun g2 => ⟨by omega, ihM (k + 1) (by omega) (by omega) (he.trans (fs_s (P := fun i => lf l1 i = c ∧ nmP K l2 a b i) (by omega) fun x => g2 x.2))⟩⟩, fun g1 => ⟨by omega, ihM (k + 1) (by omega) (by omega) (he.trans (fs_s (P := fun i => lf l1 i = c ∧ nmP K l2 a b i) (by omega) fun x => g1 x.1))⟩⟩, fun h => by omega⟩
          have he2 := he.trans (fs_y (P := fun i => lf l1 i = c ∧ nmP K l2 a b i) (by omega) ⟨g1, g2⟩)
          exact q_i HH ((nea_y h (by rw [he2]; omega)).trans he2)
      exact hl2 _ 0 rfl (by omega) rfl
  exact r75_0 (hL _ c (Nat.lt_succ_self _) hc H)
theorem r264_0 {L c2 c3 c4 c5 c6 : Nat} {D : Dt} {Q : Out → Wd → Prop} {oc a b : Int} (H : wp 264 3 [vr 226, vr 273, vu, vi a, vi b, vi oc, vu] [] (D, SS L 1 c2 c3 c4 c5 c6) Q) : wp 264 0 [vr 226, vr 273, vi oc, vi a, vi b, vu, vu] [] (D, SS L 1 c2 c3 c4 c5 c6) Q := vc_wp [3] 200 _ _ _ _ _ _ (show wp 264 3 [vr 226, vr 273, vi oc, vi a, vi b, vi oc, vu] [] (D, SS L 1 c2 c3 c4 c5 c6) Q from wp_d (Lle.k rfl (Lle.k rfl (Lle.v rfl (Lle.k rfl (Lle.k rfl (Lle.k rfl (Lle.k rfl (Lle.nil)))))))) (H))
theorem r264_3 {L c2 c3 c4 c5 c6 : Nat} {D : Dt} {Q : Out → Wd → Prop} {a b c : Int} (H : ((c < 0 → (Q (.inl [vi (-1)]) (D, SS L 1 c2 c3 c4 c5 c6))) ∧ (¬ (c < 0) → (wp 264 11 [vr 226, vr 273, vu, vi a, vi b, vi c, vi 0] [] (D, SS L 1 c2 c3 c4 c5 c6) Q)))) : wp 264 3 [vr 226, vr 273, vu, vi a, vi b, vi c, vu] [] (D, SS L 1 c2 c3 c4 c5 c6) Q := vc_wp [11] 200 _ _ _ _ _ _ (show ((c < 0 → (Q (.inl [vi (-1)]) (D, SS L 1 c2 c3 c4 c5 c6))) ∧ (¬ (c < 0) → (wp 264 11 [vr 226, vr 273, vu, vi a, vi b, vi c, vi 0] [] (D, SS L 1 c2 c3 c4 c5 c6) Q))) from ⟨fun h1 => (H.1 h1), fun h2 => (H.2 h2)⟩)
theorem r264_11 {L c2 c3 c4 c5 c6 : Nat} {D : Dt} {Q : Out → Wd → Prop} {a b c k : Int} (H : ((k < D 273 2 → ((0 ≤ k ∧ k < 48) ∧ ((D 279 k = c → ((0 ≤ k ∧ k < 48) ∧ ((0 ≤ D 325 k ∧ D 325 k < 16002) ∧ ((0 ≤ k ∧ k < 48) ∧ ((0 ≤ D 325 k ∧ D 325 k < 16002) ∧ ((0 ≤ a ∧ a ≤ 16000 ∧ 0 ≤ b ∧ b ≤ 16000 ∧ 0 ≤ (D 321 (D 325 k)) ∧ (D 321 (D 325 k)) ≤ 16000 ∧ 0 ≤ (D 322 (D 325 k)) ∧ (D 322 (D 325 k)) ≤ 16000) ∧ ((((sameP (D 320) a b (D 321 (D 325 k)) (D 322 (D 325 k)) → (Q (.inl [vi k]) (D, SS L 1 c2 c3 c4 c5 c6))) ∧ (¬ (sameP (D 320) a b (D 321 (D 325 k)) (D 322 (D 325 k))) → (((-2147483648) ≤ k + 1 ∧ k + 1 ≤ 2147483647) ∧ (wp 264 11 [vr 226, vr 273, vu, vi a, vi b, vi c, vi (k + 1)] [] (D, SS L 1 c2 c3 c4 c5 c6) Q)))))))))))) ∧ (¬ (D 279 k = c) → (((-2147483648) ≤ k + 1 ∧ k + 1 ≤ 2147483647) ∧ (wp 264 11 [vr 226, vr 273, vu, vi a, vi b, vi c, vi (k + 1)] [] (D, SS L 1 c2 c3 c4 c5 c6) Q)))))) ∧ (¬ (k < D 273 2) → ((0 ≤ c ∧ c < 32) ∧ (wp 264 3 [vr 226, vr 273, vu, vi a, vi b, vi (D 274 c), vu] [] (D, SS L 1 c2 c3 c4 c5 c6) Q))))) : wp 264 11 [vr 226, vr 273, vu, vi a, vi b, vi c, vi k] [] (D, SS L 1 c2 c3 c4 c5 c6) Q := vc_wp [24, 79] 200 _ _ _ _ _ _ (show ((k < D 273 2 → (wp 264 24 [vr 226, vr 273, vu, vi a, vi b, vi c, vi k] [vr 279] (D, SS L 1 c2 c3 c4 c5 c6) Q)) ∧ (¬ (k < D 273 2) → (wp 264 79 [vr 226, vr 273, vu, vi a, vi b, vi c, vi k] [vr 274] (D, SS L 1 c2 c3 c4 c5 c6) Q))) from ⟨fun h9 => vc_wp [40, 72] 200 _ _ _ _ _ _ (show (0 ≤ k ∧ k < 48) ∧ ((D 279 k = c → (wp 264 40 [vr 226, vr 273, vu, vi a, vi b, vi c, vi k] [vr 321, vi b, vi a, vr 226] (D, SS L 1 c2 c3 c4 c5 c6) Q)) ∧ (¬ (D 279 k = c) → (wp 264 72 [vr 226, vr 273, vu, vi a, vi b, vi c, vi (w32 (k + 1))] [] (D, SS L 1 c2 c3 c4 c5 c6) Q))) from ⟨(H.1 h9).1, ⟨fun h7 => vc_wp [44] 200 _ _ _ _ _ _ (show wp 264 44 [vr 226, vr 273, vu, vi a, vi b, vi c, vi k] [vr 325, vr 321, vi b, vi a, vr 226] (D, SS L 1 c2 c3 c4 c5 c6) Q from vc_wp [52] 200 _ _ _ _ _ _ (show (0 ≤ k ∧ k < 48) ∧ ((0 ≤ D 325 k ∧ D 325 k < 16002) ∧ (wp 264 52 [vr 226, vr 273, vu, vi a, vi b, vi c, vi k] [vr 322, vi (D 321 (D 325 k)), vi b, vi a, vr 226] (D, SS L 1 c2 c3 c4 c5 c6) Q)) from ⟨((H.1 h9).2.1 h7).1, ⟨((H.1 h9).2.1 h7).2.1, vc_wp [56] 200 _ _ _ _ _ _ (show wp 264 56 [vr 226, vr 273, vu, vi a, vi b, vi c, vi k] [vr 325, vr 322, vi (D 321 (D 325 k)), vi b, vi a, vr 226] (D, SS L 1 c2 c3 c4 c5 c6) Q from vc_wp [] 200 _ _ _ _ _ _ (show (0 ≤ k ∧ k < 48) ∧ ((0 ≤ D 325 k ∧ D 325 k < 16002) ∧ (wp 255 0 [vr 226, vi a, vi b, vi (D 321 (D 325 k)), vi (D 322 (D 325 k)), vu] [] (D, SS L 1 c2 c3 c4 c5 c6) (aft wp 264 60 [vr 226, vr 273, vu, vi a, vi b, vi c, vi k] [] Q))) from ⟨((H.1 h9).2.1 h7).2.2.1, ⟨((H.1 h9).2.1 h7).2.2.2.1, s255 ⟨((H.1 h9).2.1 h7).2.2.2.2.1, (show wp 264 63 [vr 226, vr 273, vu, vi a, vi b, vi c, vi k] [vi (ib (sameP (D 320) a b (D 321 (D 325 k)) (D 322 (D 325 k))))] (D, SS L 1 c2 c3 c4 c5 c6) Q from vc_wp [72] 200 _ _ _ _ _ _ (show ((ib (sameP (D 320) a b (D 321 (D 325 k)) (D 322 (D 325 k))) = 0 → (wp 264 72 [vr 226, vr 273, vu, vi a, vi b, vi c, vi (w32 (k + 1))] [] (D, SS L 1 c2 c3 c4 c5 c6) Q)) ∧ (¬ (ib (sameP (D 320) a b (D 321 (D 325 k)) (D 322 (D 325 k))) = 0) → (Q (.inl [vi k]) (D, SS L 1 c2 c3 c4 c5 c6)))) from ⟨fun h4 => w32_i (fun z3 : Int => wp 264 72 [vr 226, vr 273, vu, vi a, vi b, vi c, vi z3] [] (D, SS L 1 c2 c3 c4 c5 c6) Q) ((((H.1 h9).2.1 h7).2.2.2.2.2.2 ((ib_z).mp h4))).1 (vc_wp [11] 200 _ _ _ _ _ _ (show wp 264 11 [vr 226, vr 273, vu, vi a, vi b, vi c, vi (k + 1)] [] (D, SS L 1 c2 c3 c4 c5 c6) Q from ((((H.1 h9).2.1 h7).2.2.2.2.2.2 ((ib_z).mp h4))).2)), fun h5 => (((H.1 h9).2.1 h7).2.2.2.2.2.1 (Classical.not_not.mp (mt (ib_z).mpr h5)))⟩))⟩⟩⟩))⟩⟩)), fun h8 => w32_i (fun z6 : Int => wp 264 72 [vr 226, vr 273, vu, vi a, vi b, vi c, vi z6] [] (D, SS L 1 c2 c3 c4 c5 c6) Q) (((H.1 h9).2.2 h8)).1 (vc_wp [11] 200 _ _ _ _ _ _ (show wp 264 11 [vr 226, vr 273, vu, vi a, vi b, vi c, vi (k + 1)] [] (D, SS L 1 c2 c3 c4 c5 c6) Q from (((H.1 h9).2.2 h8)).2))⟩⟩), fun h10 => vc_wp [3] 200 _ _ _ _ _ _ (show (0 ≤ c ∧ c < 32) ∧ (wp 264 3 [vr 226, vr 273, vu, vi a, vi b, vi (D 274 c), vi k] [] (D, SS L 1 c2 c3 c4 c5 c6) Q) from ⟨(H.2 h10).1, wp_d (Lle.k rfl (Lle.k rfl (Lle.k rfl (Lle.k rfl (Lle.k rfl (Lle.k rfl (Lle.v rfl (Lle.nil)))))))) ((H.2 h10).2)⟩)⟩)
theorem s264 {L c2 c3 c4 c5 c6 : Nat} {D : Dt} {Q : Out → Wd → Prop} {K : TK} {c a b : Int} (H : ∃ x : List Int × List Int × List Int, (MKp K (D 226 10) (D 321) (D 322) (D 320) ∧ L2p K (D 273 2) (D 279) (D 325) x.2.1 x.2.2 ∧ (ABp (D 274) x.1 ∧ ABw x.1 ∧ x.1.length ≤ 24) ∧ c < 8 + x.1.length ∧ 0 ≤ a ∧ a ≤ 16000 ∧ 0 ≤ b ∧ b ≤ 16000) ∧ Q (.inl [vi (nea K x.1 x.2.1 x.2.2 c a b)]) (D, SS L 1 c2 c3 c4 c5 c6)) : wp 264 0 [vr 226, vr 273, vi c, vi a, vi b, vu, vu] [] (D, SS L 1 c2 c3 c4 c5 c6) Q := by
  obtain ⟨⟨ab, l1, l2⟩, ⟨hS, ⟨p1, p2, p3, p4⟩, ⟨hA, hw, hl⟩, hc, hab⟩, H⟩ := H
  dsimp only at *
  have hL : ∀ (N : Nat) (c : Int), c.toNat < N → c < 8 + ab.length → Q (.inl [vi (nea K ab l1 l2 c a b)]) (D, SS L 1 c2 c3 c4 c5 c6) → wp 264 3 [vr 226, vr 273, vu, vi a, vi b, vi c, vu] [] (D, SS L 1 c2 c3 c4 c5 c6) Q := by
    intro N
    induction N with
    | zero => intro c h; omega
    | succ N ih =>
      intro c hN hc HH
      refine r264_3 ⟨fun h => q_i HH (nea_n h), fun h => ?_⟩
      have hl2 : ∀ (M : Nat) (k : Int), ((l1.length : Int) - k).toNat = M → 0 ≤ k → bidx K l1 l2 c a b = fsF (fun i => lf l1 i = c ∧ nmP K l2 a b i) k l1.length → wp 264 11 [vr 226, vr 273, vu, vi a, vi b, vi c, vi k] [] (D, SS L 1 c2 c3 c4 c5 c6) Q := by
        intro M
        induction M with
        | zero =>
          intro k e hk he
          rw [fs_n (by omega)] at he
          refine r264_11 ⟨fun h => by omega, fun _ => ⟨by omega, ?_⟩⟩
          rw [abF_e hA (by omega) hc]
          have h2 := abF_w hw (c := c) (by omega) hc
          have HH' := q_i HH (nea_s hw h hc (by rw [he]; decide))
          by_cases hz : abF ab c < 0
          · exact r264_3 ⟨fun _ => q_i HH' (nea_n hz), fun h' => absurd hz h'⟩
          · exact ih _ (by omega) (by omega) HH'
        | succ M ihM =>
          intro k e hk he
          have h1 := p4 k hk (by omega)
          have h2 := mk_tok hS h1.2.2.1 h1.2.2.2
          refine r264_11 ?_
          rw [h1.1, h1.2.1, h2.1, h2.2.1, hS.2.1]
          refine ⟨fun _ => ⟨by omega, fun g1 => ⟨by omega, by omega, by omega, by omega, by omega, fun g2 => ?_, fun g2 => ⟨by omega, ihM (k + 1) (by omega) (by omega) (he.trans (fs_s (P := fun i => lf l1 i = c ∧ nmP K l2 a b i) (by omega) fun x => g2 x.2))⟩⟩, fun g1 => ⟨by omega, ihM (k + 1) (by omega) (by omega) (he.trans (fs_s (P := fun i => lf l1 i = c ∧ nmP K l2 a b i) (by omega) fun x => g1 x.1))⟩⟩, fun h => by omega⟩
          have he2 := he.trans (fs_y (P := fun i => lf l1 i = c ∧ nmP K l2 a b i) (by omega) ⟨g1, g2⟩)
          exact q_i HH ((nea_y h (by rw [he2]; omega)).trans he2)
      exact hl2 _ 0 rfl (by omega) rfl
  exact r264_0 (hL _ c (Nat.lt_succ_self _) hc H)
/-- the model's way: the first in the row that is of the class or of one above it -/
noncomputable def fidx (K : TK) (ab l1 l2 : List Int) (c a b : Int) : Int := fsF (fun i => cbl ab c (lf l1 i) ∧ nmP K l2 a b i) 0 l1.length
theorem r260_0 {L c2 c3 c4 c5 c6 : Nat} {D : Dt} {Q : Out → Wd → Prop} {c a b : Int} (H : wp 260 3 [vr 226, vr 273, vi c, vi a, vi b, vi 0] [] (D, SS L 1 c2 c3 c4 c5 c6) Q) : wp 260 0 [vr 226, vr 273, vi c, vi a, vi b, vu] [] (D, SS L 1 c2 c3 c4 c5 c6) Q := vc_wp [3] 200 _ _ _ _ _ _ (show wp 260 3 [vr 226, vr 273, vi c, vi a, vi b, vi 0] [] (D, SS L 1 c2 c3 c4 c5 c6) Q from H)
theorem r260_3 {L c2 c3 c4 c5 c6 : Nat} {D : Dt} {Q : Out → Wd → Prop} {c a b f : Int} (H : ((f < D 273 1 → ((0 ≤ f ∧ f < 48) ∧ (∃ (ab1 : List Int), (ABp (D 274) ab1 ∧ ABw ab1 ∧ ab1.length ≤ 24 ∧ c < 8 + ab1.length) ∧ ((((cbl ab1 c (D 276 f) → ((0 ≤ f ∧ f < 48) ∧ ((0 ≤ D 324 f ∧ D 324 f < 16002) ∧ ((0 ≤ f ∧ f < 48) ∧ ((0 ≤ D 324 f ∧ D 324 f < 16002) ∧ ((0 ≤ a ∧ a ≤ 16000 ∧ 0 ≤ b ∧ b ≤ 16000 ∧ 0 ≤ (D 321 (D 324 f)) ∧ (D 321 (D 324 f)) ≤ 16000 ∧ 0 ≤ (D 322 (D 324 f)) ∧ (D 322 (D 324 f)) ≤ 16000) ∧ ((((sameP (D 320) a b (D 321 (D 324 f)) (D 322 (D 324 f)) → (Q (.inl [vi f]) (D, SS L 1 c2 c3 c4 c5 c6))) ∧ (¬ (sameP (D 320) a b (D 321 (D 324 f)) (D 322 (D 324 f))) → (((-2147483648) ≤ f + 1 ∧ f + 1 ≤ 2147483647) ∧ (wp 260 3 [vr 226, vr 273, vi c, vi a, vi b, vi (f + 1)] [] (D, SS L 1 c2 c3 c4 c5 c6) Q)))))))))))) ∧ (¬ (cbl ab1 c (D 276 f)) → (((-2147483648) ≤ f + 1 ∧ f + 1 ≤ 2147483647) ∧ (wp 260 3 [vr 226, vr 273, vi c, vi a, vi b, vi (f + 1)] [] (D, SS L 1 c2 c3 c4 c5 c6) Q))))))))) ∧ (¬ (f < D 273 1) → (Q (.inl [vi (-1)]) (D, SS L 1 c2 c3 c4 c5 c6))))) : wp 260 3 [vr 226, vr 273, vi c, vi a, vi b, vi f] [] (D, SS L 1 c2 c3 c4 c5 c6) Q := vc_wp [18] 200 _ _ _ _ _ _ (show ((f < D 273 1 → (wp 260 18 [vr 226, vr 273, vi c, vi a, vi b, vi f] [vr 276, vi c, vr 273] (D, SS L 1 c2 c3 c4 c5 c6) Q)) ∧ (¬ (f < D 273 1) → (Q (.inl [vi (-1)]) (D, SS L 1 c2 c3 c4 c5 c6)))) from ⟨fun h12 => vc_wp [] 200 _ _ _ _ _ _ (show (0 ≤ f ∧ f < 48) ∧ (wp 261 0 [vr 273, vi c, vi (D 276 f), vu] [] (D, SS L 1 c2 c3 c4 c5 c6) (aft wp 260 21 [vr 226, vr 273, vi c, vi a, vi b, vi f] [] Q)) from ⟨(H.1 h12).1, Exists.elim ((H.1 h12).2) fun ab1 x2 => s261p273 ⟨ab1, x2.1, (show wp 260 24 [vr 226, vr 273, vi c, vi a, vi b, vi f] [vi (ib (cbl ab1 c (D 276 f)))] (D, SS L 1 c2 c3 c4 c5 c6) Q from vc_wp [35, 67] 200 _ _ _ _ _ _ (show ((ib (cbl ab1 c (D 276 f)) = 0 → (wp 260 67 [vr 226, vr 273, vi c, vi a, vi b, vi (w32 (f + 1))] [] (D, SS L 1 c2 c3 c4 c5 c6) Q)) ∧ (¬ (ib (cbl ab1 c (D 276 f)) = 0) → (wp 260 35 [vr 226, vr 273, vi c, vi a, vi b, vi f] [vr 321, vi b, vi a, vr 226] (D, SS L 1 c2 c3 c4 c5 c6) Q))) from ⟨fun h10 => w32_i (fun z4 : Int => wp 260 67 [vr 226, vr 273, vi c, vi a, vi b, vi z4] [] (D, SS L 1 c2 c3 c4 c5 c6) Q) ((x2.2.2 ((ib_z).mp h10))).1 (vc_wp [3] 200 _ _ _ _ _ _ (show wp 260 3 [vr 226, vr 273, vi c, vi a, vi b, vi (f + 1)] [] (D, SS L 1 c2 c3 c4 c5 c6) Q from ((x2.2.2 ((ib_z).mp h10))).2)), fun h11 => vc_wp [39] 200 _ _ _ _ _ _ (show wp 260 39 [vr 226, vr 273, vi c, vi a, vi b, vi f] [vr 324, vr 321, vi b, vi a, vr 226] (D, SS L 1 c2 c3 c4 c5 c6) Q from vc_wp [47] 200 _ _ _ _ _ _ (show (0 ≤ f ∧ f < 48) ∧ ((0 ≤ D 324 f ∧ D 324 f < 16002) ∧ (wp 260 47 [vr 226, vr 273, vi c, vi a, vi b, vi f] [vr 322, vi (D 321 (D 324 f)), vi b, vi a, vr 226] (D, SS L 1 c2 c3 c4 c5 c6) Q)) from ⟨(x2.2.1 (Classical.not_not.mp (mt (ib_z).mpr h11))).1, ⟨(x2.2.1 (Classical.not_not.mp (mt (ib_z).mpr h11))).2.1, vc_wp [51] 200 _ _ _ _ _ _ (show wp 260 51 [vr 226, vr 273, vi c, vi a, vi b, vi f] [vr 324, vr 322, vi (D 321 (D 324 f)), vi b, vi a, vr 226] (D, SS L 1 c2 c3 c4 c5 c6) Q from vc_wp [] 200 _ _ _ _ _ _ (show (0 ≤ f ∧ f < 48) ∧ ((0 ≤ D 324 f ∧ D 324 f < 16002) ∧ (wp 255 0 [vr 226, vi a, vi b, vi (D 321 (D 324 f)), vi (D 322 (D 324 f)), vu] [] (D, SS L 1 c2 c3 c4 c5 c6) (aft wp 260 55 [vr 226, vr 273, vi c, vi a, vi b, vi f] [] Q))) from ⟨(x2.2.1 (Classical.not_not.mp (mt (ib_z).mpr h11))).2.2.1, ⟨(x2.2.1 (Classical.not_not.mp (mt (ib_z).mpr h11))).2.2.2.1, s255 ⟨(x2.2.1 (Classical.not_not.mp (mt (ib_z).mpr h11))).2.2.2.2.1, (show wp 260 58 [vr 226, vr 273, vi c, vi a, vi b, vi f] [vi (ib (sameP (D 320) a b (D 321 (D 324 f)) (D 322 (D 324 f))))] (D, SS L 1 c2 c3 c4 c5 c6) Q from vc_wp [67] 200 _ _ _ _ _ _ (show ((ib (sameP (D 320) a b (D 321 (D 324 f)) (D 322 (D 324 f))) = 0 → (wp 260 67 [vr 226, vr 273, vi c, vi a, vi b, vi (w32 (f + 1))] [] (D, SS L 1 c2 c3 c4 c5 c6) Q)) ∧ (¬ (ib (sameP (D 320) a b (D 321 (D 324 f)) (D 322 (D 324 f))) = 0) → (Q (.inl [vi f]) (D, SS L 1 c2 c3 c4 c5 c6)))) from ⟨fun h8 => w32_i (fun z7 : Int => wp 260 67 [vr 226, vr 273, vi c, vi a, vi b, vi z7] [] (D, SS L 1 c2 c3 c4 c5 c6) Q) (((x2.2.1 (Classical.not_not.mp (mt (ib_z).mpr h11))).2.2.2.2.2.2 ((ib_z).mp h8))).1 (vc_wp [3] 200 _ _ _ _ _ _ (show wp 260 3 [vr 226, vr 273, vi c, vi a, vi b, vi (f + 1)] [] (D, SS L 1 c2 c3 c4 c5 c6) Q from (((x2.2.1 (Classical.not_not.mp (mt (ib_z).mpr h11))).2.2.2.2.2.2 ((ib_z).mp h8))).2)), fun h9 => ((x2.2.1 (Classical.not_not.mp (mt (ib_z).mpr h11))).2.2.2.2.2.1 (Classical.not_not.mp (mt (ib_z).mpr h9)))⟩))⟩⟩⟩))⟩⟩))⟩))⟩⟩), fun h13 => (H.2 h13)⟩)
theorem s260 {L c2 c3 c4 c5 c6 : Nat} {D : Dt} {Q : Out → Wd → Prop} {K : TK} {c a b : Int} (H : ∃ x : List Int × List Int × List Int, (MKp K (D 226 10) (D 321) (D 322) (D 320) ∧ L2p K (D 273 1) (D 276) (D 324) x.2.1 x.2.2 ∧ (ABp (D 274) x.1 ∧ ABw x.1 ∧ x.1.length ≤ 24) ∧ c < 8 + x.1.length ∧ 0 ≤ a ∧ a ≤ 16000 ∧ 0 ≤ b ∧ b ≤ 16000) ∧ Q (.inl [vi (fidx K x.1 x.2.1 x.2.2 c a b)]) (D, SS L 1 c2 c3 c4 c5 c6)) : wp 260 0 [vr 226, vr 273, vi c, vi a, vi b, vu] [] (D, SS L 1 c2 c3 c4 c5 c6) Q := by
  obtain ⟨⟨ab, l1, l2⟩, ⟨hM, ⟨p1, p2, p3, p4⟩, ⟨hA, hw, hl⟩, hc, hab⟩, H⟩ := H
  dsimp only at *
  have hl : ∀ (N : Nat) (k : Int), ((l1.length : Int) - k).toNat = N → 0 ≤ k → Q (.inl [vi (fsF (fun i => cbl ab c (lf l1 i) ∧ nmP K l2 a b i) k l1.length)]) (D, SS L 1 c2 c3 c4 c5 c6) → wp 260 3 [vr 226, vr 273, vi c, vi a, vi b, vi k] [] (D, SS L 1 c2 c3 c4 c5 c6) Q := by
    intro N
    induction N with
    | zero => intro k e hk HH; exact r260_3 ⟨fun h => by omega, fun _ => q_i HH (fs_n (by omega))⟩
    | succ N ih =>
      intro k e hk HH
      have h1 := p4 k hk (by omega)
      have h2 := mk_tok hM h1.2.2.1 h1.2.2.2
      refine r260_3 ?_
      rw [h1.1, h1.2.1, h2.1, h2.2.1, hM.2.1]
      refine ⟨fun _ => ⟨by omega, ab, ⟨hA, hw, by omega, hc⟩, fun g1 => ⟨by omega, by omega, by omega, by omega, by omega, fun g2 => q_i HH (fs_y (P := fun i => cbl ab c (lf l1 i) ∧ nmP K l2 a b i) (by omega) ⟨g1, g2⟩), fun g2 => ⟨by omega, ih (k + 1) (by omega) (by omega) (q_i HH (fs_s (P := fun i => cbl ab c (lf l1 i) ∧ nmP K l2 a b i) (by omega) fun x => g2 x.2))⟩⟩, fun g1 => ⟨by omega, ih (k + 1) (by omega) (by omega) (q_i HH (fs_s (P := fun i => cbl ab c (lf l1 i) ∧ nmP K l2 a b i) (by omega) fun x => g1 x.1))⟩⟩, fun h => by omega⟩
  exact r260_0 (hl _ 0 rfl (by omega) H)
