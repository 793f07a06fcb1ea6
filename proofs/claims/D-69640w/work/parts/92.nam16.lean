/-! names: what holds of fields and bodies -/
set_option maxRecDepth 100000
theorem sameP_s {tx : Int → Int} {a b c d : Int} (h : sameP tx a b c d) : sameP tx c d a b := ⟨h.1.symm, fun j j0 j1 => (h.2 j j0 (by have := h.1; omega)).symm⟩
theorem sameP_t {tx : Int → Int} {a b c d e f : Int} (h : sameP tx a b c d) (h2 : sameP tx c d e f) : sameP tx a b e f := ⟨h.1.trans h2.1, fun j j0 j1 => (h.2 j j0 j1).trans (h2.2 j j0 (by have := h.1; omega))⟩
theorem strR_c1 {tx : Int → Int} {a b c d : Int} (h : sameP tx a b c d) {s : List Int} {g e : Int} (hs : strR tx a b s g e) : strR tx c d s g e := by
  have h1 := h.1
  refine ⟨by have := hs.1; omega, fun j j0 j1 => ?_⟩
  have h2 := h.2 (j - c) (by omega) (by omega)
  have h3 := hs.2 (a + (j - c)) (by omega) (by omega)
  dsimp only at h2 h3 ⊢
  rw [show c + (j - c) = j by omega] at h2
  rw [← h2, h3, show g + (a + (j - c)) - a = g + j - c by omega]
theorem strR_c {tx : Int → Int} {a b c d : Int} (h : sameP tx a b c d) {s : List Int} {g e : Int} : strR tx a b s g e ↔ strR tx c d s g e := ⟨strR_c1 h, strR_c1 (sameP_s h)⟩
theorem widx_c {tx : Int → Int} {a b c d : Int} (h : sameP tx a b c d) : ∀ (W : List (List Int)) (n : Int), widx tx a b W n = widx tx c d W n
  | [], _ => rfl
  | w :: ws, n => by
    show cit _ _ _ = cit _ _ _
    rw [propext (strR_c h), widx_c h ws]
theorem nidx_c {K : TK} {a b c d : Int} (h : sameP K.tx a b c d) : ∀ (W : List Int) (n : Int), nidx K W a b n = nidx K W c d n
  | [], _ => rfl
  | w :: ws, n => by
    show cit _ _ _ = cit _ _ _
    rw [nidx_c h ws, show sameP K.tx a b (K.tf w) (K.tt w) = sameP K.tx c d (K.tf w) (K.tt w) from propext ⟨fun x => sameP_t (sameP_s h) x, fun x => sameP_t h x⟩]
theorem clsAt_c {K : TK} {ns : List Int} {a b c d : Int} (h : sameP K.tx a b c d) : clsAt K ns a b = clsAt K ns c d := by
  unfold clsAt
  rw [widx_c h, nidx_c h]
theorem arrW_c {K : TK} {t u : Int} (h : K.same t u) : arrW K.tx K.tf K.tt t ↔ arrW K.tx K.tf K.tt u := by
  have h1 := h.1
  have one : ∀ {t u : Int}, K.same t u → arrW K.tx K.tf K.tt t → arrW K.tx K.tf K.tt u := by
    intro t u h x
    have h1 := h.1
    have x1 := x.1
    refine ⟨by omega, ?_, ?_⟩
    · have h2 := h.2 (K.tt t - K.tf t - 2) (by omega) (by omega)
      dsimp only at h2
      rw [show K.tf t + (K.tt t - K.tf t - 2) = K.tt t - 2 by omega, show K.tf u + (K.tt t - K.tf t - 2) = K.tt u - 2 by omega] at h2
      rw [← h2]; exact x.2.1
    · have h2 := h.2 (K.tt t - K.tf t - 1) (by omega) (by omega)
      dsimp only at h2
      rw [show K.tf t + (K.tt t - K.tf t - 1) = K.tt t - 1 by omega, show K.tf u + (K.tt t - K.tf t - 1) = K.tt u - 1 by omega] at h2
      rw [← h2]; exact x.2.2
  exact ⟨one h, one (same_s h)⟩
theorem tyOf_c {K : TK} {ns : List Int} {t u : Int} (h : K.same t u) : tyOf K ns t = tyOf K ns u := by
  have h1 := h.1
  have ha := arrW_c h
  have hb : sameP K.tx (K.tf t) (bEnd K.tx K.tf K.tt t) (K.tf u) (bEnd K.tx K.tf K.tt u) := by
    have h2 : bEnd K.tx K.tf K.tt t - K.tf t = bEnd K.tx K.tf K.tt u - K.tf u := by
      unfold bEnd
      rw [propext ha]
      omega
    have h3 := ib_01 (arrW K.tx K.tf K.tt t)
    refine ⟨h2, fun j j0 j1 => h.2 j j0 ?_⟩
    unfold bEnd at j1
    omega
  unfold tyOf
  rw [propext ha, clsAt_c hb, show intB K.tx K.tf K.tt t = intB K.tx K.tf K.tt u from propext (strR_c hb)]
theorem w_c {K : TK} {t u : Int} {s : Nat} (h : K.same t u) (hu : u < K.n) (ht : K.w t s) : K.w u s := by
  obtain ⟨_, h2⟩ := ht
  refine ⟨hu, ?_⟩
  first
    | exact strR_c1 h h2
    | exact (strR_c h).mp h2
/-- a type that is there -/
def tyR (n x : Int) : Prop := x = 0 ∨ x = 3 ∨ (16 ≤ x ∧ x < 16 + n) ∨ (64 ≤ x ∧ x < 64 + n)
theorem tyOf_r {K : TK} {ns : List Int} {t : Int} (h : ¬ tyOf K ns t < 0) : tyR (8 + ns.length) (tyOf K ns t) := by
  have hc := clsAt_b (K := K) (ns := ns) (a := K.tf t) (b := bEnd K.tx K.tf K.tt t)
  unfold tyOf at h ⊢
  unfold tyR
  rcases Classical.em (intB K.tx K.tf K.tt t) with h1 | h1
  · rw [cit_t h1] at h ⊢
    rcases Classical.em (arrW K.tx K.tf K.tt t) with h2 | h2
    · rw [cit_t h2]; omega
    · rw [cit_f h2]; omega
  · rw [cit_f h1] at h ⊢
    rcases Classical.em (clsAt K ns (K.tf t) (bEnd K.tx K.tf K.tt t) < 0) with h3 | h3
    · rw [cit_t h3] at h; omega
    · rw [cit_f h3] at h ⊢
      rcases Classical.em (arrW K.tx K.tf K.tt t) with h2 | h2
      · rw [cit_t h2]; omega
      · rw [cit_f h2]; omega
/-! classes below classes -/
theorem cbl_le {ab : List Int} (hw : ABw ab) {d : Int} : ∀ (N : Nat) (c : Int), c.toNat < N → c < 8 + ab.length → cbl ab c d → 0 ≤ d ∧ d ≤ c
  | 0, _, h, _, _ => by omega
  | N + 1, c, hN, hc, h => by
    by_cases h0 : c < 0
    · exact absurd h (cbl_n h0)
    · by_cases e : c = d
      · omega
      · have h1 := (cbl_s hw (by omega) hc e).mp h
        have h2 := abF_w hw (c := c) (by omega) hc
        by_cases hz : abF ab c < 0
        · exact absurd h1 (cbl_n hz)
        · have := cbl_le hw N (abF ab c) (by omega) (by omega) h1
          omega
theorem cbl_lin {ab : List Int} (hw : ABw ab) {d e : Int} (hde : e ≤ d) : ∀ (N : Nat) (c : Int), c.toNat < N → c < 8 + ab.length → cbl ab c d → cbl ab c e → cbl ab d e
  | 0, _, h, _, _, _ => by omega
  | N + 1, c, hN, hc, h, h' => by
    by_cases h0 : c < 0
    · exact absurd h (cbl_n h0)
    · by_cases ed : c = d
      · rw [← ed]; exact h'
      · have h1 := (cbl_s hw (by omega) hc ed).mp h
        have h2 := abF_w hw (c := c) (by omega) hc
        by_cases hz : abF ab c < 0
        · exact absurd h1 (cbl_n hz)
        · have h3 := cbl_le hw _ (abF ab c) (Nat.lt_succ_self _) (by omega) h1
          have h4 := (cbl_s hw (by omega) hc (by omega)).mp h'
          exact cbl_lin hw hde N (abF ab c) (by omega) (by omega) h1 h4
theorem cbl_tr {ab : List Int} (hw : ABw ab) {d e : Int} (hde : cbl ab d e) : ∀ (N : Nat) (c : Int), c.toNat < N → c < 8 + ab.length → cbl ab c d → cbl ab c e
  | 0, _, h, _, _ => by omega
  | N + 1, c, hN, hc, h => by
    by_cases h0 : c < 0
    · exact absurd h (cbl_n h0)
    · by_cases ed : c = d
      · rw [ed]; exact hde
      · have h1 := (cbl_s hw (by omega) hc ed).mp h
        have h2 := abF_w hw (c := c) (by omega) hc
        by_cases hz : abF ab c < 0
        · exact absurd h1 (cbl_n hz)
        · have h3 := cbl_le hw _ (abF ab c) (Nat.lt_succ_self _) (by omega) h1
          have h5 := cbl_le hw _ d (Nat.lt_succ_self _) (by omega) hde
          have h4 := cbl_tr hw hde N (abF ab c) (by omega) (by omega) h1
          exact (cbl_s hw (by omega) hc (by omega)).mpr h4
/-- the nearest one stands below all others of its name -/
theorem nea_nr {K : TK} {ab l1 l2 : List Int} {a b : Int} (hw : ABw ab) : ∀ (N : Nat) (c : Int), c.toNat < N → c < 8 + ab.length → ∀ i : Int, 0 ≤ i → i < l1.length → cbl ab c (lf l1 i) → nmP K l2 a b i → cbl ab (lf l1 (nea K ab l1 l2 c a b)) (lf l1 i)
  | 0, _, h, _ => by omega
  | N + 1, c, hN, hc => by
    intro i i0 i1 hi hn
    by_cases h : c < 0
    · exact absurd hi (cbl_n h)
    · by_cases h1 : bidx K l1 l2 c a b < 0
      · rw [nea_s hw h hc h1]
        have h2 := abF_w hw (c := c) (by omega) hc
        have h3 := fs_no (P := fun i => lf l1 i = c ∧ nmP K l2 a b i) (by decide) h1
        have h4 := (cbl_s hw (by omega) hc (fun e => h3 i i0 i1 ⟨e.symm, hn⟩)).mp hi
        by_cases hz : abF ab c < 0
        · exact absurd h4 (cbl_n hz)
        · exact nea_nr hw N (abF ab c) (by omega) (by omega) i i0 i1 h4 hn
      · rw [nea_y h h1]
        rcases bidx_b (K := K) (l1 := l1) (l2 := l2) (c := c) (a := a) (b := b) with g | ⟨g1, g2, g3, _⟩
        · omega
        · rw [g3.1]; exact hi
