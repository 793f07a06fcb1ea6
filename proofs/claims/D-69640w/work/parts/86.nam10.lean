/-! names: bodies, as lists -/
set_option maxRecDepth 100000
theorem lf_a {l : List Int} {v i : Int} (h0 : 0 ≤ i) (h : i < l.length) : lf (l ++ [v]) i = lf l i := by
  unfold lf
  exact getD_app (by omega)
theorem lf_e {l : List Int} {v : Int} : lf (l ++ [v]) l.length = v := by
  unfold lf
  rw [Int.toNat_natCast]
  exact getD_end
theorem lf_m {f : Nat → Int} {n : Nat} {k : Int} (h0 : 0 ≤ k) (h : k < n) : lf ((List.range n).map f) k = f k.toNat := by
  unfold lf
  rw [List.getD_eq_getElem?_getD, List.getElem?_map, List.getElem?_range (by omega)]
  rfl
def L1 (f : Int → Int) (l : List Int) : Prop := ∀ i : Int, 0 ≤ i → i < l.length → f i = lf l i
theorem L1.a {f f' : Int → Int} {l : List Int} {v : Int} (h : L1 f l) (h1 : f' l.length = v) (h2 : ∀ i : Int, i < l.length → f' i = f i) : L1 f' (l ++ [v]) := by
  intro i i0 i1
  rw [len_app] at i1
  by_cases e : i < l.length
  · rw [h2 i e, lf_a i0 e]; exact h i i0 e
  · have e2 : i = l.length := by omega
    rw [e2, h1, lf_e]
/-- bodies: 4 classes, 5 tokens of names, 6 methods, 7 parameters, 8 results, 9 locals, 10 members, 11 names, 12 where they begin; 20 + b types of parameters -/
abbrev XB : Type := Nat → List Int
def BLn (X : XB) : Prop := (X 5).length = (X 4).length ∧ (X 6).length = (X 4).length ∧ (X 7).length = (X 4).length ∧ (X 8).length = (X 4).length ∧ (X 9).length = (X 4).length ∧ (X 10).length = (X 4).length ∧ (X 11).length = (X 4).length ∧ (X 12).length = (X 4).length
/-- what is right of each body -/
def BOK (K : TK) (X : XB) : Prop := ∀ b : Int, 0 ≤ b → b < (X 4).length → (X (20 + b.toNat)).length ≤ 12 ∧ MOK K (lf (X 12) b) ∧ lf (X 5) b = lf (X 12) b + 1 ∧ (0 ≤ lf (X 10) b ∧ lf (X 10) b < (mms K).length ∧ lf (mms K) (lf (X 10) b) = lf (X 12) b) ∧ lf (X 6) b = ib (K.w (lf (X 12) b) 11) ∧ lf (X 11) b = fsF (fun i => K.same (lf (X 5) i) (lf (X 5) b)) 0 (b + 1)
/-- SafeCode's arrays of bodies -/
def BS (K : TK) (X : XB) (D : Dt) : Prop := L2p K (D 197 7) (D 203) (D 81) (X 4) (X 5) ∧ L1 (D 205) (X 6) ∧ L1 (D 206) (X 7) ∧ L1 (D 208) (X 8) ∧ L1 (D 209) (X 9) ∧ L1 (D 82) (X 10) ∧ L1 (D 204) (X 11) ∧ ∀ b k : Int, 0 ≤ b → b < (X 4).length → 0 ≤ k → k < (X (20 + b.toNat)).length → D 207 (b * 12 + k) = lf (X (20 + b.toNat)) k
/-- SafeCode's rows of members -/
def SYN (K : TK) (D : Dt) : Prop := ∀ m : Int, 0 ≤ m → m < (mms K).length → (m < D 64 (-1) ∧ m < D 66 (-1) ∧ m < D 68 (-1) ∧ m < D 70 (-1) ∧ m < D 72 (-1)) ∧ D 64 m = mkd K (lf (mms K) m) ∧ D 66 m = lf (mms K) m + 1 ∧ D 68 m = tcO K (lf (mms K) m) ∧ D 72 m = clO K (lf (mms K) m) ∧ D 70 m = lf (cuml K (mms K) 0) m
theorem lr_lf {z r : Int → Int} {l : List Int} (h : LR z r l) {m : Int} (h0 : 0 ≤ m) (h1 : m < l.length) : r m = lf l m ∧ m < r (-1) := by
  have h2 := h.2.2 m.toNat (by omega)
  rw [show ((m.toNat : Nat) : Int) = m by omega] at h2
  have h3 := h.1
  have h4 := h.2.1.2.1
  exact ⟨h2, by omega⟩
theorem lf_map {f : Int → Int} {l : List Int} {m : Int} (h0 : 0 ≤ m) (h1 : m < l.length) : lf (l.map f) m = f (lf l m) := by
  unfold lf
  have h2 : m.toNat < l.length := by omega
  rw [List.getD_eq_getElem?_getD, List.getD_eq_getElem?_getD, List.getElem?_map, List.getElem?_eq_getElem h2]
  rfl
theorem cuml_len {K : TK} : ∀ (l : List Int) (n : Int), (cuml K l n).length = l.length
  | [], _ => rfl
  | _ :: l, n => by
    show (cuml K l _).length + 1 = l.length + 1
    rw [cuml_len l]
theorem syn_i {K : TK} {D : Dt} (h : SR D (progX K)) : SYN K D := by
  obtain ⟨r1, r2, r3, r4, r5, r6, r7, r8, r9, r10⟩ := prog_r K
  obtain ⟨x59, x61, x63, x65, x67, x69, x71, x73, x75, x77⟩ := h
  rw [r1] at x63
  rw [r2] at x65
  rw [r3] at x67
  rw [r4] at x71
  rw [r10] at x69
  intro m m0 m1
  have y63 := lr_lf x63 m0 (by rw [List.length_map]; exact m1)
  have y65 := lr_lf x65 m0 (by rw [List.length_map]; exact m1)
  have y67 := lr_lf x67 m0 (by rw [List.length_map]; exact m1)
  have y71 := lr_lf x71 m0 (by rw [List.length_map]; exact m1)
  have y69 := lr_lf x69 m0 (by rw [cuml_len]; exact m1)
  rw [lf_map m0 m1] at y63 y65 y67 y71
  exact ⟨⟨y63.2, y65.2, y67.2, y69.2, y71.2⟩, y63.1, y65.1, y67.1, y71.1, y69.1⟩
/-! a body's head -/
noncomputable def hd1 (K : TK) (ab : List Int) (X : XB) (c t : Int) : Prop := bidx K (X 4) (X 5) c (K.tf (t + 1)) (K.tt (t + 1)) < 0 ∧ (nea K ab (X 4) (X 5) (abF ab c) (K.tf (t + 1)) (K.tt (t + 1)) < 0 ∨ (K.w t 11 ∧ K.w (lf (X 12) (nea K ab (X 4) (X 5) (abF ab c) (K.tf (t + 1)) (K.tt (t + 1)))) 11 ∧ shd K t (lf (X 12) (nea K ab (X 4) (X 5) (abF ab c) (K.tf (t + 1)) (K.tt (t + 1))))))
noncomputable def pcO (K : TK) (t : Int) : Int := ib (K.w t 11) + tcO K t
noncomputable def rsO (K : TK) (ns : List Int) (t : Int) : Int := cit (K.w (bbp K t + 1) 14) (-1) (tyOf K ns (bbp K t + 1))
noncomputable def tyF (K : TK) (ns : List Int) (t j : Int) : Int := fsF (fun j => tyOf K ns (t + 3 + j) < 0) j (tcO K t)
noncomputable def hfa (K : TK) (ns ab : List Int) (X : XB) (c t : Int) : PR := cit (hd1 K ab X c t ∧ (X 4).length < 48) (cit (tyF K ns t 0 < 0) (cit (K.w (bbp K t + 1) 14 ∨ ¬ tyOf K ns (bbp K t + 1) < 0) (cit (pcO K t ≤ K.val (bbp K t + 2) ∧ K.val (bbp K t + 2) ≤ 12) (true, t) (false, bbp K t + 2)) (false, bbp K t + 1)) (false, t + 3 + tyF K ns t 0)) (false, t + 1)
noncomputable def pyO (K : TK) (ns : List Int) (c t : Int) : List Int := (List.range (pcO K t).toNat).map fun k : Nat => cit (K.w t 11 ∧ k = 0) (16 + c) (tyOf K ns (t + 3 + (k : Int) - ib (K.w t 11)))
noncomputable def bnO (K : TK) (X : XB) (t : Int) : Int := fsF (fun i => K.same (lf (X 5 ++ [t + 1]) i) (t + 1)) 0 ((X 4).length + 1)
/-- one more body -/
noncomputable def bdA (K : TK) (ns : List Int) (X : XB) (c t m : Int) : XB := fun p =>
  bif Nat.beq p 4 then X 4 ++ [c] else bif Nat.beq p 5 then X 5 ++ [t + 1] else bif Nat.beq p 6 then X 6 ++ [ib (K.w t 11)] else bif Nat.beq p 7 then X 7 ++ [pcO K t] else bif Nat.beq p 8 then X 8 ++ [rsO K ns t] else bif Nat.beq p 9 then X 9 ++ [K.val (bbp K t + 2)] else bif Nat.beq p 10 then X 10 ++ [m] else bif Nat.beq p 11 then X 11 ++ [bnO K X t] else bif Nat.beq p 12 then X 12 ++ [t] else bif Nat.beq p (20 + (X 4).length) then pyO K ns c t else X p
theorem bdA_p {K : TK} {ns : List Int} {X : XB} {c t m : Int} {b : Nat} (h : b < (X 4).length) : bdA K ns X c t m (20 + b) = X (20 + b) := by
  unfold bdA
  rw [beq_f (by omega), beq_f (by omega), beq_f (by omega), beq_f (by omega), beq_f (by omega), beq_f (by omega), beq_f (by omega), beq_f (by omega), beq_f (by omega)]
  have : Nat.beq (20 + b) (20 + (X 4).length) = false := by
    cases e : Nat.beq (20 + b) (20 + (X 4).length) with
    | true => have := Nat.eq_of_beq_eq_true e; omega
    | false => rfl
  rw [this]
  rfl
theorem bdA_n {K : TK} {ns : List Int} {X : XB} {c t m : Int} : bdA K ns X c t m (20 + (X 4).length) = pyO K ns c t := by
  unfold bdA
  rw [beq_f (by omega), beq_f (by omega), beq_f (by omega), beq_f (by omega), beq_f (by omega), beq_f (by omega), beq_f (by omega), beq_f (by omega), beq_f (by omega), Nat.beq_refl]
  rfl
theorem same_r (K : TK) (t : Int) : K.same t t := ⟨rfl, fun _ _ _ => rfl⟩
theorem same_s {K : TK} {t u : Int} (h : K.same t u) : K.same u t := ⟨h.1.symm, fun j j0 j1 => (h.2 j j0 (by have := h.1; omega)).symm⟩
theorem same_t {K : TK} {t u v : Int} (h : K.same t u) (h2 : K.same u v) : K.same t v := ⟨h.1.trans h2.1, fun j j0 j1 => (h.2 j j0 j1).trans (h2.2 j j0 (by have := h.1; omega))⟩
theorem scan_cg {p q : Int → Prop} {n : Int} : ∀ (N : Nat) (k : Int), (n - k).toNat = N → (∀ i, k ≤ i → i < n → (p i ↔ q i)) → scan p k n = scan q k n
  | 0, k, e, _ => by rw [scan_n (by omega), scan_n (by omega)]
  | N + 1, k, e, h => by
    have h1 := h k (by omega) (by omega)
    rcases Classical.em (p k) with hp | hp
    · rw [scan_t (by omega) hp, scan_t (by omega) (h1.mp hp)]
      exact scan_cg N (k + 1) (by omega) fun i i1 i2 => h i (by omega) i2
    · rw [scan_p hp, scan_p (fun x => hp (h1.mpr x))]
theorem fs_cg {P Q : Int → Prop} {k n : Int} (h : ∀ i, k ≤ i → i < n → (P i ↔ Q i)) : fsF P k n = fsF Q k n := by
  unfold fsF
  rw [scan_cg (p := fun i => ¬ P i) (q := fun i => ¬ Q i) _ k rfl fun i i1 i2 => not_congr (h i i1 i2)]
theorem BOK.a {K : TK} {ns : List Int} {X : XB} {c t m : Int} (h : BOK K X) (hl : BLn X) (ht : MOK K t) (hm : 0 ≤ m ∧ m < (mms K).length ∧ lf (mms K) m = t) (hp : pcO K t ≤ 12) : BOK K (bdA K ns X c t m) := by
  obtain ⟨l5, l6, l7, l8, l9, l10, l11, l12⟩ := hl
  intro b b0 b1
  have b1 : b < (X 4 ++ [c]).length := b1
  rw [len_app] at b1
  show _ ∧ MOK K (lf (X 12 ++ [t]) b) ∧ lf (X 5 ++ [t + 1]) b = lf (X 12 ++ [t]) b + 1 ∧ (0 ≤ lf (X 10 ++ [m]) b ∧ lf (X 10 ++ [m]) b < (mms K).length ∧ lf (mms K) (lf (X 10 ++ [m]) b) = lf (X 12 ++ [t]) b) ∧ lf (X 6 ++ [ib (K.w t 11)]) b = ib (K.w (lf (X 12 ++ [t]) b) 11) ∧ lf (X 11 ++ [bnO K X t]) b = fsF (fun i => K.same (lf (X 5 ++ [t + 1]) i) (lf (X 5 ++ [t + 1]) b)) 0 (b + 1)
  by_cases e : b < (X 4).length
  · obtain ⟨h1, h2, h3, h4, h5, h6⟩ := h b b0 e
    rw [bdA_p (by omega), lf_a b0 (by omega), lf_a b0 (by omega), lf_a b0 (by omega), lf_a b0 (by omega), lf_a b0 (by omega)]
    refine ⟨h1, h2, h3, h4, h5, h6.trans (fs_cg fun i i1 i2 => ?_)⟩
    rw [lf_a i1 (by omega)]
  · have e2 : b = (X 4).length := by omega
    have e12 : lf (X 12 ++ [t]) b = t := by rw [e2, ← l12]; exact lf_e
    have e5 : lf (X 5 ++ [t + 1]) b = t + 1 := by rw [e2, ← l5]; exact lf_e
    have e10 : lf (X 10 ++ [m]) b = m := by rw [e2, ← l10]; exact lf_e
    have e6 : lf (X 6 ++ [ib (K.w t 11)]) b = ib (K.w t 11) := by rw [e2, ← l6]; exact lf_e
    have e11 : lf (X 11 ++ [bnO K X t]) b = bnO K X t := by rw [e2, ← l11]; exact lf_e
    rw [e12, e5, e10, e6, e11]
    refine ⟨?_, ht, rfl, hm, rfl, ?_⟩
    · rw [show b.toNat = (X 4).length by omega, bdA_n]
      unfold pyO
      rw [List.length_map, List.length_range]
      omega
    · rw [e2]; rfl
theorem BLn.a {K : TK} {ns : List Int} {X : XB} {c t m : Int} (h : BLn X) : BLn (bdA K ns X c t m) := by
  obtain ⟨l5, l6, l7, l8, l9, l10, l11, l12⟩ := h
  show (X 5 ++ [_]).length = (X 4 ++ [c]).length ∧ (X 6 ++ [_]).length = (X 4 ++ [c]).length ∧ (X 7 ++ [_]).length = (X 4 ++ [c]).length ∧ (X 8 ++ [_]).length = (X 4 ++ [c]).length ∧ (X 9 ++ [_]).length = (X 4 ++ [c]).length ∧ (X 10 ++ [_]).length = (X 4 ++ [c]).length ∧ (X 11 ++ [_]).length = (X 4 ++ [c]).length ∧ (X 12 ++ [_]).length = (X 4 ++ [c]).length
  simp only [len_app]
  omega
