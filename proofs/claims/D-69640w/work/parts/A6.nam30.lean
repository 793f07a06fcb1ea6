/-! names: lines and bodies, as functions -/
set_option maxRecDepth 100000
noncomputable def cY (K : TK) (ns lt lp : List Int) (b : Int) (Y : XB) (t : Int) : XB := fun p =>
  bif Nat.beq p 6 then Y 6 ++ [labA K lt lp (t + 1)] else bif Nat.beq p 7 then Y 7 ++ [labA K lt lp (t + 2)] else bif Nat.beq p 8 then Y 8 ++ [labA K lt lp (t + 3)] else bif Nat.beq p 9 then Y 9 ++ [clsT K ns (t + 4)] else bif Nat.beq p 10 then Y 10 ++ [b] else Y p
/-- some lines: a fault (false, token) or (true, _), and what is made of them -/
noncomputable def lnR (K : TK) (ns ab : List Int) (X : XB) (lt lp : List Int) (b en : Int) : List Int → Int → XB → PR × XB
  | [], _, Y => ((true, 0), Y)
  | l :: ls, s, Y => cit (K.w (l + 1) 15) (cit (labK K lt l = s) (lnR K ns ab X lt lp b en ls (s + 1) Y) ((false, l), Y)) (cit (K.w l 16) (cit ((cfa K ns ab lt lp (Y 6).length en l).1 = true) (lnR K ns ab X lt lp b en ls s (cY K ns lt lp b Y l)) (cfa K ns ab lt lp (Y 6).length en l, Y)) (cit ((ifa K ns ab X lt lp b en Y (K.op l) l).1 = true) (lnR K ns ab X lt lp b en ls s (iY K ns ab X lt lp b Y (K.op l) l)) (ifa K ns ab X lt lp b en Y (K.op l) l, Y)))
def ap1 (Y : XB) (q : Nat) (v : Int) : XB := fun p => bif Nat.beq p q then Y q ++ [v] else Y p
def goOn (op : Int) : Prop := ¬ op = 19 ∧ ¬ op = 41 ∧ ¬ op = 42 ∧ ¬ op = 43
/-- the lines of a body that begins at token t -/
noncomputable def bLn (K : TK) (t : Int) : List Int := llines K (bbp K t + 4)
noncomputable def blR (K : TK) (ns ab : List Int) (X : XB) (b t : Int) (Y : XB) : PR × XB := lnR K ns ab X (lbT K (bLn K t)) (lbP K (bLn K t) (Y 0).length) b ((Y 0).length + lnC K (bLn K t)) (bLn K t) 0 (ap1 Y 11 (Y 0).length)
noncomputable def bdR (K : TK) (ns ab : List Int) (X : XB) (b t : Int) (Y : XB) : PR × XB :=
  cit ((blR K ns ab X b t Y).1.1 = true) (cit (((Y 0).length : Int) < ((blR K ns ab X b t Y).2 0).length ∧ ¬ goOn (lf ((blR K ns ab X b t Y).2 0) ((((blR K ns ab X b t Y).2 0).length : Int) - 1))) ((true, 0), ap1 (blR K ns ab X b t Y).2 12 ((blR K ns ab X b t Y).2 0).length) ((false, clO K t), (blR K ns ab X b t Y).2)) (blR K ns ab X b t Y)
/-- n bodies, from body b -/
noncomputable def bsR (K : TK) (ns ab : List Int) (X : XB) : Nat → Int → XB → PR × XB
  | 0, _, Y => ((true, 0), Y)
  | n + 1, b, Y => cit ((bdR K ns ab X b (lf (X 12) b) Y).1.1 = true) (bsR K ns ab X n (b + 1) (bdR K ns ab X b (lf (X 12) b) Y).2) (bdR K ns ab X b (lf (X 12) b) Y)
theorem PRX_f {x : PR × XB} (h : ¬ x.1.1 = true) : x = ((false, x.1.2), x.2) := by
  obtain ⟨⟨a, b⟩, c⟩ := x
  cases a
  · rfl
  · exact absurd rfl h
section Ln
variable {K : TK} {ns ab : List Int} {X : XB} {lt lp : List Int} {b en : Int}
theorem cY_l {Y : XB} {t : Int} (h : YLn Y) (h6 : (Y 6).length < 64) : YLn (cY K ns lt lp b Y t) := by
  obtain ⟨a1, ⟨a5, a6, a7, a8⟩, a9, a10, a11⟩ := h
  refine ⟨a1, ⟨?_, ?_, ?_, ?_⟩, a9, a10, ?_⟩
  · show (Y 7 ++ [_]).length = (Y 6 ++ [_]).length; rw [len_app, len_app, a5]
  · show (Y 8 ++ [_]).length = (Y 6 ++ [_]).length; rw [len_app, len_app, a6]
  · show (Y 9 ++ [_]).length = (Y 6 ++ [_]).length; rw [len_app, len_app, a7]
  · show (Y 10 ++ [_]).length = (Y 6 ++ [_]).length; rw [len_app, len_app, a8]
  · show (Y 6 ++ [_]).length ≤ 64; rw [len_app]; omega
theorem cfa_64 {nc t : Int} (h : (cfa K ns ab lt lp nc en t).1 = true) : nc < 64 := by
  rcases Classical.em (nc < 64) with h1 | h1
  · exact h1
  · rw [show cfa K ns ab lt lp nc en t = (false, t) from cit_f h1] at h
    cases h
theorem ifa_q {Y : XB} {op t : Int} (h : (ifa K ns ab X lt lp b en Y op t).1 = true) : (Y 0).length < 1024 ∧ ¬ (isSi op ∧ (Y 5).length = 48) := by
  rcases Classical.em ((Y 0).length < 1024 ∧ ¬ (isSi op ∧ (Y 5).length = 48)) with h1 | h1
  · exact h1
  · rw [show ifa K ns ab X lt lp b en Y op t = (false, t) from cit_f h1] at h
    cases h
theorem lnR_lab {l : Int} {ls : List Int} {s : Int} {Y : XB} (h : K.w (l + 1) 15) : lnR K ns ab X lt lp b en (l :: ls) s Y = cit (labK K lt l = s) (lnR K ns ab X lt lp b en ls (s + 1) Y) ((false, l), Y) := cit_t h
theorem lnR_cat {l : Int} {ls : List Int} {s : Int} {Y : XB} (h : ¬ K.w (l + 1) 15) (h1 : K.w l 16) : lnR K ns ab X lt lp b en (l :: ls) s Y = cit ((cfa K ns ab lt lp (Y 6).length en l).1 = true) (lnR K ns ab X lt lp b en ls s (cY K ns lt lp b Y l)) (cfa K ns ab lt lp (Y 6).length en l, Y) := (cit_f h).trans (cit_t h1)
theorem lnR_ins {l : Int} {ls : List Int} {s : Int} {Y : XB} (h : ¬ K.w (l + 1) 15) (h1 : ¬ K.w l 16) : lnR K ns ab X lt lp b en (l :: ls) s Y = cit ((ifa K ns ab X lt lp b en Y (K.op l) l).1 = true) (lnR K ns ab X lt lp b en ls s (iY K ns ab X lt lp b Y (K.op l) l)) (ifa K ns ab X lt lp b en Y (K.op l) l, Y) := (cit_f h).trans (cit_f h1)
/-- what holds along the lines -/
theorem lnR_i {P : List Int → Int → XB → Prop} (h1 : ∀ l ls s Y, K.w (l + 1) 15 → labK K lt l = s → P (l :: ls) s Y → P ls (s + 1) Y) (h2 : ∀ l ls s Y, ¬ K.w (l + 1) 15 → K.w l 16 → (cfa K ns ab lt lp (Y 6).length en l).1 = true → P (l :: ls) s Y → P ls s (cY K ns lt lp b Y l)) (h3 : ∀ l ls s Y, ¬ K.w (l + 1) 15 → ¬ K.w l 16 → (ifa K ns ab X lt lp b en Y (K.op l) l).1 = true → P (l :: ls) s Y → P ls s (iY K ns ab X lt lp b Y (K.op l) l)) : ∀ (ls : List Int) (s : Int) (Y : XB), P ls s Y → (lnR K ns ab X lt lp b en ls s Y).1.1 = true → ∃ s', P [] s' (lnR K ns ab X lt lp b en ls s Y).2
  | [], s, Y, h, _ => ⟨s, h⟩
  | l :: ls, s, Y, h, e => by
    rcases Classical.em (K.w (l + 1) 15) with g | g
    · rw [lnR_lab g] at e ⊢
      rcases Classical.em (labK K lt l = s) with g1 | g1
      · rw [cit_t g1] at e ⊢
        exact lnR_i h1 h2 h3 ls _ _ (h1 l ls s Y g g1 h) e
      · rw [cit_f g1] at e
        cases e
    · rcases Classical.em (K.w l 16) with g1 | g1
      · rw [lnR_cat g g1] at e ⊢
        rcases Classical.em ((cfa K ns ab lt lp (Y 6).length en l).1 = true) with g2 | g2
        · rw [cit_t g2] at e ⊢
          exact lnR_i h1 h2 h3 ls _ _ (h2 l ls s Y g g1 g2 h) e
        · rw [cit_f g2] at e
          exact absurd e g2
      · rw [lnR_ins g g1] at e ⊢
        rcases Classical.em ((ifa K ns ab X lt lp b en Y (K.op l) l).1 = true) with g2 | g2
        · rw [cit_t g2] at e ⊢
          exact lnR_i h1 h2 h3 ls _ _ (h3 l ls s Y g g1 g2 h) e
        · rw [cit_f g2] at e
          exact absurd e g2
theorem lnC_lab {l : Int} {ls : List Int} (h : K.w (l + 1) 15) : lnC K (l :: ls) = lnC K ls := cit_t h
theorem lnC_cat {l : Int} {ls : List Int} (h : ¬ K.w (l + 1) 15) (h1 : K.w l 16) : lnC K (l :: ls) = lnC K ls := (cit_f h).trans (cit_t h1)
theorem lnC_ins {l : Int} {ls : List Int} (h : ¬ K.w (l + 1) 15) (h1 : ¬ K.w l 16) : lnC K (l :: ls) = lnC K ls + 1 := (cit_f h).trans (cit_f h1)
theorem lnR_n {ls : List Int} {s : Int} {Y : XB} (hY : YLn Y) (e : (lnR K ns ab X lt lp b en ls s Y).1.1 = true) : YLn (lnR K ns ab X lt lp b en ls s Y).2 ∧ (((lnR K ns ab X lt lp b en ls s Y).2 0).length : Int) = (Y 0).length + lnC K ls ∧ (lnR K ns ab X lt lp b en ls s Y).2 11 = Y 11 ∧ (lnR K ns ab X lt lp b en ls s Y).2 12 = Y 12 := by
  obtain ⟨s', h1, h2, h3, h4⟩ := lnR_i (K := K) (ns := ns) (ab := ab) (X := X) (lt := lt) (lp := lp) (b := b) (en := en) (P := fun l _ Z => YLn Z ∧ (((Z 0).length : Int) + lnC K l = (Y 0).length + lnC K ls) ∧ Z 11 = Y 11 ∧ Z 12 = Y 12) (fun l ls s Z g g1 h => ⟨h.1, by rw [lnC_lab g] at h; exact h.2.1, h.2.2⟩) (fun l ls s Z g g1 g2 h => ⟨cY_l h.1 (by have := cfa_64 g2; omega), by have h2 := h.2.1; rw [lnC_cat g g1] at h2; exact h2, h.2.2⟩) (fun l ls s Z g g1 g2 h => ⟨iY_l h.1 (ifa_q g2).1 (ifa_q g2).2, by
      have h2 := h.2.1
      rw [lnC_ins g g1] at h2
      show (((Z 0 ++ [K.op l]).length : Nat) : Int) + _ = _
      rw [len_app]
      omega, h.2.2⟩) ls s Y ⟨hY, rfl, rfl, rfl⟩ e
  exact ⟨h1, by have : lnC K [] = 0 := rfl; omega, h3, h4⟩
end Ln
theorem ap_l {Y : XB} {v : Int} (h : YLn Y) : YLn (ap1 Y 11 v) ∧ YLn (ap1 Y 12 v) := ⟨h, h⟩
