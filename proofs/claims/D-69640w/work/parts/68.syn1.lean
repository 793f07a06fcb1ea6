/-! the syntax, as a function of the tokens -/
set_option maxRecDepth 100000
abbrev PR : Type := Bool × Int
noncomputable def pm (c : Prop) (a : Int) : PR := cit c (true, a + 1) (false, a)
def pb (x : PR) (f : Int → PR) : PR := match x with
  | (true, a) => f a
  | (false, a) => (false, a)
theorem pm_t {c : Prop} {a : Int} (h : c) : pm c a = (true, a + 1) := cit_t h
theorem pm_f {c : Prop} {a : Int} (h : ¬ c) : pm c a = (false, a) := cit_f h
noncomputable def pops (K : TK) (op a : Int) : PR :=
  if op = 0 ∨ op = 2 ∨ op = 3 then pm (K.num a) a
  else if op = 4 then pb (pm (K.num a) a) fun b => pm (K.num b) b
  else if 19 ≤ op ∧ op ≤ 29 then pm (K.sn a) a
  else if op = 30 then pm (K.cn a) a
  else if op = 31 then pm (K.w a 18 ∨ K.cn a) a
  else if op = 35 ∨ op = 36 ∨ op = 39 ∨ op = 40 then pm (K.ref a) a
  else if op = 37 ∨ op = 38 then pm (K.ty a ∧ ¬ K.w a 18) a
  else (true, a)
noncomputable def lkd (K : TK) (a : Int) : Int := cit (K.w (a + 1) 15) 0 (cit (K.w a 16) 1 2)
noncomputable def lop (K : TK) (a : Int) : Int := cit (K.w (a + 1) 15) (-1) (cit (K.w a 16) (-1) (K.op a))
noncomputable def pline (K : TK) (a : Int) : PR :=
  cit (K.sn a) (cit (K.w (a + 1) 15) (true, a + 2) (cit (K.w a 16) (pb (pm (K.sn (a + 1)) (a + 1)) fun b => pb (pm (K.sn b) b) fun b => pb (pm (K.sn b) b) fun b => pm (K.cn b) b) (cit (K.op a < 0) (false, a + 1) (pops K (K.op a) (a + 1))))) (false, a)
/-- again and again, till a place where it stops -/
noncomputable def plp (st : Int → Prop) (f : Int → PR) : Nat → Int → PR
  | 0, a => (false, a)
  | N + 1, a => cit (st a) (true, a) (pb (f a) (plp st f N))
/-- the places where the turns begin -/
noncomputable def pls (st : Int → Prop) (f : Int → PR) : Nat → Int → List Int
  | 0, _ => []
  | N + 1, a => cit (st a) [] (a :: pls st f N (f a).2)
noncomputable def fu (K : TK) (a : Int) : Nat := (K.n - a).toNat + 1
noncomputable def plines (K : TK) (a : Int) : PR := plp (fun b => K.w b 8) (pline K) (fu K a) a
noncomputable def llines (K : TK) (a : Int) : List Int := pls (fun b => K.w b 8) (pline K) (fu K a) a
noncomputable def ptys (K : TK) (a : Int) : PR := plp (fun b => K.w b 13) (fun b => pm (K.ty b) b) (fu K a) a
noncomputable def ltys (K : TK) (a : Int) : List Int := pls (fun b => K.w b 13) (fun b => pm (K.ty b) b) (fu K a) a
/-- the rest of a body, from its ( on -/
noncomputable def pbody (K : TK) (a : Int) : PR :=
  pb (pm (K.w a 12) a) fun b => pb (ptys K b) fun b => pb (pm (K.w (b + 1) 14 ∨ K.ty (b + 1)) (b + 1)) fun b => pb (pm (K.num b) b) fun b => pb (pm (K.w b 7) b) fun b => pb (plines K b) fun b => (true, b + 1)
noncomputable def pmem (K : TK) (a : Int) : PR :=
  cit (K.w a 9) (pb (pm (K.sn (a + 1)) (a + 1)) fun b => pm (K.ty b) b)
    (pb (pm (K.w a 10 ∨ K.w a 11) a) fun b => pb (pm (K.sn b) b) fun b => pbody K b)
noncomputable def pmems (K : TK) (a : Int) : PR := plp (fun b => K.w b 8) (pmem K) (fu K a) a
noncomputable def lmems (K : TK) (a : Int) : List Int := pls (fun b => K.w b 8) (pmem K) (fu K a) a
noncomputable def pcls (K : TK) (a : Int) : PR :=
  pb (pm (K.w a 5) a) fun b => pb (pm (K.cn b) b) fun b => pb (pm (K.w b 6) b) fun b => pb (pm (K.cn b) b) fun b => pb (pm (K.w b 7) b) fun b => pb (pmems K b) fun b => (true, b + 1)
noncomputable def pprog (K : TK) : PR := plp (fun b => ¬ b < K.n) (pcls K) (fu K 0) 0
noncomputable def lcls (K : TK) : List Int := pls (fun b => ¬ b < K.n) (pcls K) (fu K 0) 0
/-! each step goes on, and stays within the tokens -/
def Adv (K : TK) (f : Int → PR) : Prop := ∀ a b, f a = (true, b) → a < b ∧ b ≤ K.n
theorem pb_t {x : PR} {f : Int → PR} {b : Int} (h : pb x f = (true, b)) : ∃ a, x = (true, a) ∧ f a = (true, b) := by
  obtain ⟨x1, x2⟩ := x
  cases x1
  · cases h
  · exact ⟨x2, rfl, h⟩
theorem pm_e {c : Prop} {a b : Int} (h : pm c a = (true, b)) : c ∧ b = a + 1 := by
  rcases Classical.em c with hc | hc
  · rw [pm_t hc] at h; exact ⟨hc, by cases h; rfl⟩
  · rw [pm_f hc] at h; cases h
theorem w_lt {K : TK} {a : Int} {s : Nat} (h : K.w a s) : a < K.n := h.1
theorem pm_lt {K : TK} {c : Prop} {a b : Int} (hc : c → a < K.n) (h : pm c a = (true, b)) : a < b ∧ b ≤ K.n := by
  have := pm_e h
  have := hc this.1
  omega
theorem adv_tys (K : TK) : Adv K fun b => pm (K.ty b) b := fun _ _ h => pm_lt (fun x => x.1) h
theorem pops_le {K : TK} {op a b : Int} (ha : a ≤ K.n) (h : pops K op a = (true, b)) : a ≤ b ∧ b ≤ K.n := by
  have hl : ∀ {c : Prop}, (c → a < K.n) → pm c a = (true, b) → a ≤ b ∧ b ≤ K.n := fun hc h => by have := pm_lt hc h; omega
  unfold pops at h
  split at h
  · exact hl (fun x => x.1) h
  · split at h
    · obtain ⟨c, h1, h2⟩ := pb_t h
      have h3 := pm_lt (fun x : K.num a => x.1) h1
      have h4 := pm_lt (fun x : K.num c => x.1) h2
      omega
    · split at h
      · exact hl (fun x => x.1) h
      · split at h
        · exact hl (fun x => x.1) h
        · split at h
          · exact hl (fun x => x.elim w_lt fun y => y.1) h
          · split at h
            · exact hl (fun x => x.1) h
            · split at h
              · exact hl (fun x => x.1.1) h
              · cases h; omega
theorem adv_line (K : TK) : Adv K (pline K) := by
  intro a b h
  unfold pline at h
  rcases Classical.em (K.sn a) with h1 | h1
  · rw [cit_t h1] at h
    have ha : a < K.n := h1.1
    rcases Classical.em (K.w (a + 1) 15) with h2 | h2
    · rw [cit_t h2] at h
      have := w_lt h2
      cases h; omega
    · rw [cit_f h2] at h
      rcases Classical.em (K.w a 16) with h3 | h3
      · rw [cit_t h3] at h
        obtain ⟨c1, g1, h⟩ := pb_t h
        obtain ⟨c2, g2, h⟩ := pb_t h
        obtain ⟨c3, g3, h⟩ := pb_t h
        have g1 := pm_lt (fun x : K.sn (a + 1) => x.1) g1
        have g2 := pm_lt (fun x : K.sn c1 => x.1) g2
        have g3 := pm_lt (fun x : K.sn c2 => x.1) g3
        have g4 := pm_lt (fun x : K.cn c3 => x.1) h
        omega
      · rw [cit_f h3] at h
        rcases Classical.em (K.op a < 0) with h4 | h4
        · rw [cit_t h4] at h; cases h
        · rw [cit_f h4] at h
          have := pops_le (by omega) h
          omega
  · rw [cit_f h1] at h; cases h
/-- the end of a loop is a place where it stops -/
theorem plp_ok {K : TK} {st : Int → Prop} {f : Int → PR} (hf : Adv K f) : ∀ (N : Nat) (a b : Int), plp st f N a = (true, b) → a ≤ b ∧ st b ∧ (a < b → b ≤ K.n)
  | 0, _, _, h => by cases h
  | N + 1, a, b, h => by
    unfold plp at h
    rcases Classical.em (st a) with h1 | h1
    · rw [cit_t h1] at h
      cases h
      exact ⟨by omega, h1, fun h => by omega⟩
    · rw [cit_f h1] at h
      obtain ⟨c, h2, h3⟩ := pb_t h
      have h4 := hf a c h2
      have h5 := plp_ok hf N c b h3
      refine ⟨by omega, h5.2.1, fun _ => ?_⟩
      by_cases e : c < b
      · exact h5.2.2 e
      · omega
theorem body_le {K : TK} {a b : Int} (h : pbody K a = (true, b)) : a < b ∧ b ≤ K.n := by
  unfold pbody at h
  obtain ⟨c1, g1, h⟩ := pb_t h
  obtain ⟨c2, g2, h⟩ := pb_t h
  obtain ⟨c3, g3, h⟩ := pb_t h
  obtain ⟨c4, g4, h⟩ := pb_t h
  obtain ⟨c5, g5, h⟩ := pb_t h
  obtain ⟨c6, g6, h⟩ := pb_t h
  have g1 := pm_lt (fun x : K.w a 12 => x.1) g1
  have g2 := plp_ok (adv_tys K) _ _ _ g2
  have g3 := pm_lt (fun x : K.w (c2 + 1) 14 ∨ K.ty (c2 + 1) => x.elim w_lt fun y => y.1) g3
  have g4 := pm_lt (fun x : K.num c3 => x.1) g4
  have g5 := pm_lt (fun x : K.w c4 7 => x.1) g5
  have g6 := plp_ok (adv_line K) _ _ _ g6
  have g7 := w_lt g6.2.1
  cases h
  omega
theorem adv_mem (K : TK) : Adv K (pmem K) := by
  intro a b h
  unfold pmem at h
  rcases Classical.em (K.w a 9) with h1 | h1
  · rw [cit_t h1] at h
    obtain ⟨c1, g1, h⟩ := pb_t h
    have g1 := pm_lt (fun x : K.sn (a + 1) => x.1) g1
    have g2 := pm_lt (fun x : K.ty c1 => x.1) h
    omega
  · rw [cit_f h1] at h
    obtain ⟨c1, g1, h⟩ := pb_t h
    obtain ⟨c2, g2, h⟩ := pb_t h
    have g1 := pm_lt (fun x : K.w a 10 ∨ K.w a 11 => x.elim w_lt w_lt) g1
    have g2 := pm_lt (fun x : K.sn c1 => x.1) g2
    have g3 := body_le h
    omega
theorem adv_cls (K : TK) : Adv K (pcls K) := by
  intro a b h
  unfold pcls at h
  obtain ⟨c1, g1, h⟩ := pb_t h
  obtain ⟨c2, g2, h⟩ := pb_t h
  obtain ⟨c3, g3, h⟩ := pb_t h
  obtain ⟨c4, g4, h⟩ := pb_t h
  obtain ⟨c5, g5, h⟩ := pb_t h
  obtain ⟨c6, g6, h⟩ := pb_t h
  have g1 := pm_lt (fun x : K.w a 5 => x.1) g1
  have g2 := pm_lt (fun x : K.cn c1 => x.1) g2
  have g3 := pm_lt (fun x : K.w c2 6 => x.1) g3
  have g4 := pm_lt (fun x : K.cn c3 => x.1) g4
  have g5 := pm_lt (fun x : K.w c4 7 => x.1) g5
  have g6 := plp_ok (adv_mem K) _ _ _ g6
  have g7 := w_lt g6.2.1
  cases h
  omega
/-- how many turns are left is enough -/
theorem fu_lt {K : TK} {f : Int → PR} (hf : Adv K f) {N : Nat} {a b : Int} (hN : (K.n - a).toNat < N + 1) (h : f a = (true, b)) : (K.n - b).toNat < N := by
  have := hf a b h
  omega
