/-! the text is cut into tokens: one character after the other -/
set_option maxRecDepth 100000
def spl (D : Dt) : List (Nat × (Int → Int)) → Dt
  | [] => D
  | (a, f) :: t => spl (sp D a f) t
theorem spl_v (D' : Dt) (b : Nat) : ∀ (as : List Nat) (D : Dt), (b ∈ as ∨ D' b = D b) → spl D (as.map fun a => (a, D' a)) b = D' b
  | [], D, h => by
    rcases h with h | h
    · cases h
    · exact h.symm
  | a :: as, D, h => by
    show spl (sp D a (D' a)) (as.map fun a => (a, D' a)) b = D' b
    refine spl_v D' b as _ ?_
    by_cases e : b = a
    · right
      show _ = (bif Nat.beq b a then D' a else D b)
      subst e
      rw [Nat.beq_refl]; rfl
    · rcases h with h | h
      · rcases List.mem_cons.mp h with h | h
        · exact absurd h e
        · exact Or.inl h
      · right
        show _ = (bif Nat.beq b a then D' a else D b)
        cases e2 : Nat.beq b a with
        | true => exact absurd (Nat.eq_of_beq_eq_true e2) e
        | false => exact h
theorem spl_ext (as : List Nat) {D D' : Dt} (h : ∀ b, ¬ b ∈ as → D' b = D b) : D' = spl D (as.map fun a => (a, D' a)) := by
  funext b
  refine (spl_v D' b as D ?_).symm
  by_cases e : b ∈ as
  · exact Or.inl e
  · exact Or.inr (h b e)
theorem sp_a {D : Dt} {a b : Nat} {f : Int → Int} (h : ¬ b = a) : sp D a f b = D b := by
  show (bif Nat.beq b a then f else D b) = D b
  cases e : Nat.beq b a with
  | true => exact absurd (Nat.eq_of_beq_eq_true e) h
  | false => rfl
abbrev TS : Type := List (Int × Int) × Int × Int
def ext1 : List (Int × Int) → Int → List (Int × Int)
  | [], _ => []
  | (f, _) :: r, e => (f, e) :: r
noncomputable def cit (P : Prop) {α : Type} (x y : α) : α := @ite α P (Classical.propDecidable P) x y
theorem cit_t {P : Prop} {α : Type} {x y : α} (h : P) : cit P x y = x := @if_pos P (Classical.propDecidable P) h α x y
theorem cit_f {P : Prop} {α : Type} {x y : α} (h : ¬ P) : cit P x y = y := @if_neg P (Classical.propDecidable P) h α x y
noncomputable def rmk (c m : Int) : Int := if c = 10 then 0 else if c = 59 then 1 else m
/-- one character: the tokens so far (the last first), in a word, in a remark -/
noncomputable def tst (c k : Int) (s : TS) : TS :=
  cit (¬ rmk c s.2.2 = 0 ∨ cB c) (s.1, 0, rmk c s.2.2) (cit (cM c) ((k, k + 1) :: s.1, 0, rmk c s.2.2) (cit (s.2.1 = 0) ((k, k + 1) :: s.1, 1, rmk c s.2.2) (ext1 s.1 (k + 1), 1, rmk c s.2.2)))
noncomputable def trun (tx : Int → Int) : Nat → Int → TS → Bool × TS
  | 0, _, s => (true, s)
  | N + 1, k, s => cit (cR (tx k)) (trun tx N (k + 1) (tst (tx k) k s)) (false, s)
def tp (x : Bool × TS) : Bool × List (Int × Int) := (x.1, x.2.1)
/-- the tokens of a text -/
noncomputable def tks (tx : Int → Int) (n : Int) : Bool × List (Int × Int) := tp (trun tx n.toNat 0 ([], 0, 0))
/-- the tokens lie in two rows -/
def TRep (f t : Int → Int) : List (Int × Int) → Prop
  | [] => True
  | x :: r => f r.length = x.1 ∧ t r.length = x.2 ∧ TRep f t r
theorem TRep_c {f t f' t' : Int → Int} : ∀ (r : List (Int × Int)), (∀ i : Int, 0 ≤ i → i < r.length → f' i = f i ∧ t' i = t i) → TRep f t r → TRep f' t' r
  | [], _, _ => trivial
  | x :: r, h, hr => by
    have h1 := h r.length (by omega) (by rw [List.length_cons]; omega)
    refine ⟨h1.1.trans hr.1, h1.2.trans hr.2.1, TRep_c r (fun i h2 h3 => h i h2 (by rw [List.length_cons]; omega)) hr.2.2⟩
/-- the tokens lie between 0 and n -/
def TIn (n : Int) (r : List (Int × Int)) : Prop := ∀ x ∈ r, 0 ≤ x.1 ∧ x.1 < x.2 ∧ x.2 ≤ n
theorem tst_in {c k : Int} {s : TS} (hk : 0 ≤ k) (h : TIn k s.1) : TIn (k + 1) (tst c k s).1 := by
  have h' : TIn (k + 1) s.1 := fun x hx => by have := h x hx; omega
  have hc : TIn (k + 1) ((k, k + 1) :: s.1) := fun x hx => by
    rcases List.mem_cons.mp hx with rfl | hx
    · exact ⟨hk, by show k < k + 1; omega, by show k + 1 ≤ k + 1; omega⟩
    · exact h' x hx
  have he : TIn (k + 1) (ext1 s.1 (k + 1)) := by
    intro x hx
    rcases hs : s.1 with _ | ⟨⟨f, t⟩, r⟩
    · rw [hs] at hx; cases hx
    · rw [hs] at hx h
      rcases List.mem_cons.mp hx with rfl | hx
      · have := h (f, t) (List.mem_cons_self)
        dsimp only at this ⊢
        omega
      · have := h x (List.mem_cons_of_mem _ hx); omega
  unfold tst
  by_cases h1 : ¬ rmk c s.2.2 = 0 ∨ cB c
  · rw [cit_t h1]; exact h'
  · rw [cit_f h1]
    rcases Classical.em (cM c) with h2 | h2
    · rw [cit_t h2]; exact hc
    · rw [cit_f h2]
      rcases Classical.em (s.2.1 = 0) with h3 | h3
      · rw [cit_t h3]; exact hc
      · rw [cit_f h3]; exact he
theorem trun_in {tx : Int → Int} : ∀ (N : Nat) (k : Int) (s : TS), 0 ≤ k → TIn k s.1 → TIn (k + N) (trun tx N k s).2.1
  | 0, k, s, _, h => by intro x hx; have := h x hx; omega
  | N + 1, k, s, hk, h => by
    unfold trun
    rcases Classical.em (cR (tx k)) with h1 | h1
    · rw [cit_t h1]
      have := trun_in (tx := tx) N (k + 1) (tst (tx k) k s) (by omega) (tst_in hk h)
      intro x hx
      have := this x hx
      omega
    · rw [cit_f h1]
      intro x hx
      have := h x hx
      omega
theorem trun_len {tx : Int → Int} : ∀ (N : Nat) (k : Int) (s : TS), (trun tx N k s).2.1.length ≤ s.1.length + N
  | 0, k, s => by show s.1.length ≤ s.1.length + 0; omega
  | N + 1, k, s => by
    unfold trun
    rcases Classical.em (cR (tx k)) with h1 | h1
    · rw [cit_t h1]
      have h := trun_len (tx := tx) N (k + 1) (tst (tx k) k s)
      have h2 : (tst (tx k) k s).1.length ≤ s.1.length + 1 := by
        unfold tst
        by_cases h1 : ¬ rmk (tx k) s.2.2 = 0 ∨ cB (tx k)
        · rw [cit_t h1]; show s.1.length ≤ _; omega
        · rw [cit_f h1]
          rcases Classical.em (cM (tx k)) with h2 | h2
          · rw [cit_t h2]; exact Nat.le_refl _
          · rw [cit_f h2]
            rcases Classical.em (s.2.1 = 0) with h3 | h3
            · rw [cit_t h3]; exact Nat.le_refl _
            · rw [cit_f h3]
              rcases hs : s.1 with _ | ⟨⟨f, t⟩, r⟩
              · exact Nat.zero_le _
              · exact Nat.le_succ _
      omega
    · rw [cit_f h1]; show s.1.length ≤ _; omega
theorem tst_b {c k : Int} {s : TS} (h : ¬ rmk c s.2.2 = 0 ∨ cB c) : tst c k s = (s.1, 0, rmk c s.2.2) := cit_t h
theorem tst_m {c k : Int} {s : TS} (h : ¬ (¬ rmk c s.2.2 = 0 ∨ cB c)) (hm : cM c) : tst c k s = ((k, k + 1) :: s.1, 0, rmk c s.2.2) := (cit_f h).trans (cit_t hm)
theorem tst_w {c k : Int} {s : TS} (h : ¬ (¬ rmk c s.2.2 = 0 ∨ cB c)) (hm : ¬ cM c) (hw : s.2.1 = 0) : tst c k s = ((k, k + 1) :: s.1, 1, rmk c s.2.2) := (cit_f h).trans ((cit_f hm).trans (cit_t hw))
theorem tst_e {c k : Int} {s : TS} (h : ¬ (¬ rmk c s.2.2 = 0 ∨ cB c)) (hm : ¬ cM c) (hw : ¬ s.2.1 = 0) : tst c k s = (ext1 s.1 (k + 1), 1, rmk c s.2.2) := (cit_f h).trans ((cit_f hm).trans (cit_f hw))
theorem trun_t {tx : Int → Int} {n k : Int} {s : TS} (h : k < n) (hr : cR (tx k)) : trun tx (n - k).toNat k s = trun tx (n - (k + 1)).toNat (k + 1) (tst (tx k) k s) := by
  rw [show (n - k).toNat = (n - (k + 1)).toNat + 1 by omega]
  exact cit_t hr
theorem trun_f {tx : Int → Int} {n k : Int} {s : TS} (h : k < n) (hr : ¬ cR (tx k)) : trun tx (n - k).toNat k s = (false, s) := by
  rw [show (n - k).toNat = (n - (k + 1)).toNat + 1 by omega]
  exact cit_f hr
theorem trun_z {tx : Int → Int} {n k : Int} {s : TS} (h : ¬ k < n) : trun tx (n - k).toNat k s = (true, s) := by
  rw [show (n - k).toNat = 0 by omega]
  rfl
/-- the characters of a word -/
theorem trun_w {tx : Int → Int} {n f : Int} {r : List (Int × Int)} : ∀ (N : Nat) (j e : Int), (e - j).toNat = N → j ≤ e → e ≤ n → (∀ i, j ≤ i → i < e → cW (tx i)) → trun tx (n - j).toNat j ((f, j) :: r, 1, 0) = trun tx (n - e).toNat e ((f, e) :: r, 1, 0)
  | 0, j, e, h, h1, _, _ => by rw [show j = e by omega]
  | N + 1, j, e, h, h1, h2, hw => by
    have hj := hw j (by omega) (by omega)
    have hr0 : rmk (tx j) 0 = 0 := by
      unfold rmk
      split
      · rfl
      · rw [if_neg hj.2.2.2]
    rw [trun_t (by omega) hj.1, tst_e (s := ((f, j) :: r, 1, 0)) (fun x => x.elim (fun y => y hr0) hj.2.1) hj.2.2.1 (show ¬ (1 : Int) = 0 by decide)]
    show trun tx (n - (j + 1)).toNat (j + 1) ((f, j + 1) :: r, 1, rmk (tx j) 0) = _
    rw [hr0]
    exact trun_w N (j + 1) e (by omega) (by omega) h2 (fun i h3 h4 => hw i (by omega) h4)
/-- the characters of a remark -/
theorem trun_r {tx : Int → Int} {n : Int} {r : List (Int × Int)} : ∀ (N : Nat) (j e : Int), (e - j).toNat = N → j ≤ e → e ≤ n → (∀ i, j ≤ i → i < e → ¬ tx i = 10 ∧ cR (tx i)) → trun tx (n - j).toNat j (r, 0, 1) = trun tx (n - e).toNat e (r, 0, 1)
  | 0, j, e, h, h1, _, _ => by rw [show j = e by omega]
  | N + 1, j, e, h, h1, h2, hw => by
    have hj := hw j (by omega) (by omega)
    have hr0 : rmk (tx j) 1 = 1 := by
      unfold rmk
      rw [if_neg hj.1]
      split <;> rfl
    rw [trun_t (by omega) hj.2, tst_b (s := (r, 0, 1)) (Or.inl (by rw [hr0]; decide))]
    show trun tx (n - (j + 1)).toNat (j + 1) (r, 0, rmk (tx j) 1) = _
    rw [hr0]
    exact trun_r N (j + 1) e (by omega) (by omega) h2 (fun i h3 h4 => hw i (by omega) h4)
/-- a bad character in a remark -/
theorem trun_rf {tx : Int → Int} {n : Int} {r : List (Int × Int)} : ∀ (N : Nat) (j i : Int), (i - j).toNat = N → j ≤ i → i < n → ¬ cR (tx i) → (∀ i', j ≤ i' → i' < i → ¬ tx i' = 10) → tp (trun tx (n - j).toNat j (r, 0, 1)) = (false, r)
  | 0, j, i, h, h1, h2, hr, _ => by rw [show j = i by omega, trun_f h2 hr]; rfl
  | N + 1, j, i, h, h1, h2, hr, hw => by
    by_cases hc : cR (tx j)
    · have hj := hw j (by omega) (by omega)
      have hr0 : rmk (tx j) 1 = 1 := by
        unfold rmk
        rw [if_neg hj]
        split <;> rfl
      rw [trun_t (by omega) hc, tst_b (s := (r, 0, 1)) (Or.inl (by rw [hr0]; decide))]
      show tp (trun tx (n - (j + 1)).toNat (j + 1) (r, 0, rmk (tx j) 1)) = _
      rw [hr0]
      exact trun_rf N (j + 1) i (by omega) (by omega) h2 hr (fun i' h3 h4 => hw i' (by omega) h4)
    · rw [trun_f (by omega) hc]; rfl
/-- the end of a remark -/
theorem trun_re {tx : Int → Int} {n e : Int} {r : List (Int × Int)} (h : e < n → tx e = 10) : tp (trun tx (n - e).toNat e (r, 0, 1)) = tp (trun tx (n - e).toNat e (r, 0, 0)) := by
  by_cases he : e < n
  · have h10 := h he
    have hr : cR (tx e) := by rw [h10]; unfold cR; omega
    have hb : cB (tx e) := by rw [h10]; unfold cB; omega
    have hm : ∀ m, rmk (tx e) m = 0 := fun m => by unfold rmk; rw [if_pos h10]
    rw [trun_t he hr, trun_t he hr, tst_b (s := (r, 0, 1)) (Or.inr hb), tst_b (s := (r, 0, 0)) (Or.inr hb), hm, hm]
  · rw [trun_z he, trun_z he]; rfl
