/-! the structure with its changing references, and small lemmas for conditions -/
set_option maxRecDepth 100000
def pt (c : Nat) : Nat := bif Nat.beq c 0 then 0 else 224
def pl (c : Nat) : Nat := bif Nat.beq c 0 then 0 else bif Nat.beq c 1 then 171 else 197
def pn (c : Nat) : Nat := bif Nat.beq c 0 then 0 else 225
abbrev SS (L c1 c2 c3 c4 c5 c6 : Nat) : Sx := S0 L (pt c1) (pl c2) (pl c3) (pl c4) (pl c5) (pn c6)
def Rw (a f v : Nat) : Prop := rws.any (Nat.beq v) = true → a + 1 = v ∧ f = 0
theorem rw_b {a f : Nat} {b : Bool} {x y : Nat} (hx : Rw a f x) (hy : Rw a f y) : Rw a f (bif b then x else y) := by
  cases b
  · exact hy
  · exact hx
theorem rw_l {a f k : Nat} : Rw a f (bif Nat.beq a k then (bif Nat.beq f 0 then k + 1 else 0) else 0) := by
  cases h : Nat.beq a k with
  | false => exact fun h => Bool.noConfusion (show false = true from h)
  | true =>
    cases h' : Nat.beq f 0 with
    | false => exact fun h => Bool.noConfusion (show false = true from h)
    | true =>
      have := Nat.eq_of_beq_eq_true h
      have := Nat.eq_of_beq_eq_true h'
      subst a f
      exact fun _ => ⟨rfl, rfl⟩
theorem rw_n {a f v : Nat} (h : rws.any (Nat.beq v) = false) : Rw a f v := fun h' => by rw [h] at h'; cases h'
theorem rw_pt {a f c : Nat} : Rw a f (pt c) := by
  unfold pt
  exact rw_b (rw_n rfl) (rw_n rfl)
theorem rw_pl {a f c : Nat} : Rw a f (pl c) := by
  unfold pl
  exact rw_b (rw_n rfl) (rw_b (rw_n rfl) (rw_n rfl))
theorem rw_pn {a f c : Nat} : Rw a f (pn c) := by
  unfold pn
  exact rw_b (rw_n rfl) (rw_n rfl)
set_option maxHeartbeats 4000000 in
theorem sr_row {c1 c2 c3 c4 c5 c6 a f : Nat} : Rw a f (sr0 (pt c1) (pl c2) (pl c3) (pl c4) (pl c5) (pn c6) a f) := by
  unfold sr0
  repeat' (first | exact rw_l | exact rw_pt | exact rw_pl | exact rw_pn | exact rw_n rfl | apply rw_b)
theorem row_i {L c1 c2 c3 c4 c5 c6 r : Nat} (hr : rws.any (Nat.beq (r + 1)) = true) : ∀ a' f', (SS L c1 c2 c3 c4 c5 c6).1 a' f' = r + 1 → a' = r ∧ f' = 0 := by
  intro a' f' h
  have h2 := sr_row (c1 := c1) (c2 := c2) (c3 := c3) (c4 := c4) (c5 := c5) (c6 := c6) (a := a') (f := f')
  have h3 : sr0 (pt c1) (pl c2) (pl c3) (pl c4) (pl c5) (pn c6) a' f' = r + 1 := h
  rw [h3] at h2
  obtain ⟨h4, h5⟩ := h2 hr
  exact ⟨by omega, h5⟩
theorem row_55 {L c1 c2 c3 c4 c5 c6 : Nat} : ∀ a' f', (SS L c1 c2 c3 c4 c5 c6).1 a' f' = 55 → a' = 54 ∧ f' = 0 := row_i (r := 54) (by decide)
theorem row_57 {L c1 c2 c3 c4 c5 c6 : Nat} : ∀ a' f', (SS L c1 c2 c3 c4 c5 c6).1 a' f' = 57 → a' = 56 ∧ f' = 0 := row_i (r := 56) (by decide)
theorem row_60 {L c1 c2 c3 c4 c5 c6 : Nat} : ∀ a' f', (SS L c1 c2 c3 c4 c5 c6).1 a' f' = 60 → a' = 59 ∧ f' = 0 := row_i (r := 59) (by decide)
theorem row_62 {L c1 c2 c3 c4 c5 c6 : Nat} : ∀ a' f', (SS L c1 c2 c3 c4 c5 c6).1 a' f' = 62 → a' = 61 ∧ f' = 0 := row_i (r := 61) (by decide)
theorem row_64 {L c1 c2 c3 c4 c5 c6 : Nat} : ∀ a' f', (SS L c1 c2 c3 c4 c5 c6).1 a' f' = 64 → a' = 63 ∧ f' = 0 := row_i (r := 63) (by decide)
theorem row_66 {L c1 c2 c3 c4 c5 c6 : Nat} : ∀ a' f', (SS L c1 c2 c3 c4 c5 c6).1 a' f' = 66 → a' = 65 ∧ f' = 0 := row_i (r := 65) (by decide)
theorem row_68 {L c1 c2 c3 c4 c5 c6 : Nat} : ∀ a' f', (SS L c1 c2 c3 c4 c5 c6).1 a' f' = 68 → a' = 67 ∧ f' = 0 := row_i (r := 67) (by decide)
theorem row_70 {L c1 c2 c3 c4 c5 c6 : Nat} : ∀ a' f', (SS L c1 c2 c3 c4 c5 c6).1 a' f' = 70 → a' = 69 ∧ f' = 0 := row_i (r := 69) (by decide)
theorem row_72 {L c1 c2 c3 c4 c5 c6 : Nat} : ∀ a' f', (SS L c1 c2 c3 c4 c5 c6).1 a' f' = 72 → a' = 71 ∧ f' = 0 := row_i (r := 71) (by decide)
theorem row_74 {L c1 c2 c3 c4 c5 c6 : Nat} : ∀ a' f', (SS L c1 c2 c3 c4 c5 c6).1 a' f' = 74 → a' = 73 ∧ f' = 0 := row_i (r := 73) (by decide)
theorem row_76 {L c1 c2 c3 c4 c5 c6 : Nat} : ∀ a' f', (SS L c1 c2 c3 c4 c5 c6).1 a' f' = 76 → a' = 75 ∧ f' = 0 := row_i (r := 75) (by decide)
theorem row_78 {L c1 c2 c3 c4 c5 c6 : Nat} : ∀ a' f', (SS L c1 c2 c3 c4 c5 c6).1 a' f' = 78 → a' = 77 ∧ f' = 0 := row_i (r := 77) (by decide)
theorem row_84 {L c1 c2 c3 c4 c5 c6 : Nat} : ∀ a' f', (SS L c1 c2 c3 c4 c5 c6).1 a' f' = 84 → a' = 83 ∧ f' = 0 := row_i (r := 83) (by decide)
theorem row_86 {L c1 c2 c3 c4 c5 c6 : Nat} : ∀ a' f', (SS L c1 c2 c3 c4 c5 c6).1 a' f' = 86 → a' = 85 ∧ f' = 0 := row_i (r := 85) (by decide)
theorem row_94 {L c1 c2 c3 c4 c5 c6 : Nat} : ∀ a' f', (SS L c1 c2 c3 c4 c5 c6).1 a' f' = 94 → a' = 93 ∧ f' = 0 := row_i (r := 93) (by decide)
