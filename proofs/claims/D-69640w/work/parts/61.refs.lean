/-! a reference put into a field -/
set_option maxRecDepth 100000
theorem nl {b : Bool} {x x' y : Nat} (h : x = x') : (bif b then x else y) = bif b then x' else y := by rw [h]
theorem nr {b : Bool} {x y y' : Nat} (h : y = y') : (bif b then x else y) = bif b then x else y' := by rw [h]
theorem nlh {b : Bool} {x x' y : Nat} (h : b = true → x = x') : (bif b then x else y) = bif b then x' else y := by
  cases b
  · rfl
  · exact h rfl
theorem nz {b : Bool} {x x' y : Nat} (h : b = false) : (bif b then x else y) = bif b then x' else y := by rw [h]; rfl
theorem Nat_beq_ff {a f k j : Nat} (h : (Nat.beq a k && Nat.beq f j) = false) (h1 : Nat.beq a k = true) : Nat.beq f j = false := by rw [h1] at h; exact h
theorem sr_x1 (x1 x2 x3 x4 x5 x6 v a f : Nat) (h : (Nat.beq a 53 && Nat.beq f 1) = false) : sr0 x1 x2 x3 x4 x5 x6 a f = sr0 v x2 x3 x4 x5 x6 a f := by
  unfold sr0
  exact nl (nl (nl (nr (nl (nlh fun e => nl (nr (nz (Nat_beq_ff h e))))))))
theorem su_x1 (x1 x2 x3 x4 x5 x6 v : Nat) : urf (sr0 x1 x2 x3 x4 x5 x6) 53 1 v = sr0 v x2 x3 x4 x5 x6 := by
  funext a f
  show (bif Nat.beq a 53 && Nat.beq f 1 then v else sr0 x1 x2 x3 x4 x5 x6 a f) = sr0 v x2 x3 x4 x5 x6 a f
  cases h : Nat.beq a 53 && Nat.beq f 1 with
  | true =>
    obtain ⟨h1, h2⟩ := (Bool.and_eq_true _ _).mp h
    rw [Nat.eq_of_beq_eq_true h1, Nat.eq_of_beq_eq_true h2]
    rfl
  | false => exact sr_x1 x1 x2 x3 x4 x5 x6 v a f h
theorem sx_11 {L c1 c2 c3 c4 c5 c6 : Nat} (F : Sx → Prop) (h : F (SS L 1 c2 c3 c4 c5 c6)) : F (urf (SS L c1 c2 c3 c4 c5 c6).1 53 1 224, (SS L c1 c2 c3 c4 c5 c6).2) := by
  have e : urf (SS L c1 c2 c3 c4 c5 c6).1 53 1 224 = (SS L 1 c2 c3 c4 c5 c6).1 := su_x1 (pt c1) (pl c2) (pl c3) (pl c4) (pl c5) (pn c6) 224
  rw [e]; exact h
theorem sr_x2 (x1 x2 x3 x4 x5 x6 v a f : Nat) (h : (Nat.beq a 79 && Nat.beq f 3) = false) : sr0 x1 x2 x3 x4 x5 x6 a f = sr0 x1 v x3 x4 x5 x6 a f := by
  unfold sr0
  exact nl (nr (nr (nr (nr (nl (nlh fun e => nl (nr (nr (nz (Nat_beq_ff h e))))))))))
theorem su_x2 (x1 x2 x3 x4 x5 x6 v : Nat) : urf (sr0 x1 x2 x3 x4 x5 x6) 79 3 v = sr0 x1 v x3 x4 x5 x6 := by
  funext a f
  show (bif Nat.beq a 79 && Nat.beq f 3 then v else sr0 x1 x2 x3 x4 x5 x6 a f) = sr0 x1 v x3 x4 x5 x6 a f
  cases h : Nat.beq a 79 && Nat.beq f 3 with
  | true =>
    obtain ⟨h1, h2⟩ := (Bool.and_eq_true _ _).mp h
    rw [Nat.eq_of_beq_eq_true h1, Nat.eq_of_beq_eq_true h2]
    rfl
  | false => exact sr_x2 x1 x2 x3 x4 x5 x6 v a f h
theorem sx_21 {L c1 c2 c3 c4 c5 c6 : Nat} (F : Sx → Prop) (h : F (SS L c1 1 c3 c4 c5 c6)) : F (urf (SS L c1 c2 c3 c4 c5 c6).1 79 3 171, (SS L c1 c2 c3 c4 c5 c6).2) := by
  have e : urf (SS L c1 c2 c3 c4 c5 c6).1 79 3 171 = (SS L c1 1 c3 c4 c5 c6).1 := su_x2 (pt c1) (pl c2) (pl c3) (pl c4) (pl c5) (pn c6) 171
  rw [e]; exact h
theorem sx_22 {L c1 c2 c3 c4 c5 c6 : Nat} (F : Sx → Prop) (h : F (SS L c1 2 c3 c4 c5 c6)) : F (urf (SS L c1 c2 c3 c4 c5 c6).1 79 3 197, (SS L c1 c2 c3 c4 c5 c6).2) := by
  have e : urf (SS L c1 c2 c3 c4 c5 c6).1 79 3 197 = (SS L c1 2 c3 c4 c5 c6).1 := su_x2 (pt c1) (pl c2) (pl c3) (pl c4) (pl c5) (pn c6) 197
  rw [e]; exact h
theorem sr_x3 (x1 x2 x3 x4 x5 x6 v a f : Nat) (h : (Nat.beq a 87 && Nat.beq f 1) = false) : sr0 x1 x2 x3 x4 x5 x6 a f = sr0 x1 x2 v x4 x5 x6 a f := by
  unfold sr0
  exact nr (nl (nl (nl (nr (nlh fun e => nl (nr (nl (nz (Nat_beq_ff h e)))))))))
theorem su_x3 (x1 x2 x3 x4 x5 x6 v : Nat) : urf (sr0 x1 x2 x3 x4 x5 x6) 87 1 v = sr0 x1 x2 v x4 x5 x6 := by
  funext a f
  show (bif Nat.beq a 87 && Nat.beq f 1 then v else sr0 x1 x2 x3 x4 x5 x6 a f) = sr0 x1 x2 v x4 x5 x6 a f
  cases h : Nat.beq a 87 && Nat.beq f 1 with
  | true =>
    obtain ⟨h1, h2⟩ := (Bool.and_eq_true _ _).mp h
    rw [Nat.eq_of_beq_eq_true h1, Nat.eq_of_beq_eq_true h2]
    rfl
  | false => exact sr_x3 x1 x2 x3 x4 x5 x6 v a f h
theorem sx_31 {L c1 c2 c3 c4 c5 c6 : Nat} (F : Sx → Prop) (h : F (SS L c1 c2 1 c4 c5 c6)) : F (urf (SS L c1 c2 c3 c4 c5 c6).1 87 1 171, (SS L c1 c2 c3 c4 c5 c6).2) := by
  have e : urf (SS L c1 c2 c3 c4 c5 c6).1 87 1 171 = (SS L c1 c2 1 c4 c5 c6).1 := su_x3 (pt c1) (pl c2) (pl c3) (pl c4) (pl c5) (pn c6) 171
  rw [e]; exact h
theorem sx_32 {L c1 c2 c3 c4 c5 c6 : Nat} (F : Sx → Prop) (h : F (SS L c1 c2 2 c4 c5 c6)) : F (urf (SS L c1 c2 c3 c4 c5 c6).1 87 1 197, (SS L c1 c2 c3 c4 c5 c6).2) := by
  have e : urf (SS L c1 c2 c3 c4 c5 c6).1 87 1 197 = (SS L c1 c2 2 c4 c5 c6).1 := su_x3 (pt c1) (pl c2) (pl c3) (pl c4) (pl c5) (pn c6) 197
  rw [e]; exact h
theorem sr_x4 (x1 x2 x3 x4 x5 x6 v a f : Nat) (h : (Nat.beq a 92 && Nat.beq f 0) = false) : sr0 x1 x2 x3 x4 x5 x6 a f = sr0 x1 x2 x3 v x5 x6 a f := by
  unfold sr0
  exact nr (nl (nl (nr (nl (nlh fun e => nl (nl (nl (nl (nz (Nat_beq_ff h e))))))))))
theorem su_x4 (x1 x2 x3 x4 x5 x6 v : Nat) : urf (sr0 x1 x2 x3 x4 x5 x6) 92 0 v = sr0 x1 x2 x3 v x5 x6 := by
  funext a f
  show (bif Nat.beq a 92 && Nat.beq f 0 then v else sr0 x1 x2 x3 x4 x5 x6 a f) = sr0 x1 x2 x3 v x5 x6 a f
  cases h : Nat.beq a 92 && Nat.beq f 0 with
  | true =>
    obtain ⟨h1, h2⟩ := (Bool.and_eq_true _ _).mp h
    rw [Nat.eq_of_beq_eq_true h1, Nat.eq_of_beq_eq_true h2]
    rfl
  | false => exact sr_x4 x1 x2 x3 x4 x5 x6 v a f h
theorem sx_41 {L c1 c2 c3 c4 c5 c6 : Nat} (F : Sx → Prop) (h : F (SS L c1 c2 c3 1 c5 c6)) : F (urf (SS L c1 c2 c3 c4 c5 c6).1 92 0 171, (SS L c1 c2 c3 c4 c5 c6).2) := by
  have e : urf (SS L c1 c2 c3 c4 c5 c6).1 92 0 171 = (SS L c1 c2 c3 1 c5 c6).1 := su_x4 (pt c1) (pl c2) (pl c3) (pl c4) (pl c5) (pn c6) 171
  rw [e]; exact h
theorem sx_42 {L c1 c2 c3 c4 c5 c6 : Nat} (F : Sx → Prop) (h : F (SS L c1 c2 c3 2 c5 c6)) : F (urf (SS L c1 c2 c3 c4 c5 c6).1 92 0 197, (SS L c1 c2 c3 c4 c5 c6).2) := by
  have e : urf (SS L c1 c2 c3 c4 c5 c6).1 92 0 197 = (SS L c1 c2 c3 2 c5 c6).1 := su_x4 (pt c1) (pl c2) (pl c3) (pl c4) (pl c5) (pn c6) 197
  rw [e]; exact h
theorem sr_x5 (x1 x2 x3 x4 x5 x6 v a f : Nat) (h : (Nat.beq a 162 && Nat.beq f 0) = false) : sr0 x1 x2 x3 x4 x5 x6 a f = sr0 x1 x2 x3 x4 v x6 a f := by
  unfold sr0
  exact nr (nr (nl (nr (nr (nr (nlh fun e => nl (nl (nl (nz (Nat_beq_ff h e))))))))))
theorem su_x5 (x1 x2 x3 x4 x5 x6 v : Nat) : urf (sr0 x1 x2 x3 x4 x5 x6) 162 0 v = sr0 x1 x2 x3 x4 v x6 := by
  funext a f
  show (bif Nat.beq a 162 && Nat.beq f 0 then v else sr0 x1 x2 x3 x4 x5 x6 a f) = sr0 x1 x2 x3 x4 v x6 a f
  cases h : Nat.beq a 162 && Nat.beq f 0 with
  | true =>
    obtain ⟨h1, h2⟩ := (Bool.and_eq_true _ _).mp h
    rw [Nat.eq_of_beq_eq_true h1, Nat.eq_of_beq_eq_true h2]
    rfl
  | false => exact sr_x5 x1 x2 x3 x4 x5 x6 v a f h
theorem sx_51 {L c1 c2 c3 c4 c5 c6 : Nat} (F : Sx → Prop) (h : F (SS L c1 c2 c3 c4 1 c6)) : F (urf (SS L c1 c2 c3 c4 c5 c6).1 162 0 171, (SS L c1 c2 c3 c4 c5 c6).2) := by
  have e : urf (SS L c1 c2 c3 c4 c5 c6).1 162 0 171 = (SS L c1 c2 c3 c4 1 c6).1 := su_x5 (pt c1) (pl c2) (pl c3) (pl c4) (pl c5) (pn c6) 171
  rw [e]; exact h
theorem sx_52 {L c1 c2 c3 c4 c5 c6 : Nat} (F : Sx → Prop) (h : F (SS L c1 c2 c3 c4 2 c6)) : F (urf (SS L c1 c2 c3 c4 c5 c6).1 162 0 197, (SS L c1 c2 c3 c4 c5 c6).2) := by
  have e : urf (SS L c1 c2 c3 c4 c5 c6).1 162 0 197 = (SS L c1 c2 c3 c4 2 c6).1 := su_x5 (pt c1) (pl c2) (pl c3) (pl c4) (pl c5) (pn c6) 197
  rw [e]; exact h
theorem sr_x6 (x1 x2 x3 x4 x5 x6 v a f : Nat) (h : (Nat.beq a 162 && Nat.beq f 11) = false) : sr0 x1 x2 x3 x4 x5 x6 a f = sr0 x1 x2 x3 x4 x5 v a f := by
  unfold sr0
  exact nr (nr (nl (nr (nr (nr (nlh fun e => nr (nr (nr (nl (nz (Nat_beq_ff h e)))))))))))
theorem su_x6 (x1 x2 x3 x4 x5 x6 v : Nat) : urf (sr0 x1 x2 x3 x4 x5 x6) 162 11 v = sr0 x1 x2 x3 x4 x5 v := by
  funext a f
  show (bif Nat.beq a 162 && Nat.beq f 11 then v else sr0 x1 x2 x3 x4 x5 x6 a f) = sr0 x1 x2 x3 x4 x5 v a f
  cases h : Nat.beq a 162 && Nat.beq f 11 with
  | true =>
    obtain ⟨h1, h2⟩ := (Bool.and_eq_true _ _).mp h
    rw [Nat.eq_of_beq_eq_true h1, Nat.eq_of_beq_eq_true h2]
    rfl
  | false => exact sr_x6 x1 x2 x3 x4 x5 x6 v a f h
theorem sx_61 {L c1 c2 c3 c4 c5 c6 : Nat} (F : Sx → Prop) (h : F (SS L c1 c2 c3 c4 c5 1)) : F (urf (SS L c1 c2 c3 c4 c5 c6).1 162 11 225, (SS L c1 c2 c3 c4 c5 c6).2) := by
  have e : urf (SS L c1 c2 c3 c4 c5 c6).1 162 11 225 = (SS L c1 c2 c3 c4 c5 1).1 := su_x6 (pt c1) (pl c2) (pl c3) (pl c4) (pl c5) (pn c6) 225
  rw [e]; exact h
