/-! small lemmas for conditions -/
noncomputable def ib (P : Prop) : Int := @ite Int P (Classical.propDecidable P) 1 0
theorem ib_t {P : Prop} (h : P) : ib P = 1 := @if_pos P (Classical.propDecidable P) h Int 1 0
theorem ib_f {P : Prop} (h : ¬ P) : ib P = 0 := @if_neg P (Classical.propDecidable P) h Int 1 0
theorem ib_z {P : Prop} : ib P = 0 ↔ ¬ P := ⟨fun h p => absurd ((ib_t p).symm.trans h) (by decide), ib_f⟩
theorem ib_o {P : Prop} : ib P = 1 ↔ P := ⟨fun h => Classical.byContradiction fun p => absurd ((ib_f p).symm.trans h) (by decide), ib_t⟩
theorem ib_01 (P : Prop) : 0 ≤ ib P ∧ ib P ≤ 1 := by
  rcases Classical.em P with h | h
  · rw [ib_t h]; decide
  · rw [ib_f h]; decide
theorem ib_c {P P' : Prop} (h : P ↔ P') : ib P = ib P' := by rw [propext h]
theorem lc_e {x y : Int} : lcmp x y = 0 ↔ x = y := by
  unfold lcmp
  split
  · constructor
    · intro h; cases h
    · omega
  · split
    · constructor
      · intro _; assumption
      · intro _; rfl
    · constructor
      · intro h; cases h
      · omega
theorem lc_l {x y : Int} : lcmp x y < 0 ↔ x < y := by
  unfold lcmp
  split
  · omega
  · split <;> omega
theorem lc_g {x y : Int} : 0 < lcmp x y ↔ y < x := by
  unfold lcmp
  split
  · omega
  · split <;> omega
theorem w32_of {x : Int} (h : -2147483648 ≤ x ∧ x ≤ 2147483647) : w32 x = x := by unfold w32; omega
theorem w64_of {x : Int} (h : -9223372036854775808 ≤ x ∧ x ≤ 9223372036854775807) : w64 x = x := by unfold w64; omega
theorem w32_i (F : Int → Prop) {e : Int} (h : -2147483648 ≤ e ∧ e ≤ 2147483647) (x : F e) : F (w32 e) := by rw [w32_of h]; exact x
theorem w64_i (F : Int → Prop) {e : Int} (h : -9223372036854775808 ≤ e ∧ e ≤ 9223372036854775807) (x : F e) : F (w64 e) := by rw [w64_of h]; exact x
theorem q_i {Q : Out → Wd → Prop} {x y : Int} {w : Wd} (h : Q (.inl [vi x]) w) (e : x = y) : Q (.inl [vi y]) w := by rw [← e]; exact h
theorem ub_s {D : Dt} {a : Nat} {i v : Int} : up D a i v a i = v := if_pos ⟨rfl, rfl⟩
theorem ub_n {D : Dt} {a : Nat} {i j v : Int} (h : ¬ j = i) : up D a i v a j = D a j := if_neg (fun x => h x.2)
theorem ub_a {D : Dt} {a b : Nat} {i v : Int} (h : ¬ b = a) : up D a i v b = D b := by funext j; exact if_neg (fun x => h x.1)
