/-! the String constants at the start -/
set_option maxRecDepth 100000
def tmS (i : Nat) : Term := .string (owS (sq i / 1000)) (sq i % 1000)
def scL (i : Nat) : List Cond := [.exactly (tmS i) "java/lang/String", .eq (.field (tmS i) "java/lang/String" "coder" "B") (.int 0), .arrayOf (.field (tmS i) "java/lang/String" "value" "[B") .byte, .eq (.length (.field (tmS i) "java/lang/String" "value" "[B")) (.int (Int32.ofNat (sbt i).length))] ++ (List.range (sbt i).length).map fun j => .eq (.elem (.field (tmS i) "java/lang/String" "value" "[B") (.int (Int32.ofNat j))) (.int (Int32.ofInt ((sbt i).getD j 0)))
def scK (i : Nat) : Nat × Nat := ([(424, 8), (433, 8), (441, 8), (25, 9), (34, 6), (40, 5), (45, 5), (50, 9), (59, 10), (69, 10), (86, 5), (91, 5), (96, 8), (104, 5), (109, 9), (118, 217), (335, 7), (343, 81), (79, 7), (449, 9), (459, 6), (466, 5), (472, 5), (478, 9), (488, 10), (499, 10), (510, 5), (516, 5), (522, 8), (532, 5), (548, 218), (538, 9), (766, 50), (816, 7), (825, 82), (907, 8), (916, 8)] : List (Nat × Nat)).getD (i - 2) (0, 0)
theorem sc_2 : scL 2 = ((flatC narrow_1).drop 424).take 8 := by decide +kernel
theorem sc_3 : scL 3 = ((flatC narrow_1).drop 433).take 8 := by decide +kernel
theorem sc_4 : scL 4 = ((flatC narrow_1).drop 441).take 8 := by decide +kernel
theorem sc_5 : scL 5 = ((flatC narrow_1).drop 25).take 9 := by decide +kernel
theorem sc_6 : scL 6 = ((flatC narrow_1).drop 34).take 6 := by decide +kernel
theorem sc_7 : scL 7 = ((flatC narrow_1).drop 40).take 5 := by decide +kernel
theorem sc_8 : scL 8 = ((flatC narrow_1).drop 45).take 5 := by decide +kernel
theorem sc_9 : scL 9 = ((flatC narrow_1).drop 50).take 9 := by decide +kernel
theorem sc_10 : scL 10 = ((flatC narrow_1).drop 59).take 10 := by decide +kernel
theorem sc_11 : scL 11 = ((flatC narrow_1).drop 69).take 10 := by decide +kernel
theorem sc_12 : scL 12 = ((flatC narrow_1).drop 86).take 5 := by decide +kernel
theorem sc_13 : scL 13 = ((flatC narrow_1).drop 91).take 5 := by decide +kernel
theorem sc_14 : scL 14 = ((flatC narrow_1).drop 96).take 8 := by decide +kernel
theorem sc_15 : scL 15 = ((flatC narrow_1).drop 104).take 5 := by decide +kernel
theorem sc_16 : scL 16 = ((flatC narrow_1).drop 109).take 9 := by decide +kernel
theorem sc_17 : scL 17 = ((flatC narrow_1).drop 118).take 217 := by decide +kernel
theorem sc_18 : scL 18 = ((flatC narrow_1).drop 335).take 7 := by decide +kernel
theorem sc_19 : scL 19 = ((flatC narrow_1).drop 343).take 81 := by decide +kernel
theorem sc_20 : scL 20 = ((flatC narrow_1).drop 79).take 7 := by decide +kernel
theorem sc_21 : scL 21 = ((flatC narrow_1).drop 449).take 9 := by decide +kernel
theorem sc_22 : scL 22 = ((flatC narrow_1).drop 459).take 6 := by decide +kernel
theorem sc_23 : scL 23 = ((flatC narrow_1).drop 466).take 5 := by decide +kernel
theorem sc_24 : scL 24 = ((flatC narrow_1).drop 472).take 5 := by decide +kernel
theorem sc_25 : scL 25 = ((flatC narrow_1).drop 478).take 9 := by decide +kernel
theorem sc_26 : scL 26 = ((flatC narrow_1).drop 488).take 10 := by decide +kernel
theorem sc_27 : scL 27 = ((flatC narrow_1).drop 499).take 10 := by decide +kernel
theorem sc_28 : scL 28 = ((flatC narrow_1).drop 510).take 5 := by decide +kernel
theorem sc_29 : scL 29 = ((flatC narrow_1).drop 516).take 5 := by decide +kernel
theorem sc_30 : scL 30 = ((flatC narrow_1).drop 522).take 8 := by decide +kernel
theorem sc_31 : scL 31 = ((flatC narrow_1).drop 532).take 5 := by decide +kernel
theorem sc_32 : scL 32 = ((flatC narrow_1).drop 548).take 218 := by decide +kernel
theorem sc_33 : scL 33 = ((flatC narrow_1).drop 538).take 9 := by decide +kernel
theorem sc_34 : scL 34 = ((flatC narrow_1).drop 766).take 50 := by decide +kernel
theorem sc_35 : scL 35 = ((flatC narrow_1).drop 816).take 7 := by decide +kernel
theorem sc_36 : scL 36 = ((flatC narrow_1).drop 825).take 82 := by decide +kernel
theorem sc_37 : scL 37 = ((flatC narrow_1).drop 907).take 8 := by decide +kernel
theorem sc_38 : scL 38 = ((flatC narrow_1).drop 916).take 8 := by decide +kernel
theorem sc_mem : ∀ i, 2 ≤ i → i ≤ 38 → ∀ x ∈ scL i, x ∈ flatC narrow_1 := by
  intro i h2 h38 x hx
  have key : ∃ k m, scL i = ((flatC narrow_1).drop k).take m := by
    rcases (show i = 2 ∨ i = 3 ∨ i = 4 ∨ i = 5 ∨ i = 6 ∨ i = 7 ∨ i = 8 ∨ i = 9 ∨ i = 10 ∨ i = 11 ∨ i = 12 ∨ i = 13 ∨ i = 14 ∨ i = 15 ∨ i = 16 ∨ i = 17 ∨ i = 18 ∨ i = 19 ∨ i = 20 ∨ i = 21 ∨ i = 22 ∨ i = 23 ∨ i = 24 ∨ i = 25 ∨ i = 26 ∨ i = 27 ∨ i = 28 ∨ i = 29 ∨ i = 30 ∨ i = 31 ∨ i = 32 ∨ i = 33 ∨ i = 34 ∨ i = 35 ∨ i = 36 ∨ i = 37 ∨ i = 38 by omega) with rfl | rfl | rfl | rfl | rfl | rfl | rfl | rfl | rfl | rfl | rfl | rfl | rfl | rfl | rfl | rfl | rfl | rfl | rfl | rfl | rfl | rfl | rfl | rfl | rfl | rfl | rfl | rfl | rfl | rfl | rfl | rfl | rfl | rfl | rfl | rfl | rfl
    · exact ⟨_, _, sc_2⟩
    · exact ⟨_, _, sc_3⟩
    · exact ⟨_, _, sc_4⟩
    · exact ⟨_, _, sc_5⟩
    · exact ⟨_, _, sc_6⟩
    · exact ⟨_, _, sc_7⟩
    · exact ⟨_, _, sc_8⟩
    · exact ⟨_, _, sc_9⟩
    · exact ⟨_, _, sc_10⟩
    · exact ⟨_, _, sc_11⟩
    · exact ⟨_, _, sc_12⟩
    · exact ⟨_, _, sc_13⟩
    · exact ⟨_, _, sc_14⟩
    · exact ⟨_, _, sc_15⟩
    · exact ⟨_, _, sc_16⟩
    · exact ⟨_, _, sc_17⟩
    · exact ⟨_, _, sc_18⟩
    · exact ⟨_, _, sc_19⟩
    · exact ⟨_, _, sc_20⟩
    · exact ⟨_, _, sc_21⟩
    · exact ⟨_, _, sc_22⟩
    · exact ⟨_, _, sc_23⟩
    · exact ⟨_, _, sc_24⟩
    · exact ⟨_, _, sc_25⟩
    · exact ⟨_, _, sc_26⟩
    · exact ⟨_, _, sc_27⟩
    · exact ⟨_, _, sc_28⟩
    · exact ⟨_, _, sc_29⟩
    · exact ⟨_, _, sc_30⟩
    · exact ⟨_, _, sc_31⟩
    · exact ⟨_, _, sc_32⟩
    · exact ⟨_, _, sc_33⟩
    · exact ⟨_, _, sc_34⟩
    · exact ⟨_, _, sc_35⟩
    · exact ⟨_, _, sc_36⟩
    · exact ⟨_, _, sc_37⟩
    · exact ⟨_, _, sc_38⟩
  obtain ⟨k, m, e⟩ := key
  rw [e] at hx
  exact List.mem_of_mem_drop (List.mem_of_mem_take hx)
