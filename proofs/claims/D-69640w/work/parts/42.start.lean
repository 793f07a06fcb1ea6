/-! the String constants at the start, as a frame has them -/
set_option maxRecDepth 100000
theorem sr_mem : ∀ i, 2 ≤ i → i ≤ 38 → Cond.stringRef (owS (sq i / 1000)) (sq i % 1000) (stx i) ∈ lw_tbl := by
  intro i h2 h38
  rcases (show i = 2 ∨ i = 3 ∨ i = 4 ∨ i = 5 ∨ i = 6 ∨ i = 7 ∨ i = 8 ∨ i = 9 ∨ i = 10 ∨ i = 11 ∨ i = 12 ∨ i = 13 ∨ i = 14 ∨ i = 15 ∨ i = 16 ∨ i = 17 ∨ i = 18 ∨ i = 19 ∨ i = 20 ∨ i = 21 ∨ i = 22 ∨ i = 23 ∨ i = 24 ∨ i = 25 ∨ i = 26 ∨ i = 27 ∨ i = 28 ∨ i = 29 ∨ i = 30 ∨ i = 31 ∨ i = 32 ∨ i = 33 ∨ i = 34 ∨ i = 35 ∨ i = 36 ∨ i = 37 ∨ i = 38 by omega) with rfl | rfl | rfl | rfl | rfl | rfl | rfl | rfl | rfl | rfl | rfl | rfl | rfl | rfl | rfl | rfl | rfl | rfl | rfl | rfl | rfl | rfl | rfl | rfl | rfl | rfl | rfl | rfl | rfl | rfl | rfl | rfl | rfl | rfl | rfl | rfl | rfl
  · exact q1379
  · exact q1428
  · exact q1429
  · exact q1142
  · exact q1213
  · exact q1214
  · exact q1215
  · exact q1220
  · exact q1221
  · exact q1222
  · exact q1248
  · exact q1249
  · exact q1250
  · exact q1267
  · exact q1268
  · exact q1269
  · exact q1282
  · exact q1311
  · exact q1243
  · exact q2502
  · exact q2521
  · exact q2522
  · exact q2523
  · exact q2528
  · exact q2541
  · exact q2542
  · exact q2543
  · exact q2544
  · exact q2545
  · exact q2566
  · exact q2572
  · exact q2567
  · exact q2577
  · exact q2578
  · exact q2599
  · exact q2710
  · exact q2711
theorem map_getD (l : List Int) (j : Nat) : (l.map Int32.ofInt).getD j 0 = Int32.ofInt (l.getD j 0) := by
  rw [List.getD_eq_getElem?_getD, List.getD_eq_getElem?_getD, List.getElem?_map]
  cases l[j]? <;> rfl
theorem str_start {s : State} {b : Nat} {A : Nat → Prop} (hgv : (Cond.and given_1 narrow_1).before #[Value.ref b] s = true) (hts : ∀ w ∈ lw_tbl, w.before #[Value.ref b] s = true) (hA : ∀ a : Nat, a < s.heap.size → ¬ A a) :
    ∃ ad : Nat → Nat, ∀ i, 2 ≤ i → i ≤ 38 → ∃ v : Nat, vk_R (owS (sq i / 1000)) (sq i % 1000) (stx i) (ad i) s ∧ va_O "java/lang/String" (ad i) A s s.heap ∧ va_OF "java/lang/String" "coder" "B" (.int 0) (ad i) A s s.heap ∧ va_OF "java/lang/String" "value" "[B" (.ref v) (ad i) A s s.heap ∧ va_T .byte v (sbt i).length (fun j => .int (Int32.ofInt ((sbt i).getD j 0))) A s s.heap := by
  have hfl := flat_of_before _ hgv
  have hw : ∀ i, 2 ≤ i → i ≤ 38 → ∀ x ∈ scL i, x.before #[Value.ref b] s = true := fun i h2 h38 x hx => hfl x (List.mem_append_right _ (sc_mem i h2 h38 x hx))
  have key : ∀ i, ∃ a : Nat, 2 ≤ i → i ≤ 38 → ∃ v : Nat, vk_R (owS (sq i / 1000)) (sq i % 1000) (stx i) a s ∧ va_O "java/lang/String" a A s s.heap ∧ va_OF "java/lang/String" "coder" "B" (.int 0) a A s s.heap ∧ va_OF "java/lang/String" "value" "[B" (.ref v) a A s s.heap ∧ va_T .byte v (sbt i).length (fun j => .int (Int32.ofInt ((sbt i).getD j 0))) A s s.heap := fun i => by
    by_cases h : 2 ≤ i ∧ i ≤ 38
    · obtain ⟨h2, h38⟩ := h
      have hlen := sbt_len h2 h38
      have hx := hw i h2 h38
      obtain ⟨adK, adV, ⟨hS, -⟩, hev⟩ := vk_Sof (args := #[Value.ref b]) (s := s) (N := 1) (tm := fun _ => tmS i) (len := [(sbt i).length]) (byt := [(sbt i).map Int32.ofInt]) (A := A) (fun k hk => by
          obtain rfl : k = 0 := by omega
          show (sbt i).length < _
          omega) (fun k hk => hx _ (List.mem_append_left _ List.mem_cons_self)) (fun k hk => hx _ (List.mem_append_left _ (List.mem_cons_of_mem _ List.mem_cons_self))) (fun k hk => hx _ (List.mem_append_left _ (List.mem_cons_of_mem _ (List.mem_cons_of_mem _ List.mem_cons_self)))) (fun k hk => by
          obtain rfl : k = 0 := by omega
          exact hx _ (List.mem_append_left _ (List.mem_cons_of_mem _ (List.mem_cons_of_mem _ (List.mem_cons_of_mem _ List.mem_cons_self))))) (fun k hk j hj => by
          obtain rfl : k = 0 := by omega
          have hj : j < (sbt i).length := hj
          show (Cond.eq (.elem (.field (tmS i) "java/lang/String" "value" "[B") (.int (Int32.ofNat j))) (.int (((sbt i).map Int32.ofInt).getD j 0))).before #[Value.ref b] s = true
          rw [map_getD]
          exact hx _ (List.mem_append_right _ (List.mem_map.mpr ⟨j, List.mem_range.mpr hj, rfl⟩))) (fun k j hk hj hne => by omega) hA
      obtain ⟨s1, s2, s3, s4⟩ := hS 0 (by omega)
      refine ⟨adK 0, fun _ _ => ⟨adV 0, vk_R.of (hts _ (sr_mem i h2 h38)) (hev 0 (by omega)), s1, s2, s3, ?_⟩⟩
      have e1 : (fun j => Value.int (((sbt i).map Int32.ofInt).getD j 0)) = fun j => .int (Int32.ofInt ((sbt i).getD j 0)) := by
        funext j
        rw [map_getD]
      have s4 : va_T .byte (adV 0) (sbt i).length (fun j => .int (((sbt i).map Int32.ofInt).getD j 0)) A s s.heap := s4
      rw [e1] at s4
      exact s4
    · exact ⟨0, fun z1 z2 => absurd ⟨z1, z2⟩ h⟩
  exact Classical.skolem.mp key
