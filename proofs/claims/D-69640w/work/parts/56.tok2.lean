/-! Tokens: ends of words and lines, names, parts -/
set_option maxRecDepth 100000
noncomputable def scanN (p : Int → Prop) : Nat → Int → Int
  | 0, k => k
  | N + 1, k => @ite Int (p k) (Classical.propDecidable _) (scanN p N (k + 1)) k
/-- the first place from k on, before n, where p does not hold; n if there is none -/
noncomputable def scan (p : Int → Prop) (k n : Int) : Int := scanN p (n - k).toNat k
theorem scan_n {p : Int → Prop} {k n : Int} (h : ¬ k < n) : scan p k n = k := by
  unfold scan
  rw [show (n - k).toNat = 0 by omega]
  rfl
theorem scan_t {p : Int → Prop} {k n : Int} (h : k < n) (hp : p k) : scan p k n = scan p (k + 1) n := by
  unfold scan
  rw [show (n - k).toNat = (n - (k + 1)).toNat + 1 by omega]
  exact @if_pos _ (Classical.propDecidable _) hp _ _ _
theorem scan_p {p : Int → Prop} {k n : Int} (hp : ¬ p k) : scan p k n = k := by
  unfold scan
  generalize (n - k).toNat = N
  cases N with
  | zero => rfl
  | succ N => exact @if_neg _ (Classical.propDecidable _) hp _ _ _
theorem scan_ok (p : Int → Prop) (n : Int) : ∀ (N : Nat) (k : Int), (n - k).toNat = N → k ≤ scan p k n ∧ (k ≤ n → scan p k n ≤ n) ∧ (∀ j, k ≤ j → j < scan p k n → p j) ∧ (scan p k n < n → ¬ p (scan p k n)) := by
  intro N
  induction N with
  | zero =>
    intro k h
    have hk : ¬ k < n := by omega
    rw [scan_n hk]
    exact ⟨by omega, by omega, fun j h1 h2 => by omega, fun h => absurd h hk⟩
  | succ N ih =>
    intro k h
    have hk : k < n := by omega
    rcases Classical.em (p k) with hp | hp
    · rw [scan_t hk hp]
      obtain ⟨h1, h2, h3, h4⟩ := ih (k + 1) (by omega)
      refine ⟨by omega, fun _ => h2 (by omega), fun j hj hj2 => ?_, h4⟩
      by_cases e : j = k
      · rw [e]; exact hp
      · exact h3 j (by omega) hj2
    · rw [scan_p hp]
      exact ⟨by omega, by omega, fun j h1 h2 => by omega, fun _ => hp⟩
def cW (c : Int) : Prop := cR c ∧ ¬ cB c ∧ ¬ cM c ∧ ¬ c = 59
theorem l36 {L c2 c3 c4 c5 c6 : Nat} {D : Dt} {Q : Out → Wd → Prop} {n k : Int} (h0 : 0 ≤ k) (hn : n ≤ 16000) (H : Q (.inl [vi (scan (fun j => cW (D 224 j)) k n)]) (D, SS L 1 c2 c3 c4 c5 c6)) : wp 36 2 [vr 53, vu, vi n, vi k] [] (D, SS L 1 c2 c3 c4 c5 c6) Q := by
  induction e : (n - k).toNat generalizing k with
  | zero =>
    refine r36_2 ⟨fun h => by omega, fun h => ?_⟩
    exact q_i H (scan_n h)
  | succ N ih =>
    refine r36_2 ⟨fun h => ⟨by omega, fun hr => ⟨by omega, fun hb => ?_, fun hb => ⟨by omega, fun hm => ?_, fun hm => ⟨by omega, fun hs => ?_, fun hs => ⟨by omega, ?_⟩⟩⟩⟩, fun hr => ?_⟩, fun h => ?_⟩
    · exact q_i H (scan_p fun x => x.2.1 hb)
    · exact q_i H (scan_p fun x => x.2.2.1 hm)
    · exact q_i H (scan_p fun x => x.2.2.2 hs)
    · exact ih (by omega) (q_i H (scan_t h ⟨hr, hb, hm, hs⟩)) (by omega)
    · exact q_i H (scan_p fun x => hr x.1)
    · omega
theorem s36 {L c2 c3 c4 c5 c6 : Nat} {D : Dt} {Q : Out → Wd → Prop} {b n : Int} (H : (0 ≤ b ∧ n ≤ 16000) ∧ Q (.inl [vi (scan (fun j => cW (D 224 j)) b n)]) (D, SS L 1 c2 c3 c4 c5 c6)) : wp 36 0 [vr 53, vi b, vi n, vu] [] (D, SS L 1 c2 c3 c4 c5 c6) Q := r36_0 (l36 H.1.1 H.1.2 H.2)
theorem r33_2 {L c2 c3 c4 c5 c6 : Nat} {D : Dt} {Q : Out → Wd → Prop} {n k : Int} (H : ((k < n → ((0 ≤ k ∧ k < 16000) ∧ ((D 224 k = 10 → (Q (.inl [vi k]) (D, SS L 1 c2 c3 c4 c5 c6))) ∧ (¬ (D 224 k = 10) → ((0 ≤ k ∧ k < 16000) ∧ ((cR (D 224 k) → (((-2147483648) ≤ k + 1 ∧ k + 1 ≤ 2147483647) ∧ (wp 33 2 [vr 53, vu, vi n, vi (k + 1)] [] (D, SS L 1 c2 c3 c4 c5 c6) Q))) ∧ (¬ (cR (D 224 k)) → (Q (.inr 52) (up (up D 51 1 1) 51 2 ((D 54) 1), SS L 1 c2 c3 c4 c5 c6))))))))) ∧ (¬ (k < n) → (Q (.inl [vi k]) (D, SS L 1 c2 c3 c4 c5 c6))))) : wp 33 2 [vr 53, vu, vi n, vi k] [] (D, SS L 1 c2 c3 c4 c5 c6) Q := vc_wp [] 200 _ _ _ _ _ _ (show ((k < n → ((0 ≤ k ∧ k < 16000) ∧ ((D 224 k = 10 → (Q (.inl [vi k]) (D, SS L 1 c2 c3 c4 c5 c6))) ∧ (¬ (D 224 k = 10) → ((0 ≤ k ∧ k < 16000) ∧ (wp 31 0 [vi (D 224 k)] [] (D, SS L 1 c2 c3 c4 c5 c6) (aft wp 33 24 [vr 53, vu, vi n, vi k] [] Q))))))) ∧ (¬ (k < n) → (Q (.inl [vi k]) (D, SS L 1 c2 c3 c4 c5 c6)))) from ⟨fun h9 => ⟨(H.1 h9).1, ⟨fun h7 => ((H.1 h9).2.1 h7), fun h8 => ⟨((H.1 h9).2.2 h8).1, s31 (show wp 33 27 [vr 53, vu, vi n, vi k] [vi (ib (cR (D 224 k)))] (D, SS L 1 c2 c3 c4 c5 c6) Q from vc_wp [46] 200 _ _ _ _ _ _ (show ((ib (cR (D 224 k)) = 0 → (wp 32 0 [vr 53] [] (D, SS L 1 c2 c3 c4 c5 c6) (aft wp 33 36 [vr 53, vu, vi n, vi k] [vi 1, vr 51] Q))) ∧ (¬ (ib (cR (D 224 k)) = 0) → (wp 33 46 [vr 53, vu, vi n, vi (w32 (k + 1))] [] (D, SS L 1 c2 c3 c4 c5 c6) Q))) from ⟨fun h5 => r32_0 (show wp 33 39 [vr 53, vu, vi n, vi k] [vi ((D 54) 1), vi 1, vr 51] (D, SS L 1 c2 c3 c4 c5 c6) Q from vc_wp [] 200 _ _ _ _ _ _ (show wp 28 0 [vr 51, vi 1, vi ((D 54) 1)] [] (D, SS L 1 c2 c3 c4 c5 c6) (aft wp 33 39 [vr 53, vu, vi n, vi k] [] Q) from r28_0 (show wp 33 42 [vr 53, vu, vi n, vi k] [vr 52] (up (up D 51 1 1) 51 2 ((D 54) 1), SS L 1 c2 c3 c4 c5 c6) Q from vc_wp [] 200 _ _ _ _ _ _ (show Q (.inr 52) (up (up D 51 1 1) 51 2 ((D 54) 1), SS L 1 c2 c3 c4 c5 c6) from (((H.1 h9).2.2 h8).2.2 ((ib_z).mp h5)))))), fun h6 => w32_i (fun z4 : Int => wp 33 46 [vr 53, vu, vi n, vi z4] [] (D, SS L 1 c2 c3 c4 c5 c6) Q) ((((H.1 h9).2.2 h8).2.1 (Classical.not_not.mp (mt (ib_z).mpr h6)))).1 (vc_wp [2] 200 _ _ _ _ _ _ (show wp 33 2 [vr 53, vu, vi n, vi (k + 1)] [] (D, SS L 1 c2 c3 c4 c5 c6) Q from ((((H.1 h9).2.2 h8).2.1 (Classical.not_not.mp (mt (ib_z).mpr h6)))).2))⟩))⟩⟩⟩, fun h10 => (H.2 h10)⟩)
theorem r33_0 {L c2 c3 c4 c5 c6 : Nat} {D : Dt} {Q : Out → Wd → Prop} {b n : Int} (H : wp 33 2 [vr 53, vu, vi n, vi b] [] (D, SS L 1 c2 c3 c4 c5 c6) Q) : wp 33 0 [vr 53, vi b, vi n, vu] [] (D, SS L 1 c2 c3 c4 c5 c6) Q := vc_wp [2] 200 _ _ _ _ _ _ (show wp 33 2 [vr 53, vi b, vi n, vi b] [] (D, SS L 1 c2 c3 c4 c5 c6) Q from wp_d (Lle.k rfl (Lle.v rfl (Lle.k rfl (Lle.k rfl (Lle.nil))))) (H))
theorem l33 {L c2 c3 c4 c5 c6 : Nat} {D : Dt} {Q : Out → Wd → Prop} {n k : Int} (h0 : 0 ≤ k) (hn : n ≤ 16000) (H : (∀ e, (e = scan (fun j => ¬ D 224 j = 10) k n ∧ ∀ j, k ≤ j → j < e → cR (D 224 j)) → Q (.inl [vi e]) (D, SS L 1 c2 c3 c4 c5 c6)) ∧ ((∃ j, k ≤ j ∧ j < scan (fun j => ¬ D 224 j = 10) k n ∧ ¬ cR (D 224 j)) → Q (.inr 52) (up (up D 51 1 1) 51 2 (D 54 1), SS L 1 c2 c3 c4 c5 c6))) : wp 33 2 [vr 53, vu, vi n, vi k] [] (D, SS L 1 c2 c3 c4 c5 c6) Q := by
  induction e : (n - k).toNat generalizing k with
  | zero =>
    refine r33_2 ⟨fun h => by omega, fun h => ?_⟩
    exact H.1 k ⟨(scan_n h).symm, fun j h1 h2 => by omega⟩
  | succ N ih =>
    refine r33_2 ⟨fun h => ⟨by omega, fun ht => ?_, fun ht => ⟨by omega, fun hr => ⟨by omega, ?_⟩, fun hr => ?_⟩⟩, fun h => ?_⟩
    · exact H.1 k ⟨(scan_p (p := fun j => ¬ D 224 j = 10) (fun x => x ht)).symm, fun j h1 h2 => by omega⟩
    · have es : scan (fun j => ¬ D 224 j = 10) k n = scan (fun j => ¬ D 224 j = 10) (k + 1) n := scan_t (p := fun j => ¬ D 224 j = 10) h ht
      refine ih (by omega) ⟨fun e he => H.1 e ⟨es ▸ he.1, fun j h1 h2 => ?_⟩, fun ⟨j, h1, h2, h3⟩ => H.2 ⟨j, by omega, es ▸ h2, h3⟩⟩ (by omega)
      by_cases ej : j = k
      · rw [ej]; exact hr
      · exact he.2 j (by omega) h2
    · refine H.2 ⟨k, by omega, ?_, hr⟩
      rw [scan_t (p := fun j => ¬ D 224 j = 10) h ht]
      have := (scan_ok (fun j => ¬ D 224 j = 10) n _ (k + 1) rfl).1
      omega
    · omega
theorem s33 {L c2 c3 c4 c5 c6 : Nat} {D : Dt} {Q : Out → Wd → Prop} {b n : Int} (H : (0 ≤ b ∧ n ≤ 16000) ∧ (∀ e, (e = scan (fun j => ¬ D 224 j = 10) b n ∧ ∀ j, b ≤ j → j < e → cR (D 224 j)) → Q (.inl [vi e]) (D, SS L 1 c2 c3 c4 c5 c6)) ∧ ((∃ j, b ≤ j ∧ j < scan (fun j => ¬ D 224 j = 10) b n ∧ ¬ cR (D 224 j)) → Q (.inr 52) (up (up D 51 1 1) 51 2 (D 54 1), SS L 1 c2 c3 c4 c5 c6))) : wp 33 0 [vr 53, vi b, vi n, vu] [] (D, SS L 1 c2 c3 c4 c5 c6) Q := r33_0 (l33 H.1.1 H.1.2 H.2)
