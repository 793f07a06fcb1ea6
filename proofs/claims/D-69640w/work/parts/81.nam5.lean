/-! names: which class is below which; types -/
set_option maxRecDepth 100000
/-- the class above, by the row of those that are not known -/
def abF (ab : List Int) : Int → Int := fun c => if c = 0 then -1 else if c = 1 then 0 else if c < 8 then 1 else ab.getD (c - 8).toNat 0
theorem abF_e {f : Int → Int} {ab : List Int} (h : ABp f ab) {c : Int} (h0 : 0 ≤ c) (h1 : c < 8 + ab.length) : f c = abF ab c := by
  unfold abF
  by_cases e0 : c = 0
  · rw [if_pos e0, e0]; exact h.1
  · rw [if_neg e0]
    by_cases e1 : c = 1
    · rw [if_pos e1, e1]; exact h.2.1
    · rw [if_neg e1]
      by_cases e8 : c < 8
      · rw [if_pos e8]; exact h.2.2.1 c (by omega) e8
      · rw [if_neg e8]
        have := h.2.2.2 (c - 8).toNat (by omega)
        rw [show (8 : Int) + ((c - 8).toNat : Nat) = c by omega] at this
        exact this
/-- classes stand below earlier ones -/
def ABw (ab : List Int) : Prop := ∀ i : Nat, i < ab.length → 0 ≤ ab.getD i 0 ∧ ab.getD i 0 < 8 + i
theorem abF_w {ab : List Int} (h : ABw ab) {c : Int} (h0 : 0 ≤ c) (h1 : c < 8 + ab.length) : -1 ≤ abF ab c ∧ abF ab c < c := by
  unfold abF
  by_cases e0 : c = 0
  · rw [if_pos e0]; omega
  · rw [if_neg e0]
    by_cases e1 : c = 1
    · rw [if_pos e1]; omega
    · rw [if_neg e1]
      by_cases e8 : c < 8
      · rw [if_pos e8]; omega
      · rw [if_neg e8]
        have := h (c - 8).toNat (by omega)
        omega
def isb (f : Int → Int) : Nat → Int → Int → Prop
  | 0, _, _ => False
  | N + 1, c, d => 0 ≤ c ∧ (c = d ∨ isb f N (f c) d)
theorem isb_fu {ab : List Int} (hw : ABw ab) {d : Int} : ∀ (N M : Nat) (c : Int), c < 8 + ab.length → c.toNat < N → c.toNat < M → (isb (abF ab) N c d ↔ isb (abF ab) M c d)
  | 0, _, _, _, h, _ => by omega
  | _ + 1, 0, _, _, _, h => by omega
  | N + 1, M + 1, c, h, h1, h2 => by
    show (0 ≤ c ∧ (c = d ∨ isb (abF ab) N (abF ab c) d)) ↔ (0 ≤ c ∧ (c = d ∨ isb (abF ab) M (abF ab c) d))
    by_cases h0 : 0 ≤ c
    · have hc := abF_w hw h0 h
      by_cases hn : abF ab c < 0
      · have z : ∀ X : Nat, ¬ isb (abF ab) X (abF ab c) d := fun X => by
          cases X with
          | zero => exact id
          | succ X => exact fun x => by have := x.1; omega
        constructor
        · rintro ⟨_, x | x⟩
          · exact ⟨h0, Or.inl x⟩
          · exact absurd x (z _)
        · rintro ⟨_, x | x⟩
          · exact ⟨h0, Or.inl x⟩
          · exact absurd x (z _)
      · have := isb_fu hw (d := d) N M (abF ab c) (by omega) (by omega) (by omega)
        rw [this]
    · constructor
      · rintro ⟨x, _⟩; omega
      · rintro ⟨x, _⟩; omega
/-- a class is another or below it -/
def cbl (ab : List Int) (c d : Int) : Prop := isb (abF ab) (c.toNat + 1) c d
theorem cbl_n {ab : List Int} {c d : Int} (h : c < 0) : ¬ cbl ab c d := fun x => by have := x.1; omega
theorem cbl_e {ab : List Int} {c : Int} (h : 0 ≤ c) : cbl ab c c := ⟨h, Or.inl rfl⟩
theorem cbl_s {ab : List Int} (hw : ABw ab) {c d : Int} (h : 0 ≤ c) (h1 : c < 8 + ab.length) (hne : ¬ c = d) : cbl ab c d ↔ cbl ab (abF ab c) d := by
  have hc := abF_w hw h h1
  have e : cbl ab c d ↔ isb (abF ab) c.toNat (abF ab c) d := by
    constructor
    · rintro ⟨_, x | x⟩
      · exact absurd x hne
      · exact x
    · intro x; exact ⟨h, Or.inr x⟩
  rw [e]
  by_cases hn : abF ab c < 0
  · constructor
    · intro x
      cases hk : c.toNat with
      | zero => rw [hk] at x; exact x.elim
      | succ k => rw [hk] at x; have := x.1; omega
    · intro x; exact absurd x (cbl_n hn)
  · exact isb_fu hw _ _ _ (by omega) (by omega) (by omega)
theorem r216_0p197 {L c2 c3 c4 c5 c6 : Nat} {D : Dt} {Q : Out → Wd → Prop} {c d : Int} (H : wp 216 2 [vr 197, vu, vi d, vi c] [] (D, SS L 1 c2 c3 c4 c5 c6) Q) : wp 216 0 [vr 197, vi c, vi d, vu] [] (D, SS L 1 c2 c3 c4 c5 c6) Q := vc_wp [2] 200 _ _ _ _ _ _ (show wp 216 2 [vr 197, vi c, vi d, vi c] [] (D, SS L 1 c2 c3 c4 c5 c6) Q from wp_d (Lle.k rfl (Lle.v rfl (Lle.k rfl (Lle.k rfl (Lle.nil))))) (H))
theorem r216_2p197 {L c2 c3 c4 c5 c6 : Nat} {D : Dt} {Q : Out → Wd → Prop} {d k : Int} (H : ((k < 0 → ((k < 0 → (Q (.inl [vi 0]) (D, SS L 1 c2 c3 c4 c5 c6))) ∧ (¬ (k < 0) → (Q (.inl [vi 1]) (D, SS L 1 c2 c3 c4 c5 c6))))) ∧ (¬ (k < 0) → ((k = d → ((k < 0 → (Q (.inl [vi 0]) (D, SS L 1 c2 c3 c4 c5 c6))) ∧ (¬ (k < 0) → (Q (.inl [vi 1]) (D, SS L 1 c2 c3 c4 c5 c6))))) ∧ (¬ (k = d) → ((0 ≤ k ∧ k < 32) ∧ (wp 216 2 [vr 197, vu, vi d, vi (D 198 k)] [] (D, SS L 1 c2 c3 c4 c5 c6) Q))))))) : wp 216 2 [vr 197, vu, vi d, vi k] [] (D, SS L 1 c2 c3 c4 c5 c6) Q := vc_wp [15] 200 _ _ _ _ _ _ (show ((k < 0 → ((k < 0 → (((0 : Int) ≤ 0 ∧ 0 ≤ (1 : Int)) ∧ (Q (.inl [vi 0]) (D, SS L 1 c2 c3 c4 c5 c6)))) ∧ (¬ (k < 0) → (((0 : Int) ≤ 1 ∧ 1 ≤ (1 : Int)) ∧ (Q (.inl [vi 1]) (D, SS L 1 c2 c3 c4 c5 c6)))))) ∧ (¬ (k < 0) → ((k = d → ((k < 0 → (((0 : Int) ≤ 0 ∧ 0 ≤ (1 : Int)) ∧ (Q (.inl [vi 0]) (D, SS L 1 c2 c3 c4 c5 c6)))) ∧ (¬ (k < 0) → (((0 : Int) ≤ 1 ∧ 1 ≤ (1 : Int)) ∧ (Q (.inl [vi 1]) (D, SS L 1 c2 c3 c4 c5 c6)))))) ∧ (¬ (k = d) → (wp 216 15 [vr 197, vu, vi d, vi k] [vr 198] (D, SS L 1 c2 c3 c4 c5 c6) Q))))) from ⟨fun h7 => ⟨fun h1 => ⟨(by decide), ((H.1 h7).1 h1)⟩, fun h2 => ⟨(by decide), ((H.1 h7).2 h2)⟩⟩, fun h8 => ⟨fun h5 => ⟨fun h3 => ⟨(by decide), (((H.2 h8).1 h5).1 h3)⟩, fun h4 => ⟨(by decide), (((H.2 h8).1 h5).2 h4)⟩⟩, fun h6 => vc_wp [2] 200 _ _ _ _ _ _ (show (0 ≤ k ∧ k < 32) ∧ (wp 216 2 [vr 197, vu, vi d, vi (D 198 k)] [] (D, SS L 1 c2 c3 c4 c5 c6) Q) from ⟨((H.2 h8).2 h6).1, ((H.2 h8).2 h6).2⟩)⟩⟩)
theorem s216p197 {L c2 c3 c4 c5 c6 : Nat} {D : Dt} {Q : Out → Wd → Prop} {c d : Int} (H : ∃ ab, (ABp (D 198) ab ∧ ABw ab ∧ ab.length ≤ 24 ∧ c < 8 + ab.length) ∧ Q (.inl [vi (ib (cbl ab c d))]) (D, SS L 1 c2 c3 c4 c5 c6)) : wp 216 0 [vr 197, vi c, vi d, vu] [] (D, SS L 1 c2 c3 c4 c5 c6) Q := by
  obtain ⟨ab, ⟨hA, hw, hl, hc⟩, H⟩ := H
  have hL : ∀ (N : Nat) (k : Int), k.toNat < N → k < 8 + ab.length → Q (.inl [vi (ib (cbl ab k d))]) (D, SS L 1 c2 c3 c4 c5 c6) → wp 216 2 [vr 197, vu, vi d, vi k] [] (D, SS L 1 c2 c3 c4 c5 c6) Q := by
    intro N
    induction N with
    | zero => intro k h; omega
    | succ N ih =>
      intro k hN hk HH
      refine r216_2p197 ⟨fun h => ⟨fun _ => q_i HH (ib_f (cbl_n h)), fun h' => absurd h h'⟩, fun h => ⟨fun e => ⟨fun h' => absurd h' h, fun _ => q_i HH (ib_t (by rw [← e]; exact cbl_e (by omega)))⟩, fun e => ⟨by omega, ?_⟩⟩⟩
      rw [abF_e hA (by omega) hk]
      have h2 := abF_w hw (c := k) (by omega) hk
      by_cases hz : abF ab k < 0
      · refine r216_2p197 ⟨fun _ => ⟨fun _ => q_i HH (ib_f fun x => cbl_n hz ((cbl_s hw (by omega) hk e).mp x)), fun h' => absurd hz h'⟩, fun h' => absurd hz h'⟩
      · exact ih _ (by omega) (by omega) (q_i HH (ib_c (cbl_s hw (by omega) hk e)))
  exact r216_0p197 (hL _ c (Nat.lt_succ_self _) hc H)
theorem r216_0p171 {L c2 c3 c4 c5 c6 : Nat} {D : Dt} {Q : Out → Wd → Prop} {c d : Int} (H : wp 216 2 [vr 171, vu, vi d, vi c] [] (D, SS L 1 c2 c3 c4 c5 c6) Q) : wp 216 0 [vr 171, vi c, vi d, vu] [] (D, SS L 1 c2 c3 c4 c5 c6) Q := vc_wp [2] 200 _ _ _ _ _ _ (show wp 216 2 [vr 171, vi c, vi d, vi c] [] (D, SS L 1 c2 c3 c4 c5 c6) Q from wp_d (Lle.k rfl (Lle.v rfl (Lle.k rfl (Lle.k rfl (Lle.nil))))) (H))
theorem r216_2p171 {L c2 c3 c4 c5 c6 : Nat} {D : Dt} {Q : Out → Wd → Prop} {d k : Int} (H : ((k < 0 → ((k < 0 → (Q (.inl [vi 0]) (D, SS L 1 c2 c3 c4 c5 c6))) ∧ (¬ (k < 0) → (Q (.inl [vi 1]) (D, SS L 1 c2 c3 c4 c5 c6))))) ∧ (¬ (k < 0) → ((k = d → ((k < 0 → (Q (.inl [vi 0]) (D, SS L 1 c2 c3 c4 c5 c6))) ∧ (¬ (k < 0) → (Q (.inl [vi 1]) (D, SS L 1 c2 c3 c4 c5 c6))))) ∧ (¬ (k = d) → ((0 ≤ k ∧ k < 32) ∧ (wp 216 2 [vr 171, vu, vi d, vi (D 172 k)] [] (D, SS L 1 c2 c3 c4 c5 c6) Q))))))) : wp 216 2 [vr 171, vu, vi d, vi k] [] (D, SS L 1 c2 c3 c4 c5 c6) Q := vc_wp [15] 200 _ _ _ _ _ _ (show ((k < 0 → ((k < 0 → (((0 : Int) ≤ 0 ∧ 0 ≤ (1 : Int)) ∧ (Q (.inl [vi 0]) (D, SS L 1 c2 c3 c4 c5 c6)))) ∧ (¬ (k < 0) → (((0 : Int) ≤ 1 ∧ 1 ≤ (1 : Int)) ∧ (Q (.inl [vi 1]) (D, SS L 1 c2 c3 c4 c5 c6)))))) ∧ (¬ (k < 0) → ((k = d → ((k < 0 → (((0 : Int) ≤ 0 ∧ 0 ≤ (1 : Int)) ∧ (Q (.inl [vi 0]) (D, SS L 1 c2 c3 c4 c5 c6)))) ∧ (¬ (k < 0) → (((0 : Int) ≤ 1 ∧ 1 ≤ (1 : Int)) ∧ (Q (.inl [vi 1]) (D, SS L 1 c2 c3 c4 c5 c6)))))) ∧ (¬ (k = d) → (wp 216 15 [vr 171, vu, vi d, vi k] [vr 172] (D, SS L 1 c2 c3 c4 c5 c6) Q))))) from ⟨fun h7 => ⟨fun h1 => ⟨(by decide), ((H.1 h7).1 h1)⟩, fun h2 => ⟨(by decide), ((H.1 h7).2 h2)⟩⟩, fun h8 => ⟨fun h5 => ⟨fun h3 => ⟨(by decide), (((H.2 h8).1 h5).1 h3)⟩, fun h4 => ⟨(by decide), (((H.2 h8).1 h5).2 h4)⟩⟩, fun h6 => vc_wp [2] 200 _ _ _ _ _ _ (show (0 ≤ k ∧ k < 32) ∧ (wp 216 2 [vr 171, vu, vi d, vi (D 172 k)] [] (D, SS L 1 c2 c3 c4 c5 c6) Q) from ⟨((H.2 h8).2 h6).1, ((H.2 h8).2 h6).2⟩)⟩⟩)
theorem s216p171 {L c2 c3 c4 c5 c6 : Nat} {D : Dt} {Q : Out → Wd → Prop} {c d : Int} (H : ∃ ab, (ABp (D 172) ab ∧ ABw ab ∧ ab.length ≤ 24 ∧ c < 8 + ab.length) ∧ Q (.inl [vi (ib (cbl ab c d))]) (D, SS L 1 c2 c3 c4 c5 c6)) : wp 216 0 [vr 171, vi c, vi d, vu] [] (D, SS L 1 c2 c3 c4 c5 c6) Q := by
  obtain ⟨ab, ⟨hA, hw, hl, hc⟩, H⟩ := H
  have hL : ∀ (N : Nat) (k : Int), k.toNat < N → k < 8 + ab.length → Q (.inl [vi (ib (cbl ab k d))]) (D, SS L 1 c2 c3 c4 c5 c6) → wp 216 2 [vr 171, vu, vi d, vi k] [] (D, SS L 1 c2 c3 c4 c5 c6) Q := by
    intro N
    induction N with
    | zero => intro k h; omega
    | succ N ih =>
      intro k hN hk HH
      refine r216_2p171 ⟨fun h => ⟨fun _ => q_i HH (ib_f (cbl_n h)), fun h' => absurd h h'⟩, fun h => ⟨fun e => ⟨fun h' => absurd h' h, fun _ => q_i HH (ib_t (by rw [← e]; exact cbl_e (by omega)))⟩, fun e => ⟨by omega, ?_⟩⟩⟩
      rw [abF_e hA (by omega) hk]
      have h2 := abF_w hw (c := k) (by omega) hk
      by_cases hz : abF ab k < 0
      · refine r216_2p171 ⟨fun _ => ⟨fun _ => q_i HH (ib_f fun x => cbl_n hz ((cbl_s hw (by omega) hk e).mp x)), fun h' => absurd hz h'⟩, fun h' => absurd hz h'⟩
      · exact ih _ (by omega) (by omega) (q_i HH (ib_c (cbl_s hw (by omega) hk e)))
  exact r216_0p171 (hL _ c (Nat.lt_succ_self _) hc H)
theorem r261_0p273 {L c2 c3 c4 c5 c6 : Nat} {D : Dt} {Q : Out → Wd → Prop} {c d : Int} (H : wp 261 2 [vr 273, vu, vi d, vi c] [] (D, SS L 1 c2 c3 c4 c5 c6) Q) : wp 261 0 [vr 273, vi c, vi d, vu] [] (D, SS L 1 c2 c3 c4 c5 c6) Q := vc_wp [2] 200 _ _ _ _ _ _ (show wp 261 2 [vr 273, vi c, vi d, vi c] [] (D, SS L 1 c2 c3 c4 c5 c6) Q from wp_d (Lle.k rfl (Lle.v rfl (Lle.k rfl (Lle.k rfl (Lle.nil))))) (H))
theorem r261_2p273 {L c2 c3 c4 c5 c6 : Nat} {D : Dt} {Q : Out → Wd → Prop} {d k : Int} (H : ((k < 0 → ((k < 0 → (Q (.inl [vi 0]) (D, SS L 1 c2 c3 c4 c5 c6))) ∧ (¬ (k < 0) → (Q (.inl [vi 1]) (D, SS L 1 c2 c3 c4 c5 c6))))) ∧ (¬ (k < 0) → ((k = d → ((k < 0 → (Q (.inl [vi 0]) (D, SS L 1 c2 c3 c4 c5 c6))) ∧ (¬ (k < 0) → (Q (.inl [vi 1]) (D, SS L 1 c2 c3 c4 c5 c6))))) ∧ (¬ (k = d) → ((0 ≤ k ∧ k < 32) ∧ (wp 261 2 [vr 273, vu, vi d, vi (D 274 k)] [] (D, SS L 1 c2 c3 c4 c5 c6) Q))))))) : wp 261 2 [vr 273, vu, vi d, vi k] [] (D, SS L 1 c2 c3 c4 c5 c6) Q := vc_wp [15] 200 _ _ _ _ _ _ (show ((k < 0 → ((k < 0 → (((0 : Int) ≤ 0 ∧ 0 ≤ (1 : Int)) ∧ (Q (.inl [vi 0]) (D, SS L 1 c2 c3 c4 c5 c6)))) ∧ (¬ (k < 0) → (((0 : Int) ≤ 1 ∧ 1 ≤ (1 : Int)) ∧ (Q (.inl [vi 1]) (D, SS L 1 c2 c3 c4 c5 c6)))))) ∧ (¬ (k < 0) → ((k = d → ((k < 0 → (((0 : Int) ≤ 0 ∧ 0 ≤ (1 : Int)) ∧ (Q (.inl [vi 0]) (D, SS L 1 c2 c3 c4 c5 c6)))) ∧ (¬ (k < 0) → (((0 : Int) ≤ 1 ∧ 1 ≤ (1 : Int)) ∧ (Q (.inl [vi 1]) (D, SS L 1 c2 c3 c4 c5 c6)))))) ∧ (¬ (k = d) → (wp 261 15 [vr 273, vu, vi d, vi k] [vr 274] (D, SS L 1 c2 c3 c4 c5 c6) Q))))) from ⟨fun h7 => ⟨fun h1 => ⟨(by decide), ((H.1 h7).1 h1)⟩, fun h2 => ⟨(by decide), ((H.1 h7).2 h2)⟩⟩, fun h8 => ⟨fun h5 => ⟨fun h3 => ⟨(by decide), (((H.2 h8).1 h5).1 h3)⟩, fun h4 => ⟨(by decide), (((H.2 h8).1 h5).2 h4)⟩⟩, fun h6 => vc_wp [2] 200 _ _ _ _ _ _ (show (0 ≤ k ∧ k < 32) ∧ (wp 261 2 [vr 273, vu, vi d, vi (D 274 k)] [] (D, SS L 1 c2 c3 c4 c5 c6) Q) from ⟨((H.2 h8).2 h6).1, ((H.2 h8).2 h6).2⟩)⟩⟩)
theorem s261p273 {L c2 c3 c4 c5 c6 : Nat} {D : Dt} {Q : Out → Wd → Prop} {c d : Int} (H : ∃ ab, (ABp (D 274) ab ∧ ABw ab ∧ ab.length ≤ 24 ∧ c < 8 + ab.length) ∧ Q (.inl [vi (ib (cbl ab c d))]) (D, SS L 1 c2 c3 c4 c5 c6)) : wp 261 0 [vr 273, vi c, vi d, vu] [] (D, SS L 1 c2 c3 c4 c5 c6) Q := by
  obtain ⟨ab, ⟨hA, hw, hl, hc⟩, H⟩ := H
  have hL : ∀ (N : Nat) (k : Int), k.toNat < N → k < 8 + ab.length → Q (.inl [vi (ib (cbl ab k d))]) (D, SS L 1 c2 c3 c4 c5 c6) → wp 261 2 [vr 273, vu, vi d, vi k] [] (D, SS L 1 c2 c3 c4 c5 c6) Q := by
    intro N
    induction N with
    | zero => intro k h; omega
    | succ N ih =>
      intro k hN hk HH
      refine r261_2p273 ⟨fun h => ⟨fun _ => q_i HH (ib_f (cbl_n h)), fun h' => absurd h h'⟩, fun h => ⟨fun e => ⟨fun h' => absurd h' h, fun _ => q_i HH (ib_t (by rw [← e]; exact cbl_e (by omega)))⟩, fun e => ⟨by omega, ?_⟩⟩⟩
      rw [abF_e hA (by omega) hk]
      have h2 := abF_w hw (c := k) (by omega) hk
      by_cases hz : abF ab k < 0
      · refine r261_2p273 ⟨fun _ => ⟨fun _ => q_i HH (ib_f fun x => cbl_n hz ((cbl_s hw (by omega) hk e).mp x)), fun h' => absurd hz h'⟩, fun h' => absurd hz h'⟩
      · exact ih _ (by omega) (by omega) (q_i HH (ib_c (cbl_s hw (by omega) hk e)))
  exact r261_0p273 (hL _ c (Nat.lt_succ_self _) hc H)
theorem r261_0p227 {L c2 c3 c4 c5 c6 : Nat} {D : Dt} {Q : Out → Wd → Prop} {c d : Int} (H : wp 261 2 [vr 227, vu, vi d, vi c] [] (D, SS L 1 c2 c3 c4 c5 c6) Q) : wp 261 0 [vr 227, vi c, vi d, vu] [] (D, SS L 1 c2 c3 c4 c5 c6) Q := vc_wp [2] 200 _ _ _ _ _ _ (show wp 261 2 [vr 227, vi c, vi d, vi c] [] (D, SS L 1 c2 c3 c4 c5 c6) Q from wp_d (Lle.k rfl (Lle.v rfl (Lle.k rfl (Lle.k rfl (Lle.nil))))) (H))
theorem r261_2p227 {L c2 c3 c4 c5 c6 : Nat} {D : Dt} {Q : Out → Wd → Prop} {d k : Int} (H : ((k < 0 → ((k < 0 → (Q (.inl [vi 0]) (D, SS L 1 c2 c3 c4 c5 c6))) ∧ (¬ (k < 0) → (Q (.inl [vi 1]) (D, SS L 1 c2 c3 c4 c5 c6))))) ∧ (¬ (k < 0) → ((k = d → ((k < 0 → (Q (.inl [vi 0]) (D, SS L 1 c2 c3 c4 c5 c6))) ∧ (¬ (k < 0) → (Q (.inl [vi 1]) (D, SS L 1 c2 c3 c4 c5 c6))))) ∧ (¬ (k = d) → ((0 ≤ k ∧ k < 32) ∧ (wp 261 2 [vr 227, vu, vi d, vi (D 228 k)] [] (D, SS L 1 c2 c3 c4 c5 c6) Q))))))) : wp 261 2 [vr 227, vu, vi d, vi k] [] (D, SS L 1 c2 c3 c4 c5 c6) Q := vc_wp [15] 200 _ _ _ _ _ _ (show ((k < 0 → ((k < 0 → (((0 : Int) ≤ 0 ∧ 0 ≤ (1 : Int)) ∧ (Q (.inl [vi 0]) (D, SS L 1 c2 c3 c4 c5 c6)))) ∧ (¬ (k < 0) → (((0 : Int) ≤ 1 ∧ 1 ≤ (1 : Int)) ∧ (Q (.inl [vi 1]) (D, SS L 1 c2 c3 c4 c5 c6)))))) ∧ (¬ (k < 0) → ((k = d → ((k < 0 → (((0 : Int) ≤ 0 ∧ 0 ≤ (1 : Int)) ∧ (Q (.inl [vi 0]) (D, SS L 1 c2 c3 c4 c5 c6)))) ∧ (¬ (k < 0) → (((0 : Int) ≤ 1 ∧ 1 ≤ (1 : Int)) ∧ (Q (.inl [vi 1]) (D, SS L 1 c2 c3 c4 c5 c6)))))) ∧ (¬ (k = d) → (wp 261 15 [vr 227, vu, vi d, vi k] [vr 228] (D, SS L 1 c2 c3 c4 c5 c6) Q))))) from ⟨fun h7 => ⟨fun h1 => ⟨(by decide), ((H.1 h7).1 h1)⟩, fun h2 => ⟨(by decide), ((H.1 h7).2 h2)⟩⟩, fun h8 => ⟨fun h5 => ⟨fun h3 => ⟨(by decide), (((H.2 h8).1 h5).1 h3)⟩, fun h4 => ⟨(by decide), (((H.2 h8).1 h5).2 h4)⟩⟩, fun h6 => vc_wp [2] 200 _ _ _ _ _ _ (show (0 ≤ k ∧ k < 32) ∧ (wp 261 2 [vr 227, vu, vi d, vi (D 228 k)] [] (D, SS L 1 c2 c3 c4 c5 c6) Q) from ⟨((H.2 h8).2 h6).1, ((H.2 h8).2 h6).2⟩)⟩⟩)
theorem s261p227 {L c2 c3 c4 c5 c6 : Nat} {D : Dt} {Q : Out → Wd → Prop} {c d : Int} (H : ∃ ab, (ABp (D 228) ab ∧ ABw ab ∧ ab.length ≤ 24 ∧ c < 8 + ab.length) ∧ Q (.inl [vi (ib (cbl ab c d))]) (D, SS L 1 c2 c3 c4 c5 c6)) : wp 261 0 [vr 227, vi c, vi d, vu] [] (D, SS L 1 c2 c3 c4 c5 c6) Q := by
  obtain ⟨ab, ⟨hA, hw, hl, hc⟩, H⟩ := H
  have hL : ∀ (N : Nat) (k : Int), k.toNat < N → k < 8 + ab.length → Q (.inl [vi (ib (cbl ab k d))]) (D, SS L 1 c2 c3 c4 c5 c6) → wp 261 2 [vr 227, vu, vi d, vi k] [] (D, SS L 1 c2 c3 c4 c5 c6) Q := by
    intro N
    induction N with
    | zero => intro k h; omega
    | succ N ih =>
      intro k hN hk HH
      refine r261_2p227 ⟨fun h => ⟨fun _ => q_i HH (ib_f (cbl_n h)), fun h' => absurd h h'⟩, fun h => ⟨fun e => ⟨fun h' => absurd h' h, fun _ => q_i HH (ib_t (by rw [← e]; exact cbl_e (by omega)))⟩, fun e => ⟨by omega, ?_⟩⟩⟩
      rw [abF_e hA (by omega) hk]
      have h2 := abF_w hw (c := k) (by omega) hk
      by_cases hz : abF ab k < 0
      · refine r261_2p227 ⟨fun _ => ⟨fun _ => q_i HH (ib_f fun x => cbl_n hz ((cbl_s hw (by omega) hk e).mp x)), fun h' => absurd hz h'⟩, fun h' => absurd hz h'⟩
      · exact ih _ (by omega) (by omega) (q_i HH (ib_c (cbl_s hw (by omega) hk e)))
  exact r261_0p227 (hL _ c (Nat.lt_succ_self _) hc H)
/-- the model's number of a type -/
def mT (x : Int) : Int := if x = 3 then 40 else if 64 ≤ x then x - 16 else if 16 ≤ x then x - 8 else x
noncomputable def tyOf (K : TK) (ns : List Int) (t : Int) : Int := cit (intB K.tx K.tf K.tt t) (cit (arrW K.tx K.tf K.tt t) 3 0) (cit (clsAt K ns (K.tf t) (bEnd K.tx K.tf K.tt t) < 0) (-1) (cit (arrW K.tx K.tf K.tt t) (64 + clsAt K ns (K.tf t) (bEnd K.tx K.tf K.tt t)) (16 + clsAt K ns (K.tf t) (bEnd K.tx K.tf K.tt t))))
theorem nidx_b {K : TK} {a b : Int} : ∀ (ns : List Int) (n : Int), nidx K ns a b n = -1 ∨ (n ≤ nidx K ns a b n ∧ nidx K ns a b n < n + ns.length)
  | [], _ => Or.inl rfl
  | t :: ts, n => by
    unfold nidx
    rcases Classical.em (sameP K.tx a b (K.tf t) (K.tt t)) with h | h
    · rw [cit_t h, List.length_cons]; right; omega
    · rw [cit_f h, List.length_cons]
      rcases nidx_b ts (n + 1) with h1 | h1
      · exact Or.inl h1
      · right; omega
theorem clsAt_b {K : TK} {ns : List Int} {a b : Int} : -1 ≤ clsAt K ns a b ∧ clsAt K ns a b < 8 + ns.length := by
  unfold clsAt
  rcases Classical.em (widx K.tx a b knW 0 < 0) with h | h
  · rw [cit_t h]
    rcases nidx_b (K := K) (a := a) (b := b) ns 8 with h1 | h1 <;> omega
  · rw [cit_f h]
    have h1 := widx_b (tx := K.tx) (a := a) (b := b) knW 0
    have h2 : (knW.length : Int) = 8 := by decide
    rw [h2] at h1
    omega
theorem ty_105 {K : TK} {t : Int} (h : K.ty t) : K.tx (K.tf t) = 105 ↔ intB K.tx K.tf K.tt t := by
  constructor
  · intro h1
    rcases h.2 with h2 | h2
    · exact h2
    · have := h2.2.2.2.1; omega
  · intro h1
    obtain ⟨h2, h3⟩ := strR_i h1
    have h4 : K.tx (K.tf t + 0) = 105 := h3 0 (by omega) (by omega)
    rw [show K.tf t + 0 = K.tf t by omega] at h4
    exact h4
theorem r77_0 {L c3 c4 c5 c6 : Nat} {K : TK} {D : Dt} {Q : Out → Wd → Prop} {t : Int} (H : (TokOK (D 54) (D 55) (D 56) (D 57) ∧ 0 ≤ t ∧ t < D 54 1) ∧ ((((intB (D 224) (D 55) (D 57) t → ((TokOK (D 54) (D 55) (D 56) (D 57) ∧ 0 ≤ t ∧ t < D 54 1) ∧ ((((arrW (D 224) (D 55) (D 57) t → (Q (.inl [vi 3]) (D, SS L 1 2 c3 c4 c5 c6))) ∧ (¬ (arrW (D 224) (D 55) (D 57) t) → (Q (.inl [vi 0]) (D, SS L 1 2 c3 c4 c5 c6)))))))) ∧ (¬ (intB (D 224) (D 55) (D 57) t) → ((0 ≤ t ∧ t < D 55 (-1)) ∧ ((TokOK (D 54) (D 55) (D 56) (D 57) ∧ 0 ≤ t ∧ t < D 54 1) ∧ ((∃ (ns5 : List Int), (SKp K (D 54) (D 55) (D 56) (D 57) (D 224) ∧ CS K ns5 (D 197 0) (D 60) ∧ 0 ≤ (D 55 t) ∧ (D 55 t) ≤ 16000 ∧ 0 ≤ (bEnd (D 224) (D 55) (D 57) t) ∧ (bEnd (D 224) (D 55) (D 57) t) ≤ 16000) ∧ ((((clsAt K ns5 (D 55 t) (bEnd (D 224) (D 55) (D 57) t) < 0 → (Q (.inl [vi (-1)]) (D, SS L 1 2 c3 c4 c5 c6))) ∧ (¬ (clsAt K ns5 (D 55 t) (bEnd (D 224) (D 55) (D 57) t) < 0) → ((TokOK (D 54) (D 55) (D 56) (D 57) ∧ 0 ≤ t ∧ t < D 54 1) ∧ ((((arrW (D 224) (D 55) (D 57) t → (((-2147483648) ≤ 64 + (clsAt K ns5 (D 55 t) (bEnd (D 224) (D 55) (D 57) t)) ∧ 64 + (clsAt K ns5 (D 55 t) (bEnd (D 224) (D 55) (D 57) t)) ≤ 2147483647) ∧ (Q (.inl [vi (64 + (clsAt K ns5 (D 55 t) (bEnd (D 224) (D 55) (D 57) t)))]) (D, SS L 1 2 c3 c4 c5 c6)))) ∧ (¬ (arrW (D 224) (D 55) (D 57) t) → (((-2147483648) ≤ 16 + (clsAt K ns5 (D 55 t) (bEnd (D 224) (D 55) (D 57) t)) ∧ 16 + (clsAt K ns5 (D 55 t) (bEnd (D 224) (D 55) (D 57) t)) ≤ 2147483647) ∧ (Q (.inl [vi (16 + (clsAt K ns5 (D 55 t) (bEnd (D 224) (D 55) (D 57) t)))]) (D, SS L 1 2 c3 c4 c5 c6))))))))))))))))))))) : wp 77 0 [vr 79, vi t, vu] [] (D, SS L 1 2 c3 c4 c5 c6) Q := vc_wp [4] 200 _ _ _ _ _ _ (show wp 77 4 [vr 79, vi t, vu] [vr 53] (D, SS L 1 2 c3 c4 c5 c6) Q from vc_wp [] 200 _ _ _ _ _ _ (show wp 43 0 [vr 53, vi t] [] (D, SS L 1 2 c3 c4 c5 c6) (aft wp 77 5 [vr 79, vi t, vu] [] Q) from s43 ⟨H.1, (show wp 77 8 [vr 79, vi t, vu] [vi (ib (intB (D 224) (D 55) (D 57) t))] (D, SS L 1 2 c3 c4 c5 c6) Q from vc_wp [15, 33] 200 _ _ _ _ _ _ (show ((ib (intB (D 224) (D 55) (D 57) t) = 0 → (wp 77 33 [vr 79, vi t, vu] [vr 53, vr 79] (D, SS L 1 2 c3 c4 c5 c6) Q)) ∧ (¬ (ib (intB (D 224) (D 55) (D 57) t) = 0) → (wp 77 15 [vr 79, vi t, vu] [vr 53] (D, SS L 1 2 c3 c4 c5 c6) Q))) from ⟨fun h20 => vc_wp [36] 200 _ _ _ _ _ _ (show wp 77 36 [vr 79, vi t, vu] [vr 54, vr 79] (D, SS L 1 2 c3 c4 c5 c6) Q from vc_wp [39] 200 _ _ _ _ _ _ (show wp 77 39 [vr 79, vi t, vu] [vr 55, vr 79] (D, SS L 1 2 c3 c4 c5 c6) Q from vc_wp [45] 200 _ _ _ _ _ _ (show (0 ≤ t ∧ t < D 55 (-1)) ∧ (wp 77 45 [vr 79, vi t, vu] [vr 53, vi (D 55 t), vr 79] (D, SS L 1 2 c3 c4 c5 c6) Q) from ⟨(H.2.2 ((ib_z).mp h20)).1, vc_wp [] 200 _ _ _ _ _ _ (show wp 44 0 [vr 53, vi t] [] (D, SS L 1 2 c3 c4 c5 c6) (aft wp 77 46 [vr 79, vi t, vu] [vi (D 55 t), vr 79] Q) from s44 ⟨(H.2.2 ((ib_z).mp h20)).2.1, (show wp 77 49 [vr 79, vi t, vu] [vi (bEnd (D 224) (D 55) (D 57) t), vi (D 55 t), vr 79] (D, SS L 1 2 c3 c4 c5 c6) Q from vc_wp [] 200 _ _ _ _ _ _ (show wp 71 0 [vr 79, vi (D 55 t), vi (bEnd (D 224) (D 55) (D 57) t), vu, vu, vu] [] (D, SS L 1 2 c3 c4 c5 c6) (aft wp 77 49 [vr 79, vi t, vu] [] Q) from Exists.elim ((H.2.2 ((ib_z).mp h20)).2.2) fun ns5 x6 => s71 ⟨ns5, x6.1, (show wp 77 52 [vr 79, vi t, vu] [vi (clsAt K ns5 (D 55 t) (bEnd (D 224) (D 55) (D 57) t))] (D, SS L 1 2 c3 c4 c5 c6) Q from vc_wp [65, 81] 200 _ _ _ _ _ _ (show ((clsAt K ns5 (D 55 t) (bEnd (D 224) (D 55) (D 57) t) < 0 → (wp 77 81 [vr 79, vi t, vi (clsAt K ns5 (D 55 t) (bEnd (D 224) (D 55) (D 57) t))] [vi (-1)] (D, SS L 1 2 c3 c4 c5 c6) Q)) ∧ (¬ (clsAt K ns5 (D 55 t) (bEnd (D 224) (D 55) (D 57) t) < 0) → (wp 77 65 [vr 79, vi t, vi (clsAt K ns5 (D 55 t) (bEnd (D 224) (D 55) (D 57) t))] [vr 53] (D, SS L 1 2 c3 c4 c5 c6) Q))) from ⟨fun h14 => vc_wp [] 200 _ _ _ _ _ _ (show Q (.inl [vi (-1)]) (D, SS L 1 2 c3 c4 c5 c6) from (x6.2.1 h14)), fun h15 => vc_wp [] 200 _ _ _ _ _ _ (show wp 53 0 [vr 53, vi t] [] (D, SS L 1 2 c3 c4 c5 c6) (aft wp 77 66 [vr 79, vi t, vi (clsAt K ns5 (D 55 t) (bEnd (D 224) (D 55) (D 57) t))] [] Q) from r53_0 ⟨(x6.2.2 h15).1, (show wp 77 69 [vr 79, vi t, vi (clsAt K ns5 (D 55 t) (bEnd (D 224) (D 55) (D 57) t))] [vi (ib (arrW (D 224) (D 55) (D 57) t))] (D, SS L 1 2 c3 c4 c5 c6) Q from vc_wp [81] 200 _ _ _ _ _ _ (show ((ib (arrW (D 224) (D 55) (D 57) t) = 0 → (wp 77 81 [vr 79, vi t, vi (clsAt K ns5 (D 55 t) (bEnd (D 224) (D 55) (D 57) t))] [vi (w32 (16 + (clsAt K ns5 (D 55 t) (bEnd (D 224) (D 55) (D 57) t))))] (D, SS L 1 2 c3 c4 c5 c6) Q)) ∧ (¬ (ib (arrW (D 224) (D 55) (D 57) t) = 0) → (wp 77 81 [vr 79, vi t, vi (clsAt K ns5 (D 55 t) (bEnd (D 224) (D 55) (D 57) t))] [vi (w32 (64 + (clsAt K ns5 (D 55 t) (bEnd (D 224) (D 55) (D 57) t))))] (D, SS L 1 2 c3 c4 c5 c6) Q))) from ⟨fun h12 => w32_i (fun z10 : Int => wp 77 81 [vr 79, vi t, vi (clsAt K ns5 (D 55 t) (bEnd (D 224) (D 55) (D 57) t))] [vi z10] (D, SS L 1 2 c3 c4 c5 c6) Q) (((x6.2.2 h15).2.2 ((ib_z).mp h12))).1 (vc_wp [] 200 _ _ _ _ _ _ (show Q (.inl [vi (16 + (clsAt K ns5 (D 55 t) (bEnd (D 224) (D 55) (D 57) t)))]) (D, SS L 1 2 c3 c4 c5 c6) from (((x6.2.2 h15).2.2 ((ib_z).mp h12))).2)), fun h13 => w32_i (fun z11 : Int => wp 77 81 [vr 79, vi t, vi (clsAt K ns5 (D 55 t) (bEnd (D 224) (D 55) (D 57) t))] [vi z11] (D, SS L 1 2 c3 c4 c5 c6) Q) (((x6.2.2 h15).2.1 (Classical.not_not.mp (mt (ib_z).mpr h13)))).1 (vc_wp [] 200 _ _ _ _ _ _ (show Q (.inl [vi (64 + (clsAt K ns5 (D 55 t) (bEnd (D 224) (D 55) (D 57) t)))]) (D, SS L 1 2 c3 c4 c5 c6) from (((x6.2.2 h15).2.1 (Classical.not_not.mp (mt (ib_z).mpr h13)))).2))⟩))⟩)⟩))⟩))⟩)⟩))), fun h21 => vc_wp [] 200 _ _ _ _ _ _ (show wp 53 0 [vr 53, vi t] [] (D, SS L 1 2 c3 c4 c5 c6) (aft wp 77 16 [vr 79, vi t, vu] [] Q) from r53_0 ⟨(H.2.1 (Classical.not_not.mp (mt (ib_z).mpr h21))).1, (show wp 77 19 [vr 79, vi t, vu] [vi (ib (arrW (D 224) (D 55) (D 57) t))] (D, SS L 1 2 c3 c4 c5 c6) Q from vc_wp [] 200 _ _ _ _ _ _ (show ((ib (arrW (D 224) (D 55) (D 57) t) = 0 → (Q (.inl [vi 0]) (D, SS L 1 2 c3 c4 c5 c6))) ∧ (¬ (ib (arrW (D 224) (D 55) (D 57) t) = 0) → (Q (.inl [vi 3]) (D, SS L 1 2 c3 c4 c5 c6)))) from ⟨fun h18 => ((H.2.1 (Classical.not_not.mp (mt (ib_z).mpr h21))).2.2 ((ib_z).mp h18)), fun h19 => ((H.2.1 (Classical.not_not.mp (mt (ib_z).mpr h21))).2.1 (Classical.not_not.mp (mt (ib_z).mpr h19)))⟩))⟩)⟩))⟩))
theorem s77 {L c3 c4 c5 c6 : Nat} {D : Dt} {Q : Out → Wd → Prop} {K : TK} {t : Int} (H : ∃ ns, (SKp K (D 54) (D 55) (D 56) (D 57) (D 224) ∧ CS K ns (D 197 0) (D 60) ∧ 0 ≤ t ∧ t < K.n) ∧ Q (.inl [vi (tyOf K ns t)]) (D, SS L 1 2 c3 c4 c5 c6)) : wp 77 0 [vr 79, vi t, vu] [] (D, SS L 1 2 c3 c4 c5 c6) Q := by
  obtain ⟨ns, ⟨hS, hC, h0, h1⟩, H⟩ := H
  have hk := sk_tok hS h0 h1
  have he : D 55 t = K.tf t ∧ D 57 t = K.tt t := ⟨hk.1, hk.2.1⟩
  have hT : TokOK (D 54) (D 55) (D 56) (D 57) ∧ 0 ≤ t ∧ t < D 54 1 := ⟨hS.1, h0, by rw [hS.2.2.1]; exact h1⟩
  have hb := bEnd_ok (tx := K.tx) (tf := K.tf) (tt := K.tt) (t := t) ⟨hk.2.2.1, hk.2.2.2.1, hk.2.2.2.2.1⟩
  have hcb := clsAt_b (K := K) (ns := ns) (a := K.tf t) (b := bEnd K.tx K.tf K.tt t)
  have hcl := hC.2.1
  have hi : intB (D 224) (D 55) (D 57) t ↔ intB K.tx K.tf K.tt t := by rw [hS.2.1]; exact c_ib he
  have ha : arrW (D 224) (D 55) (D 57) t ↔ arrW K.tx K.tf K.tt t := by rw [hS.2.1]; exact c_arr he
  have hbe : bEnd (D 224) (D 55) (D 57) t = bEnd K.tx K.tf K.tt t := by rw [hS.2.1]; exact c_be he
  refine r77_0 (K := K) ?_
  rw [propext hi, propext ha, hbe, he.1]
  refine ⟨hT, fun g => ⟨hT, fun g2 => q_i H ((cit_t g).trans (cit_t g2)), fun g2 => q_i H ((cit_t g).trans (cit_f g2))⟩, fun g => ⟨by omega, hT, ns, ⟨hS, hC, by omega⟩, fun g2 => q_i H ((cit_f g).trans (cit_t g2)), fun g2 => ⟨hT, fun g3 => ⟨by omega, q_i H ((cit_f g).trans ((cit_f g2).trans (cit_t g3)))⟩, fun g3 => ⟨by omega, q_i H ((cit_f g).trans ((cit_f g2).trans (cit_f g3)))⟩⟩⟩⟩
theorem r76_0 {L c3 c4 c5 c6 : Nat} {K : TK} {D : Dt} {Q : Out → Wd → Prop} {t : Int} (H : ∃ (ns1 : List Int), (SKp K (D 54) (D 55) (D 56) (D 57) (D 224) ∧ CS K ns1 (D 197 0) (D 60) ∧ 0 ≤ t ∧ t < K.n) ∧ ((((tyOf K ns1 t < 0 → (Q (.inr 52) (up (up D 51 1 3) 51 2 t, SS L 1 2 c3 c4 c5 c6))) ∧ (¬ (tyOf K ns1 t < 0) → (Q (.inl [vi (tyOf K ns1 t)]) (D, SS L 1 2 c3 c4 c5 c6))))))) : wp 76 0 [vr 79, vi t, vu] [] (D, SS L 1 2 c3 c4 c5 c6) Q := vc_wp [] 200 _ _ _ _ _ _ (show wp 77 0 [vr 79, vi t, vu] [] (D, SS L 1 2 c3 c4 c5 c6) (aft wp 76 2 [vr 79, vi t, vu] [] Q) from Exists.elim (H) fun ns1 x2 => s77 ⟨ns1, x2.1, (show wp 76 5 [vr 79, vi t, vu] [vi (tyOf K ns1 t)] (D, SS L 1 2 c3 c4 c5 c6) Q from vc_wp [] 200 _ _ _ _ _ _ (show ((tyOf K ns1 t < 0 → (wp 72 0 [vr 79, vi 0, vi t] [] (D, SS L 1 2 c3 c4 c5 c6) (aft wp 76 17 [vr 79, vi t, vi (tyOf K ns1 t)] [] Q))) ∧ (¬ (tyOf K ns1 t < 0) → (wp 72 0 [vr 79, vi 1, vi t] [] (D, SS L 1 2 c3 c4 c5 c6) (aft wp 76 17 [vr 79, vi t, vi (tyOf K ns1 t)] [] Q)))) from ⟨fun h8 => n72 (show Q (.inr 52) (up (up D 51 1 3) 51 2 t, SS L 1 2 c3 c4 c5 c6) from (x2.2.1 h8)), fun h9 => y72 (show wp 76 20 [vr 79, vi t, vi (tyOf K ns1 t)] [] (D, SS L 1 2 c3 c4 c5 c6) Q from vc_wp [] 200 _ _ _ _ _ _ (show Q (.inl [vi (tyOf K ns1 t)]) (D, SS L 1 2 c3 c4 c5 c6) from (x2.2.2 h9)))⟩))⟩)
theorem r262_0 {L c2 c3 c4 c5 c6 : Nat} {K : TK} {D : Dt} {Q : Out → Wd → Prop} {t : Int} (H : (TokM (D 226) (D 321) (D 322) ∧ 0 ≤ t ∧ t < D 226 10) ∧ ((((arrW (D 320) (D 321) (D 322) t → ((0 ≤ t ∧ t < 16002) ∧ (((-2147483648) ≤ (D 322 t) - 2 ∧ (D 322 t) - 2 ≤ 2147483647) ∧ ((0 ≤ t ∧ t < 16002) ∧ ((0 ≤ D 321 t ∧ D 321 t < 16000) ∧ ((D 320 (D 321 t) = 105 → ((arrW (D 320) (D 321) (D 322) t → (Q (.inl [vi 40]) (D, SS L 1 c2 c3 c4 c5 c6))) ∧ (¬ (arrW (D 320) (D 321) (D 322) t) → (Q (.inl [vi 0]) (D, SS L 1 c2 c3 c4 c5 c6))))) ∧ (¬ (D 320 (D 321 t) = 105) → ((0 ≤ t ∧ t < 16002) ∧ (∃ (ns18 : List Int), (MKp K (D 226 10) (D 321) (D 322) (D 320) ∧ CM K ns18 (D 273 0) (D 323) ∧ 0 ≤ (D 321 t) ∧ (D 321 t) ≤ 16000 ∧ 0 ≤ ((D 322 t) - 2) ∧ ((D 322 t) - 2) ≤ 16000) ∧ ((((clsAt K ns18 (D 321 t) ((D 322 t) - 2) < 0 → (Q (.inl [vi (-1)]) (D, SS L 1 c2 c3 c4 c5 c6))) ∧ (¬ (clsAt K ns18 (D 321 t) ((D 322 t) - 2) < 0) → ((arrW (D 320) (D 321) (D 322) t → (((-2147483648) ≤ 48 + (clsAt K ns18 (D 321 t) ((D 322 t) - 2)) ∧ 48 + (clsAt K ns18 (D 321 t) ((D 322 t) - 2)) ≤ 2147483647) ∧ (Q (.inl [vi (48 + (clsAt K ns18 (D 321 t) ((D 322 t) - 2)))]) (D, SS L 1 c2 c3 c4 c5 c6)))) ∧ (¬ (arrW (D 320) (D 321) (D 322) t) → (((-2147483648) ≤ 8 + (clsAt K ns18 (D 321 t) ((D 322 t) - 2)) ∧ 8 + (clsAt K ns18 (D 321 t) ((D 322 t) - 2)) ≤ 2147483647) ∧ (Q (.inl [vi (8 + (clsAt K ns18 (D 321 t) ((D 322 t) - 2)))]) (D, SS L 1 c2 c3 c4 c5 c6)))))))))))))))))) ∧ (¬ (arrW (D 320) (D 321) (D 322) t) → ((0 ≤ t ∧ t < 16002) ∧ ((0 ≤ t ∧ t < 16002) ∧ ((0 ≤ D 321 t ∧ D 321 t < 16000) ∧ ((D 320 (D 321 t) = 105 → ((arrW (D 320) (D 321) (D 322) t → (Q (.inl [vi 40]) (D, SS L 1 c2 c3 c4 c5 c6))) ∧ (¬ (arrW (D 320) (D 321) (D 322) t) → (Q (.inl [vi 0]) (D, SS L 1 c2 c3 c4 c5 c6))))) ∧ (¬ (D 320 (D 321 t) = 105) → ((0 ≤ t ∧ t < 16002) ∧ (∃ (ns5 : List Int), (MKp K (D 226 10) (D 321) (D 322) (D 320) ∧ CM K ns5 (D 273 0) (D 323) ∧ 0 ≤ (D 321 t) ∧ (D 321 t) ≤ 16000 ∧ 0 ≤ (D 322 t) ∧ (D 322 t) ≤ 16000) ∧ ((((clsAt K ns5 (D 321 t) (D 322 t) < 0 → (Q (.inl [vi (-1)]) (D, SS L 1 c2 c3 c4 c5 c6))) ∧ (¬ (clsAt K ns5 (D 321 t) (D 322 t) < 0) → ((arrW (D 320) (D 321) (D 322) t → (((-2147483648) ≤ 48 + (clsAt K ns5 (D 321 t) (D 322 t)) ∧ 48 + (clsAt K ns5 (D 321 t) (D 322 t)) ≤ 2147483647) ∧ (Q (.inl [vi (48 + (clsAt K ns5 (D 321 t) (D 322 t)))]) (D, SS L 1 c2 c3 c4 c5 c6)))) ∧ (¬ (arrW (D 320) (D 321) (D 322) t) → (((-2147483648) ≤ 8 + (clsAt K ns5 (D 321 t) (D 322 t)) ∧ 8 + (clsAt K ns5 (D 321 t) (D 322 t)) ≤ 2147483647) ∧ (Q (.inl [vi (8 + (clsAt K ns5 (D 321 t) (D 322 t)))]) (D, SS L 1 c2 c3 c4 c5 c6))))))))))))))))))))) : wp 262 0 [vr 226, vr 273, vi t, vu, vu, vu] [] (D, SS L 1 c2 c3 c4 c5 c6) Q := vc_wp [] 200 _ _ _ _ _ _ (show wp 242 0 [vr 226, vi t] [] (D, SS L 1 c2 c3 c4 c5 c6) (aft wp 262 2 [vr 226, vr 273, vi t, vu, vu, vu] [] Q) from s242 ⟨H.1, (show wp 262 5 [vr 226, vr 273, vi t, vu, vu, vu] [vi (ib (arrW (D 320) (D 321) (D 322) t))] (D, SS L 1 c2 c3 c4 c5 c6) Q from vc_wp [14, 25] 200 _ _ _ _ _ _ (show ((ib (arrW (D 320) (D 321) (D 322) t) = 0 → (wp 262 25 [vr 226, vr 273, vi t, vi (ib (arrW (D 320) (D 321) (D 322) t)), vu, vu] [vr 322] (D, SS L 1 c2 c3 c4 c5 c6) Q)) ∧ (¬ (ib (arrW (D 320) (D 321) (D 322) t) = 0) → (wp 262 14 [vr 226, vr 273, vi t, vi (ib (arrW (D 320) (D 321) (D 322) t)), vu, vu] [vr 322] (D, SS L 1 c2 c3 c4 c5 c6) Q))) from ⟨fun h30 => vc_wp [33] 200 _ _ _ _ _ _ (show (0 ≤ t ∧ t < 16002) ∧ (wp 262 33 [vr 226, vr 273, vi t, vi (ib (arrW (D 320) (D 321) (D 322) t)), vi (D 322 t), vu] [vr 320] (D, SS L 1 c2 c3 c4 c5 c6) Q) from ⟨(H.2.2 ((ib_z).mp h30)).1, vc_wp [37] 200 _ _ _ _ _ _ (show wp 262 37 [vr 226, vr 273, vi t, vi (ib (arrW (D 320) (D 321) (D 322) t)), vi (D 322 t), vu] [vr 321, vr 320] (D, SS L 1 c2 c3 c4 c5 c6) Q from vc_wp [62] 200 _ _ _ _ _ _ (show (0 ≤ t ∧ t < 16002) ∧ ((0 ≤ D 321 t ∧ D 321 t < 16000) ∧ ((D 320 (D 321 t) = 105 → ((ib (arrW (D 320) (D 321) (D 322) t) = 0 → (Q (.inl [vi 0]) (D, SS L 1 c2 c3 c4 c5 c6))) ∧ (¬ (ib (arrW (D 320) (D 321) (D 322) t) = 0) → (Q (.inl [vi 40]) (D, SS L 1 c2 c3 c4 c5 c6))))) ∧ (¬ (D 320 (D 321 t) = 105) → (wp 262 62 [vr 226, vr 273, vi t, vi (ib (arrW (D 320) (D 321) (D 322) t)), vi (D 322 t), vu] [vr 321, vr 273, vr 226] (D, SS L 1 c2 c3 c4 c5 c6) Q)))) from ⟨(H.2.2 ((ib_z).mp h30)).2.1, ⟨(H.2.2 ((ib_z).mp h30)).2.2.1, ⟨fun h14 => ⟨fun h3 => (((H.2.2 ((ib_z).mp h30)).2.2.2.1 h14).2 ((ib_z).mp h3)), fun h4 => (((H.2.2 ((ib_z).mp h30)).2.2.2.1 h14).1 (Classical.not_not.mp (mt (ib_z).mpr h4)))⟩, fun h15 => vc_wp [] 200 _ _ _ _ _ _ (show (0 ≤ t ∧ t < 16002) ∧ (wp 253 0 [vr 226, vr 273, vi (D 321 t), vi (D 322 t), vu, vu] [] (D, SS L 1 c2 c3 c4 c5 c6) (aft wp 262 66 [vr 226, vr 273, vi t, vi (ib (arrW (D 320) (D 321) (D 322) t)), vi (D 322 t), vu] [] Q)) from ⟨((H.2.2 ((ib_z).mp h30)).2.2.2.2 h15).1, Exists.elim (((H.2.2 ((ib_z).mp h30)).2.2.2.2 h15).2) fun ns5 x6 => s253 ⟨ns5, x6.1, (show wp 262 69 [vr 226, vr 273, vi t, vi (ib (arrW (D 320) (D 321) (D 322) t)), vi (D 322 t), vu] [vi (clsAt K ns5 (D 321 t) (D 322 t))] (D, SS L 1 c2 c3 c4 c5 c6) Q from vc_wp [89, 97] 200 _ _ _ _ _ _ (show ((clsAt K ns5 (D 321 t) (D 322 t) < 0 → (wp 262 97 [vr 226, vr 273, vi t, vi (ib (arrW (D 320) (D 321) (D 322) t)), vi (D 322 t), vi (clsAt K ns5 (D 321 t) (D 322 t))] [vi (-1)] (D, SS L 1 c2 c3 c4 c5 c6) Q)) ∧ (¬ (clsAt K ns5 (D 321 t) (D 322 t) < 0) → ((ib (arrW (D 320) (D 321) (D 322) t) = 0 → (wp 262 97 [vr 226, vr 273, vi t, vi (ib (arrW (D 320) (D 321) (D 322) t)), vi (D 322 t), vi (clsAt K ns5 (D 321 t) (D 322 t))] [vi (w32 (8 + (clsAt K ns5 (D 321 t) (D 322 t))))] (D, SS L 1 c2 c3 c4 c5 c6) Q)) ∧ (¬ (ib (arrW (D 320) (D 321) (D 322) t) = 0) → (wp 262 89 [vr 226, vr 273, vi t, vi (ib (arrW (D 320) (D 321) (D 322) t)), vi (D 322 t), vi (clsAt K ns5 (D 321 t) (D 322 t))] [vi (w32 (48 + (clsAt K ns5 (D 321 t) (D 322 t))))] (D, SS L 1 c2 c3 c4 c5 c6) Q))))) from ⟨fun h12 => vc_wp [] 200 _ _ _ _ _ _ (show Q (.inl [vi (-1)]) (D, SS L 1 c2 c3 c4 c5 c6) from (x6.2.1 h12)), fun h13 => ⟨fun h10 => w32_i (fun z8 : Int => wp 262 97 [vr 226, vr 273, vi t, vi (ib (arrW (D 320) (D 321) (D 322) t)), vi (D 322 t), vi (clsAt K ns5 (D 321 t) (D 322 t))] [vi z8] (D, SS L 1 c2 c3 c4 c5 c6) Q) (((x6.2.2 h13).2 ((ib_z).mp h10))).1 (vc_wp [] 200 _ _ _ _ _ _ (show Q (.inl [vi (8 + (clsAt K ns5 (D 321 t) (D 322 t)))]) (D, SS L 1 c2 c3 c4 c5 c6) from (((x6.2.2 h13).2 ((ib_z).mp h10))).2)), fun h11 => w32_i (fun z9 : Int => wp 262 89 [vr 226, vr 273, vi t, vi (ib (arrW (D 320) (D 321) (D 322) t)), vi (D 322 t), vi (clsAt K ns5 (D 321 t) (D 322 t))] [vi z9] (D, SS L 1 c2 c3 c4 c5 c6) Q) (((x6.2.2 h13).1 (Classical.not_not.mp (mt (ib_z).mpr h11)))).1 (vc_wp [97] 200 _ _ _ _ _ _ (show wp 262 97 [vr 226, vr 273, vi t, vi (ib (arrW (D 320) (D 321) (D 322) t)), vi (D 322 t), vi (clsAt K ns5 (D 321 t) (D 322 t))] [vi (48 + (clsAt K ns5 (D 321 t) (D 322 t)))] (D, SS L 1 c2 c3 c4 c5 c6) Q from vc_wp [] 200 _ _ _ _ _ _ (show Q (.inl [vi (48 + (clsAt K ns5 (D 321 t) (D 322 t)))]) (D, SS L 1 c2 c3 c4 c5 c6) from (((x6.2.2 h13).1 (Classical.not_not.mp (mt (ib_z).mpr h11)))).2)))⟩⟩))⟩⟩)⟩⟩⟩))⟩), fun h31 => vc_wp [18] 200 _ _ _ _ _ _ (show (0 ≤ t ∧ t < 16002) ∧ (wp 262 18 [vr 226, vr 273, vi t, vi (ib (arrW (D 320) (D 321) (D 322) t)), vu, vu] [vi (w32 ((D 322 t) - 2))] (D, SS L 1 c2 c3 c4 c5 c6) Q) from ⟨(H.2.1 (Classical.not_not.mp (mt (ib_z).mpr h31))).1, w32_i (fun z29 : Int => wp 262 18 [vr 226, vr 273, vi t, vi (ib (arrW (D 320) (D 321) (D 322) t)), vu, vu] [vi z29] (D, SS L 1 c2 c3 c4 c5 c6) Q) ((H.2.1 (Classical.not_not.mp (mt (ib_z).mpr h31))).2).1 (vc_wp [33] 200 _ _ _ _ _ _ (show wp 262 33 [vr 226, vr 273, vi t, vi (ib (arrW (D 320) (D 321) (D 322) t)), vi ((D 322 t) - 2), vu] [vr 320] (D, SS L 1 c2 c3 c4 c5 c6) Q from vc_wp [37] 200 _ _ _ _ _ _ (show wp 262 37 [vr 226, vr 273, vi t, vi (ib (arrW (D 320) (D 321) (D 322) t)), vi ((D 322 t) - 2), vu] [vr 321, vr 320] (D, SS L 1 c2 c3 c4 c5 c6) Q from vc_wp [62] 200 _ _ _ _ _ _ (show (0 ≤ t ∧ t < 16002) ∧ ((0 ≤ D 321 t ∧ D 321 t < 16000) ∧ ((D 320 (D 321 t) = 105 → ((ib (arrW (D 320) (D 321) (D 322) t) = 0 → (Q (.inl [vi 0]) (D, SS L 1 c2 c3 c4 c5 c6))) ∧ (¬ (ib (arrW (D 320) (D 321) (D 322) t) = 0) → (Q (.inl [vi 40]) (D, SS L 1 c2 c3 c4 c5 c6))))) ∧ (¬ (D 320 (D 321 t) = 105) → (wp 262 62 [vr 226, vr 273, vi t, vi (ib (arrW (D 320) (D 321) (D 322) t)), vi ((D 322 t) - 2), vu] [vr 321, vr 273, vr 226] (D, SS L 1 c2 c3 c4 c5 c6) Q)))) from ⟨((H.2.1 (Classical.not_not.mp (mt (ib_z).mpr h31))).2).2.1, ⟨((H.2.1 (Classical.not_not.mp (mt (ib_z).mpr h31))).2).2.2.1, ⟨fun h27 => ⟨fun h16 => ((((H.2.1 (Classical.not_not.mp (mt (ib_z).mpr h31))).2).2.2.2.1 h27).2 ((ib_z).mp h16)), fun h17 => ((((H.2.1 (Classical.not_not.mp (mt (ib_z).mpr h31))).2).2.2.2.1 h27).1 (Classical.not_not.mp (mt (ib_z).mpr h17)))⟩, fun h28 => vc_wp [] 200 _ _ _ _ _ _ (show (0 ≤ t ∧ t < 16002) ∧ (wp 253 0 [vr 226, vr 273, vi (D 321 t), vi ((D 322 t) - 2), vu, vu] [] (D, SS L 1 c2 c3 c4 c5 c6) (aft wp 262 66 [vr 226, vr 273, vi t, vi (ib (arrW (D 320) (D 321) (D 322) t)), vi ((D 322 t) - 2), vu] [] Q)) from ⟨(((H.2.1 (Classical.not_not.mp (mt (ib_z).mpr h31))).2).2.2.2.2 h28).1, Exists.elim ((((H.2.1 (Classical.not_not.mp (mt (ib_z).mpr h31))).2).2.2.2.2 h28).2) fun ns18 x19 => s253 ⟨ns18, x19.1, (show wp 262 69 [vr 226, vr 273, vi t, vi (ib (arrW (D 320) (D 321) (D 322) t)), vi ((D 322 t) - 2), vu] [vi (clsAt K ns18 (D 321 t) ((D 322 t) - 2))] (D, SS L 1 c2 c3 c4 c5 c6) Q from vc_wp [89, 97] 200 _ _ _ _ _ _ (show ((clsAt K ns18 (D 321 t) ((D 322 t) - 2) < 0 → (wp 262 97 [vr 226, vr 273, vi t, vi (ib (arrW (D 320) (D 321) (D 322) t)), vi ((D 322 t) - 2), vi (clsAt K ns18 (D 321 t) ((D 322 t) - 2))] [vi (-1)] (D, SS L 1 c2 c3 c4 c5 c6) Q)) ∧ (¬ (clsAt K ns18 (D 321 t) ((D 322 t) - 2) < 0) → ((ib (arrW (D 320) (D 321) (D 322) t) = 0 → (wp 262 97 [vr 226, vr 273, vi t, vi (ib (arrW (D 320) (D 321) (D 322) t)), vi ((D 322 t) - 2), vi (clsAt K ns18 (D 321 t) ((D 322 t) - 2))] [vi (w32 (8 + (clsAt K ns18 (D 321 t) ((D 322 t) - 2))))] (D, SS L 1 c2 c3 c4 c5 c6) Q)) ∧ (¬ (ib (arrW (D 320) (D 321) (D 322) t) = 0) → (wp 262 89 [vr 226, vr 273, vi t, vi (ib (arrW (D 320) (D 321) (D 322) t)), vi ((D 322 t) - 2), vi (clsAt K ns18 (D 321 t) ((D 322 t) - 2))] [vi (w32 (48 + (clsAt K ns18 (D 321 t) ((D 322 t) - 2))))] (D, SS L 1 c2 c3 c4 c5 c6) Q))))) from ⟨fun h25 => vc_wp [] 200 _ _ _ _ _ _ (show Q (.inl [vi (-1)]) (D, SS L 1 c2 c3 c4 c5 c6) from (x19.2.1 h25)), fun h26 => ⟨fun h23 => w32_i (fun z21 : Int => wp 262 97 [vr 226, vr 273, vi t, vi (ib (arrW (D 320) (D 321) (D 322) t)), vi ((D 322 t) - 2), vi (clsAt K ns18 (D 321 t) ((D 322 t) - 2))] [vi z21] (D, SS L 1 c2 c3 c4 c5 c6) Q) (((x19.2.2 h26).2 ((ib_z).mp h23))).1 (vc_wp [] 200 _ _ _ _ _ _ (show Q (.inl [vi (8 + (clsAt K ns18 (D 321 t) ((D 322 t) - 2)))]) (D, SS L 1 c2 c3 c4 c5 c6) from (((x19.2.2 h26).2 ((ib_z).mp h23))).2)), fun h24 => w32_i (fun z22 : Int => wp 262 89 [vr 226, vr 273, vi t, vi (ib (arrW (D 320) (D 321) (D 322) t)), vi ((D 322 t) - 2), vi (clsAt K ns18 (D 321 t) ((D 322 t) - 2))] [vi z22] (D, SS L 1 c2 c3 c4 c5 c6) Q) (((x19.2.2 h26).1 (Classical.not_not.mp (mt (ib_z).mpr h24)))).1 (vc_wp [97] 200 _ _ _ _ _ _ (show wp 262 97 [vr 226, vr 273, vi t, vi (ib (arrW (D 320) (D 321) (D 322) t)), vi ((D 322 t) - 2), vi (clsAt K ns18 (D 321 t) ((D 322 t) - 2))] [vi (48 + (clsAt K ns18 (D 321 t) ((D 322 t) - 2)))] (D, SS L 1 c2 c3 c4 c5 c6) Q from vc_wp [] 200 _ _ _ _ _ _ (show Q (.inl [vi (48 + (clsAt K ns18 (D 321 t) ((D 322 t) - 2)))]) (D, SS L 1 c2 c3 c4 c5 c6) from (((x19.2.2 h26).1 (Classical.not_not.mp (mt (ib_z).mpr h24)))).2)))⟩⟩))⟩⟩)⟩⟩⟩))))⟩)⟩))⟩)
theorem mT_3 : mT 3 = 40 := rfl
theorem mT_a {c : Int} (h : 0 ≤ c) : mT (64 + c) = 48 + c := by unfold mT; rw [if_neg (by omega), if_pos (by omega)]; omega
theorem mT_c {c : Int} (h : 0 ≤ c) (h1 : c < 48) : mT (16 + c) = 8 + c := by unfold mT; rw [if_neg (by omega), if_neg (by omega), if_pos (by omega)]; omega
theorem s262 {L c2 c3 c4 c5 c6 : Nat} {D : Dt} {Q : Out → Wd → Prop} {K : TK} {t : Int} (H : ∃ ns, (MKp K (D 226 10) (D 321) (D 322) (D 320) ∧ CM K ns (D 273 0) (D 323) ∧ 0 ≤ t ∧ K.ty t) ∧ Q (.inl [vi (mT (tyOf K ns t))]) (D, SS L 1 c2 c3 c4 c5 c6)) : wp 262 0 [vr 226, vr 273, vi t, vu, vu, vu] [] (D, SS L 1 c2 c3 c4 c5 c6) Q := by
  obtain ⟨ns, ⟨hM, hC, h0, hty⟩, H⟩ := H
  have h1 : t < K.n := hty.1
  have hk := mk_tok hM h0 h1
  have he : D 321 t = K.tf t ∧ D 322 t = K.tt t := ⟨hk.1, hk.2.1⟩
  have hT : TokM (D 226) (D 321) (D 322) ∧ 0 ≤ t ∧ t < D 226 10 := ⟨hM.1, h0, by rw [hM.2.2.1]; exact h1⟩
  have hb := bEnd_ok (tx := K.tx) (tf := K.tf) (tt := K.tt) (t := t) ⟨hk.2.2.1, hk.2.2.2.1, hk.2.2.2.2.1⟩
  have hcb := clsAt_b (K := K) (ns := ns) (a := K.tf t) (b := bEnd K.tx K.tf K.tt t)
  have hcl := hC.2.1
  have ha : arrW (D 320) (D 321) (D 322) t ↔ arrW K.tx K.tf K.tt t := by rw [hM.2.1]; exact c_arr he
  have h5 := ty_105 hty
  have hM' := hM
  rw [hM.2.1] at hM'
  refine r262_0 (K := K) ?_
  rw [propext ha, he.1, he.2, hM.2.1]
  refine ⟨hT, fun g => ?_, fun g => ?_⟩
  · have hbe : K.tt t - 2 = bEnd K.tx K.tf K.tt t := by unfold bEnd; rw [ib_t g]; omega
    rw [hbe]
    refine ⟨by omega, by omega, by omega, by omega, fun g1 => ⟨fun _ => q_i H (by rw [show tyOf K ns t = 3 from (cit_t (h5.mp g1)).trans (cit_t g)]; rfl), fun x => absurd g x⟩, fun g1 => ⟨by omega, ns, ⟨hM', hC, by omega⟩, fun g2 => q_i H (by rw [show tyOf K ns t = -1 from (cit_f fun x => g1 (h5.mpr x)).trans (cit_t g2)]; rfl), fun g2 => ⟨fun _ => ⟨by omega, q_i H ?_⟩, fun x => absurd g x⟩⟩⟩
    rw [show tyOf K ns t = 64 + clsAt K ns (K.tf t) (bEnd K.tx K.tf K.tt t) from (cit_f fun x => g1 (h5.mpr x)).trans ((cit_f g2).trans (cit_t g)), mT_a (by omega)]
  · have hbe : K.tt t = bEnd K.tx K.tf K.tt t := by unfold bEnd; rw [ib_f g]; omega
    refine ⟨by omega, by omega, by omega, fun g1 => ⟨fun x => absurd x g, fun _ => q_i H (by rw [show tyOf K ns t = 0 from (cit_t (h5.mp g1)).trans (cit_f g)]; rfl)⟩, fun g1 => ⟨by omega, ns, ⟨hM', hC, by omega⟩, ?_⟩⟩
    have e : clsAt K ns (K.tf t) (K.tt t) = clsAt K ns (K.tf t) (bEnd K.tx K.tf K.tt t) := congrArg (clsAt K ns (K.tf t)) hbe
    rw [e]
    refine ⟨fun g2 => q_i H (by rw [show tyOf K ns t = -1 from (cit_f fun x => g1 (h5.mpr x)).trans (cit_t g2)]; rfl), fun g2 => ⟨fun x => absurd x g, fun _ => ⟨by omega, q_i H ?_⟩⟩⟩
    rw [show tyOf K ns t = 16 + clsAt K ns (K.tf t) (bEnd K.tx K.tf K.tt t) from (cit_f fun x => g1 (h5.mpr x)).trans ((cit_f g2).trans (cit_f g)), mT_c (by omega) (by omega)]
