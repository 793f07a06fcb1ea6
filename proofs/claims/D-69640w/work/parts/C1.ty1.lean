/-! types -/
set_option maxRecDepth 100000
/-- a type, with n classes: int 0, null 1, unset 2, int[] 3, classes 16.., arrays 64.. -/
def tyS (n t : Int) : Prop := t = 0 ∨ t = 1 ∨ t = 2 ∨ t = 3 ∨ (16 ≤ t ∧ t < 16 + n) ∨ (64 ≤ t ∧ t < 64 + n)
/-- a type is another or below it -/
def tbl (ab : List Int) (a b : Int) : Prop := a = b ∨ b = 2 ∨ (¬ (a = 0 ∨ a = 2 ∨ b = 0 ∨ b = 1) ∧ (a = 1 ∨ b = 16 ∨ (¬ (a = 3 ∨ b = 3) ∧ ((a < 64 ∧ b < 64 ∧ cbl ab (a - 16) (b - 16)) ∨ (64 ≤ a ∧ 64 ≤ b ∧ cbl ab (a - 64) (b - 64))))))
/-- the first class above c, or c, that d is below -/
noncomputable def cjN (ab : List Int) (d : Int) : Nat → Int → Int
  | 0, c => c
  | n + 1, c => cit (cbl ab d c) c (cjN ab d n (abF ab c))
noncomputable def cjn (ab : List Int) (c d : Int) : Int := cjN ab d (c.toNat + 1) c
noncomputable def tjn (ab : List Int) (a b : Int) : Int := cit (tbl ab a b) b (cit (tbl ab b a) a (cit (a = 0 ∨ b = 0) 2 (cit (64 ≤ a ∧ 64 ≤ b) (64 + cjn ab (a - 64) (b - 64)) (cit ((16 ≤ a ∧ a < 64) ∧ (16 ≤ b ∧ b < 64)) (16 + cjn ab (a - 16) (b - 16)) 16))))
/-- an element of an array type -/
def elT (t : Int) : Int := if t = 3 then 0 else if 64 ≤ t then t - 48 else 2
section Ty
theorem cbl_0 {ab : List Int} (hw : ABw ab) : ∀ (N : Nat) (c : Int), c.toNat < N → 0 ≤ c → c < 8 + ab.length → cbl ab c 0
  | 0, _, h, _, _ => by omega
  | N + 1, c, hN, h0, h1 => by
    by_cases e : c = 0
    · rw [e]; exact cbl_e (Int.le_refl _)
    · rw [cbl_s hw h0 h1 e]
      have h2 := abF_w hw h0 h1
      have h3 : 0 ≤ abF ab c := by
        unfold abF
        by_cases e1 : c = 1
        · rw [if_neg e, if_pos e1]; decide
        · rw [if_neg e, if_neg e1]
          by_cases e2 : c < 8
          · rw [if_pos e2]; decide
          · rw [if_neg e2]
            have := hw (c - 8).toNat (by omega)
            exact this.1
      exact cbl_0 hw N _ (by omega) h3 (by omega)
theorem cj_b {ab : List Int} (hw : ABw ab) {d : Int} (d0 : 0 ≤ d) (d1 : d < 8 + ab.length) : ∀ (N : Nat) (c : Int), c.toNat < N → 0 ≤ c → c < 8 + ab.length → (0 ≤ cjN ab d N c ∧ cjN ab d N c ≤ c) ∧ cbl ab d (cjN ab d N c) ∧ cbl ab c (cjN ab d N c)
  | 0, _, h, _, _ => by omega
  | N + 1, c, hN, h0, h1 => by
    show (0 ≤ cit _ _ _ ∧ cit _ _ _ ≤ c) ∧ cbl ab d (cit _ _ _) ∧ cbl ab c (cit _ _ _)
    rcases Classical.em (cbl ab d c) with g | g
    · rw [cit_t g]
      exact ⟨⟨h0, Int.le_refl _⟩, g, cbl_e h0⟩
    · rw [cit_f g]
      have h2 := abF_w hw h0 h1
      have h3 : ¬ c = 0 := fun e => g (by rw [e]; exact cbl_0 hw _ d (Nat.lt_succ_self _) d0 d1)
      have h4 : 0 ≤ abF ab c := by
        have := cbl_0 hw _ c (Nat.lt_succ_self _) h0 h1
        rw [cbl_s hw h0 h1 h3] at this
        exact this.1
      have := cj_b hw d0 d1 N (abF ab c) (by omega) h4 (by omega)
      refine ⟨⟨this.1.1, by omega⟩, this.2.1, ?_⟩
      by_cases e : c = cjN ab d N (abF ab c)
      · rw [← e]; exact cbl_e h0
      · exact (cbl_s hw h0 h1 e).mpr this.2.2
theorem cjn_b {ab : List Int} (hw : ABw ab) {c d : Int} (c0 : 0 ≤ c) (c1 : c < 8 + ab.length) (d0 : 0 ≤ d) (d1 : d < 8 + ab.length) : (0 ≤ cjn ab c d ∧ cjn ab c d ≤ c) ∧ cbl ab d (cjn ab c d) ∧ cbl ab c (cjn ab c d) := cj_b hw d0 d1 _ c (Nat.lt_succ_self _) c0 c1
theorem tjn_s {ab : List Int} (hw : ABw ab) {a b : Int} (ha : tyS (8 + ab.length) a) (hb : tyS (8 + ab.length) b) (hal : ab.length ≤ 24) : tyS (8 + ab.length) (tjn ab a b) := by
  unfold tjn
  rcases Classical.em (tbl ab a b) with g1 | g1
  · rw [cit_t g1]; exact hb
  · rw [cit_f g1]
    rcases Classical.em (tbl ab b a) with g2 | g2
    · rw [cit_t g2]; exact ha
    · rw [cit_f g2]
      rcases Classical.em (a = 0 ∨ b = 0) with g3 | g3
      · rw [cit_t g3]; exact Or.inr (Or.inr (Or.inl rfl))
      · rw [cit_f g3]
        rcases Classical.em (64 ≤ a ∧ 64 ≤ b) with g4 | g4
        · rw [cit_t g4]
          unfold tyS at ha hb ⊢
          have := cjn_b hw (c := a - 64) (d := b - 64) (by omega) (by omega) (by omega) (by omega)
          omega
        · rw [cit_f g4]
          rcases Classical.em ((16 ≤ a ∧ a < 64) ∧ (16 ≤ b ∧ b < 64)) with g5 | g5
          · rw [cit_t g5]
            unfold tyS at ha hb ⊢
            have := cjn_b hw (c := a - 16) (d := b - 16) (by omega) (by omega) (by omega) (by omega)
            omega
          · rw [cit_f g5]
            unfold tyS
            omega
end Ty
/-- a rank that grows when types are joined -/
def rkT (t : Int) : Nat := if t < 0 then 0 else if t = 2 then 100 else if 64 ≤ t then (59 - (t - 64)).toNat else if 16 ≤ t then (60 - (t - 16)).toNat else if t = 3 then 20 else if t = 0 then 10 else 5
theorem rk_j {ab : List Int} (hw : ABw ab) (hal : ab.length ≤ 24) {a b : Int} (ha : tyS (8 + ab.length) a) (hb : tyS (8 + ab.length) b) (hne : ¬ tjn ab a b = a) : rkT a < rkT (tjn ab a b) := by
  unfold tjn at hne ⊢
  rcases Classical.em (tbl ab a b) with g1 | g1
  · rw [cit_t g1] at hne ⊢
    have hcb : ∀ c d : Int, 0 ≤ c → c < 8 + (ab.length : Int) → cbl ab c d → 0 ≤ d ∧ d ≤ c := fun c d c0 c1 h => cbl_le hw _ c (Nat.lt_succ_self _) c1 h
    unfold tbl at g1
    unfold tyS at ha hb
    have h2 : b = 2 ∨ (¬ (a = 0 ∨ a = 2 ∨ b = 0 ∨ b = 1) ∧ (a = 1 ∨ b = 16 ∨ (¬ (a = 3 ∨ b = 3) ∧ ((a < 64 ∧ b < 64 ∧ b < a) ∨ (64 ≤ a ∧ 64 ≤ b ∧ b < a))))) := by
      rcases g1 with x | x | x
      · exact absurd x.symm hne
      · exact Or.inl x
      · refine Or.inr ⟨x.1, ?_⟩
        rcases x.2 with y | y | y
        · exact Or.inl y
        · exact Or.inr (Or.inl y)
        · refine Or.inr (Or.inr ⟨y.1, ?_⟩)
          rcases y.2 with z | z
          · have z0 := z.2.2.1
            have := hcb (a - 16) (b - 16) z0 (by omega) z.2.2
            exact Or.inl ⟨z.1, z.2.1, by omega⟩
          · have z0 := z.2.2.1
            have := hcb (a - 64) (b - 64) z0 (by omega) z.2.2
            exact Or.inr ⟨z.1, z.2.1, by omega⟩
    unfold rkT
    repeat' split
    all_goals omega
  · rw [cit_f g1] at hne ⊢
    rcases Classical.em (tbl ab b a) with g2 | g2
    · rw [cit_t g2] at hne; exact absurd rfl hne
    · rw [cit_f g2] at hne ⊢
      have ha2 : ¬ a = 2 := fun x => g2 (Or.inr (Or.inl x))
      rcases Classical.em (a = 0 ∨ b = 0) with g3 | g3
      · rw [cit_t g3] at hne ⊢
        unfold tyS at ha
        unfold rkT
        repeat' split
        all_goals omega
      · rw [cit_f g3] at hne ⊢
        rcases Classical.em (64 ≤ a ∧ 64 ≤ b) with g4 | g4
        · rw [cit_t g4] at hne ⊢
          unfold tyS at ha hb
          have := (cjn_b hw (c := a - 64) (d := b - 64) (by omega) (by omega) (by omega) (by omega)).1
          generalize cjn ab (a - 64) (b - 64) = k at *
          unfold rkT
          repeat' split
          all_goals omega
        · rw [cit_f g4] at hne ⊢
          rcases Classical.em ((16 ≤ a ∧ a < 64) ∧ (16 ≤ b ∧ b < 64)) with g5 | g5
          · rw [cit_t g5] at hne ⊢
            unfold tyS at ha hb
            have := (cjn_b hw (c := a - 16) (d := b - 16) (by omega) (by omega) (by omega) (by omega)).1
            generalize cjn ab (a - 16) (b - 16) = k at *
            unfold rkT
            repeat' split
            all_goals omega
          · rw [cit_f g5] at hne ⊢
            unfold tyS at ha
            unfold rkT
            repeat' split
            all_goals omega
theorem rk_b (t : Int) : rkT t ≤ 100 := by
  unfold rkT
  repeat' split
  all_goals omega
theorem rk_p {t : Int} {n : Int} (h : tyS n t) (hn : n ≤ 32) : 0 < rkT t := by
  unfold tyS at h
  unfold rkT
  repeat' split
  all_goals omega
theorem tyS_b {n t : Int} (h : tyS n t) (hn : n ≤ 32) : 0 ≤ t ∧ t < 96 := by unfold tyS at h; omega
/-- the model's number of a type, back -/
theorem mT_i {n a b : Int} (hn : n ≤ 32) (ha : tyS n a) (hb : tyS n b) : mT a = mT b ↔ a = b := by
  unfold tyS at ha hb
  unfold mT
  constructor
  · intro h
    revert h
    repeat' split
    all_goals omega
  · intro h; rw [h]
theorem mT_v {n a : Int} (hn : n ≤ 32) (ha : tyS n a) : (mT a = 0 ↔ a = 0) ∧ (mT a = 1 ↔ a = 1) ∧ (mT a = 2 ↔ a = 2) ∧ (mT a = 40 ↔ a = 3) ∧ ((8 ≤ mT a ∧ mT a < 40) ↔ (16 ≤ a ∧ a < 64)) ∧ (48 ≤ mT a ↔ 64 ≤ a) ∧ (mT a = 8 ↔ a = 16) ∧ (16 ≤ a ∧ a < 64 → mT a - 8 = a - 16) ∧ (64 ≤ a → mT a - 48 = a - 64) ∧ 0 ≤ mT a := by
  unfold tyS at ha
  unfold mT
  repeat' split
  all_goals omega
theorem r222_0p197 {L c2 c3 c4 c5 c6 : Nat} {D : Dt} {Q : Out → Wd → Prop} {a b : Int} (H : ((a = b → (Q (.inl [vi 1]) (D, SS L 1 c2 c3 c4 c5 c6))) ∧ (¬ (a = b) → ((b = 2 → (Q (.inl [vi 1]) (D, SS L 1 c2 c3 c4 c5 c6))) ∧ (¬ (b = 2) → ((a = 0 → (Q (.inl [vi 0]) (D, SS L 1 c2 c3 c4 c5 c6))) ∧ (¬ (a = 0) → ((a = 2 → (Q (.inl [vi 0]) (D, SS L 1 c2 c3 c4 c5 c6))) ∧ (¬ (a = 2) → ((b = 0 → (Q (.inl [vi 0]) (D, SS L 1 c2 c3 c4 c5 c6))) ∧ (¬ (b = 0) → ((b = 1 → (Q (.inl [vi 0]) (D, SS L 1 c2 c3 c4 c5 c6))) ∧ (¬ (b = 1) → ((a = 1 → (Q (.inl [vi 1]) (D, SS L 1 c2 c3 c4 c5 c6))) ∧ (¬ (a = 1) → ((b = 16 → (Q (.inl [vi 1]) (D, SS L 1 c2 c3 c4 c5 c6))) ∧ (¬ (b = 16) → ((a = 3 → (Q (.inl [vi 0]) (D, SS L 1 c2 c3 c4 c5 c6))) ∧ (¬ (a = 3) → ((b = 3 → (Q (.inl [vi 0]) (D, SS L 1 c2 c3 c4 c5 c6))) ∧ (¬ (b = 3) → ((a < 64 → ((b < 64 → (((-2147483648) ≤ a - 16 ∧ a - 16 ≤ 2147483647) ∧ (((-2147483648) ≤ b - 16 ∧ b - 16 ≤ 2147483647) ∧ (∃ (ab1 : List Int), (ABp (D 198) ab1 ∧ ABw ab1 ∧ ab1.length ≤ 24 ∧ (a - 16) < 8 + ab1.length) ∧ ((((cbl ab1 (a - 16) (b - 16) → (Q (.inl [vi 1]) (D, SS L 1 c2 c3 c4 c5 c6))) ∧ (¬ (cbl ab1 (a - 16) (b - 16)) → (Q (.inl [vi 0]) (D, SS L 1 c2 c3 c4 c5 c6)))))))))) ∧ (¬ (b < 64) → (Q (.inl [vi 0]) (D, SS L 1 c2 c3 c4 c5 c6))))) ∧ (¬ (a < 64) → ((b < 64 → (Q (.inl [vi 0]) (D, SS L 1 c2 c3 c4 c5 c6))) ∧ (¬ (b < 64) → (((-2147483648) ≤ a - 64 ∧ a - 64 ≤ 2147483647) ∧ (((-2147483648) ≤ b - 64 ∧ b - 64 ≤ 2147483647) ∧ (∃ (ab10 : List Int), (ABp (D 198) ab10 ∧ ABw ab10 ∧ ab10.length ≤ 24 ∧ (a - 64) < 8 + ab10.length) ∧ ((((cbl ab10 (a - 64) (b - 64) → (Q (.inl [vi 1]) (D, SS L 1 c2 c3 c4 c5 c6))) ∧ (¬ (cbl ab10 (a - 64) (b - 64)) → (Q (.inl [vi 0]) (D, SS L 1 c2 c3 c4 c5 c6)))))))))))))))))))))))))))))))))) : wp 222 0 [vr 197, vi a, vi b] [] (D, SS L 1 c2 c3 c4 c5 c6) Q := vc_wp [76, 103] 200 _ _ _ _ _ _ (show ((a = b → (((0 : Int) ≤ 1 ∧ 1 ≤ (1 : Int)) ∧ (Q (.inl [vi 1]) (D, SS L 1 c2 c3 c4 c5 c6)))) ∧ (¬ (a = b) → ((b = 2 → (((0 : Int) ≤ 1 ∧ 1 ≤ (1 : Int)) ∧ (Q (.inl [vi 1]) (D, SS L 1 c2 c3 c4 c5 c6)))) ∧ (¬ (b = 2) → ((a = 0 → (((0 : Int) ≤ 0 ∧ 0 ≤ (1 : Int)) ∧ (Q (.inl [vi 0]) (D, SS L 1 c2 c3 c4 c5 c6)))) ∧ (¬ (a = 0) → ((a = 2 → (((0 : Int) ≤ 0 ∧ 0 ≤ (1 : Int)) ∧ (Q (.inl [vi 0]) (D, SS L 1 c2 c3 c4 c5 c6)))) ∧ (¬ (a = 2) → ((b = 0 → (((0 : Int) ≤ 0 ∧ 0 ≤ (1 : Int)) ∧ (Q (.inl [vi 0]) (D, SS L 1 c2 c3 c4 c5 c6)))) ∧ (¬ (b = 0) → ((b = 1 → (((0 : Int) ≤ 0 ∧ 0 ≤ (1 : Int)) ∧ (Q (.inl [vi 0]) (D, SS L 1 c2 c3 c4 c5 c6)))) ∧ (¬ (b = 1) → ((a = 1 → (((0 : Int) ≤ 1 ∧ 1 ≤ (1 : Int)) ∧ (Q (.inl [vi 1]) (D, SS L 1 c2 c3 c4 c5 c6)))) ∧ (¬ (a = 1) → ((b = 16 → (((0 : Int) ≤ 1 ∧ 1 ≤ (1 : Int)) ∧ (Q (.inl [vi 1]) (D, SS L 1 c2 c3 c4 c5 c6)))) ∧ (¬ (b = 16) → ((a = 3 → (((0 : Int) ≤ 0 ∧ 0 ≤ (1 : Int)) ∧ (Q (.inl [vi 0]) (D, SS L 1 c2 c3 c4 c5 c6)))) ∧ (¬ (a = 3) → ((b = 3 → (((0 : Int) ≤ 0 ∧ 0 ≤ (1 : Int)) ∧ (Q (.inl [vi 0]) (D, SS L 1 c2 c3 c4 c5 c6)))) ∧ (¬ (b = 3) → ((a < 64 → ((b < 64 → (wp 222 76 [vr 197, vi a, vi b] [vi (w32 (a - 16)), vr 197] (D, SS L 1 c2 c3 c4 c5 c6) Q)) ∧ (¬ (b < 64) → (((0 : Int) ≤ 0 ∧ 0 ≤ (1 : Int)) ∧ (Q (.inl [vi 0]) (D, SS L 1 c2 c3 c4 c5 c6)))))) ∧ (¬ (a < 64) → ((b < 64 → (((0 : Int) ≤ 0 ∧ 0 ≤ (1 : Int)) ∧ (Q (.inl [vi 0]) (D, SS L 1 c2 c3 c4 c5 c6)))) ∧ (¬ (b < 64) → (wp 222 103 [vr 197, vi a, vi b] [vi (w32 (a - 64)), vr 197] (D, SS L 1 c2 c3 c4 c5 c6) Q))))))))))))))))))))))))) from ⟨fun h39 => ⟨(by decide), (H.1 h39)⟩, fun h40 => ⟨fun h37 => ⟨(by decide), ((H.2 h40).1 h37)⟩, fun h38 => ⟨fun h35 => ⟨(by decide), (((H.2 h40).2 h38).1 h35)⟩, fun h36 => ⟨fun h33 => ⟨(by decide), ((((H.2 h40).2 h38).2 h36).1 h33)⟩, fun h34 => ⟨fun h31 => ⟨(by decide), (((((H.2 h40).2 h38).2 h36).2 h34).1 h31)⟩, fun h32 => ⟨fun h29 => ⟨(by decide), ((((((H.2 h40).2 h38).2 h36).2 h34).2 h32).1 h29)⟩, fun h30 => ⟨fun h27 => ⟨(by decide), (((((((H.2 h40).2 h38).2 h36).2 h34).2 h32).2 h30).1 h27)⟩, fun h28 => ⟨fun h25 => ⟨(by decide), ((((((((H.2 h40).2 h38).2 h36).2 h34).2 h32).2 h30).2 h28).1 h25)⟩, fun h26 => ⟨fun h23 => ⟨(by decide), (((((((((H.2 h40).2 h38).2 h36).2 h34).2 h32).2 h30).2 h28).2 h26).1 h23)⟩, fun h24 => ⟨fun h21 => ⟨(by decide), ((((((((((H.2 h40).2 h38).2 h36).2 h34).2 h32).2 h30).2 h28).2 h26).2 h24).1 h21)⟩, fun h22 => ⟨fun h19 => ⟨fun h8 => w32_i (fun z7 : Int => wp 222 76 [vr 197, vi a, vi b] [vi z7, vr 197] (D, SS L 1 c2 c3 c4 c5 c6) Q) (((((((((((((H.2 h40).2 h38).2 h36).2 h34).2 h32).2 h30).2 h28).2 h26).2 h24).2 h22).1 h19).1 h8)).1 (vc_wp [80] 200 _ _ _ _ _ _ (show wp 222 80 [vr 197, vi a, vi b] [vi (w32 (b - 16)), vi (a - 16), vr 197] (D, SS L 1 c2 c3 c4 c5 c6) Q from w32_i (fun z6 : Int => wp 222 80 [vr 197, vi a, vi b] [vi z6, vi (a - 16), vr 197] (D, SS L 1 c2 c3 c4 c5 c6) Q) ((((((((((((((H.2 h40).2 h38).2 h36).2 h34).2 h32).2 h30).2 h28).2 h26).2 h24).2 h22).1 h19).1 h8)).2).1 (vc_wp [] 200 _ _ _ _ _ _ (show wp 216 0 [vr 197, vi (a - 16), vi (b - 16), vu] [] (D, SS L 1 c2 c3 c4 c5 c6) (aft wp 222 80 [vr 197, vi a, vi b] [] Q) from Exists.elim (((((((((((((((H.2 h40).2 h38).2 h36).2 h34).2 h32).2 h30).2 h28).2 h26).2 h24).2 h22).1 h19).1 h8)).2).2) fun ab1 x2 => s216p197 ⟨ab1, x2.1, (show wp 222 83 [vr 197, vi a, vi b] [vi (ib (cbl ab1 (a - 16) (b - 16)))] (D, SS L 1 c2 c3 c4 c5 c6) Q from vc_wp [] 200 _ _ _ _ _ _ (show ((ib (cbl ab1 (a - 16) (b - 16)) = 0 → (((0 : Int) ≤ 0 ∧ 0 ≤ (1 : Int)) ∧ (Q (.inl [vi 0]) (D, SS L 1 c2 c3 c4 c5 c6)))) ∧ (¬ (ib (cbl ab1 (a - 16) (b - 16)) = 0) → (((0 : Int) ≤ 1 ∧ 1 ≤ (1 : Int)) ∧ (Q (.inl [vi 1]) (D, SS L 1 c2 c3 c4 c5 c6))))) from ⟨fun h4 => ⟨(by decide), (x2.2.2 ((ib_z).mp h4))⟩, fun h5 => ⟨(by decide), (x2.2.1 (Classical.not_not.mp (mt (ib_z).mpr h5)))⟩⟩))⟩)))), fun h9 => ⟨(by decide), ((((((((((((H.2 h40).2 h38).2 h36).2 h34).2 h32).2 h30).2 h28).2 h26).2 h24).2 h22).1 h19).2 h9)⟩⟩, fun h20 => ⟨fun h17 => ⟨(by decide), ((((((((((((H.2 h40).2 h38).2 h36).2 h34).2 h32).2 h30).2 h28).2 h26).2 h24).2 h22).2 h20).1 h17)⟩, fun h18 => w32_i (fun z16 : Int => wp 222 103 [vr 197, vi a, vi b] [vi z16, vr 197] (D, SS L 1 c2 c3 c4 c5 c6) Q) (((((((((((((H.2 h40).2 h38).2 h36).2 h34).2 h32).2 h30).2 h28).2 h26).2 h24).2 h22).2 h20).2 h18)).1 (vc_wp [107] 200 _ _ _ _ _ _ (show wp 222 107 [vr 197, vi a, vi b] [vi (w32 (b - 64)), vi (a - 64), vr 197] (D, SS L 1 c2 c3 c4 c5 c6) Q from w32_i (fun z15 : Int => wp 222 107 [vr 197, vi a, vi b] [vi z15, vi (a - 64), vr 197] (D, SS L 1 c2 c3 c4 c5 c6) Q) ((((((((((((((H.2 h40).2 h38).2 h36).2 h34).2 h32).2 h30).2 h28).2 h26).2 h24).2 h22).2 h20).2 h18)).2).1 (vc_wp [] 200 _ _ _ _ _ _ (show wp 216 0 [vr 197, vi (a - 64), vi (b - 64), vu] [] (D, SS L 1 c2 c3 c4 c5 c6) (aft wp 222 107 [vr 197, vi a, vi b] [] Q) from Exists.elim (((((((((((((((H.2 h40).2 h38).2 h36).2 h34).2 h32).2 h30).2 h28).2 h26).2 h24).2 h22).2 h20).2 h18)).2).2) fun ab10 x11 => s216p197 ⟨ab10, x11.1, (show wp 222 110 [vr 197, vi a, vi b] [vi (ib (cbl ab10 (a - 64) (b - 64)))] (D, SS L 1 c2 c3 c4 c5 c6) Q from vc_wp [] 200 _ _ _ _ _ _ (show ((ib (cbl ab10 (a - 64) (b - 64)) = 0 → (((0 : Int) ≤ 0 ∧ 0 ≤ (1 : Int)) ∧ (Q (.inl [vi 0]) (D, SS L 1 c2 c3 c4 c5 c6)))) ∧ (¬ (ib (cbl ab10 (a - 64) (b - 64)) = 0) → (((0 : Int) ≤ 1 ∧ 1 ≤ (1 : Int)) ∧ (Q (.inl [vi 1]) (D, SS L 1 c2 c3 c4 c5 c6))))) from ⟨fun h13 => ⟨(by decide), (x11.2.2 ((ib_z).mp h13))⟩, fun h14 => ⟨(by decide), (x11.2.1 (Classical.not_not.mp (mt (ib_z).mpr h14)))⟩⟩))⟩))))⟩⟩⟩⟩⟩⟩⟩⟩⟩⟩⟩⟩)
theorem s222p197 {L c2 c3 c4 c5 c6 : Nat} {D : Dt} {Q : Out → Wd → Prop} {a b : Int} (H : ∃ ab, (ABp (D 198) ab ∧ ABw ab ∧ ab.length ≤ 24 ∧ tyS (8 + ab.length) a ∧ tyS (8 + ab.length) b) ∧ Q (.inl [vi (ib (tbl ab a b))]) (D, SS L 1 c2 c3 c4 c5 c6)) : wp 222 0 [vr 197, vi a, vi b] [] (D, SS L 1 c2 c3 c4 c5 c6) Q := by
  obtain ⟨ab, ⟨hA, hw, hl, ha, hb⟩, H⟩ := H
  unfold tyS at ha hb
  have h0 : ¬ tbl ab a b → Q (.inl [vi 0]) (D, SS L 1 c2 c3 c4 c5 c6) := fun x => q_i H (ib_f x)
  have h1 : tbl ab a b → Q (.inl [vi 1]) (D, SS L 1 c2 c3 c4 c5 c6) := fun x => q_i H (ib_t x)
  clear H
  unfold tbl at h0 h1
  refine r222_0p197 ⟨fun g => h1 (Or.inl g), fun g1 => ⟨fun g => h1 (Or.inr (Or.inl g)), fun g2 => ⟨fun g => h0 (by omega), fun g3 => ⟨fun g => h0 (by omega), fun g4 => ⟨fun g => h0 (by omega), fun g5 => ⟨fun g => h0 (by omega), fun g6 => ⟨fun g => h1 (Or.inr (Or.inr ⟨by omega, Or.inl g⟩)), fun g7 => ⟨fun g => h1 (Or.inr (Or.inr ⟨by omega, Or.inr (Or.inl g)⟩)), fun g8 => ⟨fun g => h0 (by omega), fun g9 => ⟨fun g => h0 (by omega), fun g10 => ⟨fun g => ⟨fun g11 => ⟨by omega, by omega, ab, ⟨hA, hw, hl, by omega⟩, fun x => h1 (Or.inr (Or.inr ⟨by omega, Or.inr (Or.inr ⟨by omega, Or.inl ⟨g, g11, x⟩⟩)⟩)), fun x => h0 ?_⟩, fun g11 => h0 (by omega)⟩, fun g => ⟨fun g11 => h0 (by omega), fun g11 => ⟨by omega, by omega, ab, ⟨hA, hw, hl, by omega⟩, fun x => h1 (Or.inr (Or.inr ⟨by omega, Or.inr (Or.inr ⟨by omega, Or.inr ⟨by omega, by omega, x⟩⟩)⟩)), fun x => h0 ?_⟩⟩⟩⟩⟩⟩⟩⟩⟩⟩⟩⟩⟩
  · rintro (y | y | ⟨_, y | y | ⟨_, y | y⟩⟩)
    · exact g1 y
    · exact g2 y
    · exact g7 y
    · exact g8 y
    · exact x y.2.2
    · omega
  · rintro (y | y | ⟨_, y | y | ⟨_, y | y⟩⟩)
    · exact g1 y
    · exact g2 y
    · exact g7 y
    · exact g8 y
    · omega
    · exact x y.2.2
theorem r222_0p171 {L c2 c3 c4 c5 c6 : Nat} {D : Dt} {Q : Out → Wd → Prop} {a b : Int} (H : ((a = b → (Q (.inl [vi 1]) (D, SS L 1 c2 c3 c4 c5 c6))) ∧ (¬ (a = b) → ((b = 2 → (Q (.inl [vi 1]) (D, SS L 1 c2 c3 c4 c5 c6))) ∧ (¬ (b = 2) → ((a = 0 → (Q (.inl [vi 0]) (D, SS L 1 c2 c3 c4 c5 c6))) ∧ (¬ (a = 0) → ((a = 2 → (Q (.inl [vi 0]) (D, SS L 1 c2 c3 c4 c5 c6))) ∧ (¬ (a = 2) → ((b = 0 → (Q (.inl [vi 0]) (D, SS L 1 c2 c3 c4 c5 c6))) ∧ (¬ (b = 0) → ((b = 1 → (Q (.inl [vi 0]) (D, SS L 1 c2 c3 c4 c5 c6))) ∧ (¬ (b = 1) → ((a = 1 → (Q (.inl [vi 1]) (D, SS L 1 c2 c3 c4 c5 c6))) ∧ (¬ (a = 1) → ((b = 16 → (Q (.inl [vi 1]) (D, SS L 1 c2 c3 c4 c5 c6))) ∧ (¬ (b = 16) → ((a = 3 → (Q (.inl [vi 0]) (D, SS L 1 c2 c3 c4 c5 c6))) ∧ (¬ (a = 3) → ((b = 3 → (Q (.inl [vi 0]) (D, SS L 1 c2 c3 c4 c5 c6))) ∧ (¬ (b = 3) → ((a < 64 → ((b < 64 → (((-2147483648) ≤ a - 16 ∧ a - 16 ≤ 2147483647) ∧ (((-2147483648) ≤ b - 16 ∧ b - 16 ≤ 2147483647) ∧ (∃ (ab1 : List Int), (ABp (D 172) ab1 ∧ ABw ab1 ∧ ab1.length ≤ 24 ∧ (a - 16) < 8 + ab1.length) ∧ ((((cbl ab1 (a - 16) (b - 16) → (Q (.inl [vi 1]) (D, SS L 1 c2 c3 c4 c5 c6))) ∧ (¬ (cbl ab1 (a - 16) (b - 16)) → (Q (.inl [vi 0]) (D, SS L 1 c2 c3 c4 c5 c6)))))))))) ∧ (¬ (b < 64) → (Q (.inl [vi 0]) (D, SS L 1 c2 c3 c4 c5 c6))))) ∧ (¬ (a < 64) → ((b < 64 → (Q (.inl [vi 0]) (D, SS L 1 c2 c3 c4 c5 c6))) ∧ (¬ (b < 64) → (((-2147483648) ≤ a - 64 ∧ a - 64 ≤ 2147483647) ∧ (((-2147483648) ≤ b - 64 ∧ b - 64 ≤ 2147483647) ∧ (∃ (ab10 : List Int), (ABp (D 172) ab10 ∧ ABw ab10 ∧ ab10.length ≤ 24 ∧ (a - 64) < 8 + ab10.length) ∧ ((((cbl ab10 (a - 64) (b - 64) → (Q (.inl [vi 1]) (D, SS L 1 c2 c3 c4 c5 c6))) ∧ (¬ (cbl ab10 (a - 64) (b - 64)) → (Q (.inl [vi 0]) (D, SS L 1 c2 c3 c4 c5 c6)))))))))))))))))))))))))))))))))) : wp 222 0 [vr 171, vi a, vi b] [] (D, SS L 1 c2 c3 c4 c5 c6) Q := vc_wp [76, 103] 200 _ _ _ _ _ _ (show ((a = b → (((0 : Int) ≤ 1 ∧ 1 ≤ (1 : Int)) ∧ (Q (.inl [vi 1]) (D, SS L 1 c2 c3 c4 c5 c6)))) ∧ (¬ (a = b) → ((b = 2 → (((0 : Int) ≤ 1 ∧ 1 ≤ (1 : Int)) ∧ (Q (.inl [vi 1]) (D, SS L 1 c2 c3 c4 c5 c6)))) ∧ (¬ (b = 2) → ((a = 0 → (((0 : Int) ≤ 0 ∧ 0 ≤ (1 : Int)) ∧ (Q (.inl [vi 0]) (D, SS L 1 c2 c3 c4 c5 c6)))) ∧ (¬ (a = 0) → ((a = 2 → (((0 : Int) ≤ 0 ∧ 0 ≤ (1 : Int)) ∧ (Q (.inl [vi 0]) (D, SS L 1 c2 c3 c4 c5 c6)))) ∧ (¬ (a = 2) → ((b = 0 → (((0 : Int) ≤ 0 ∧ 0 ≤ (1 : Int)) ∧ (Q (.inl [vi 0]) (D, SS L 1 c2 c3 c4 c5 c6)))) ∧ (¬ (b = 0) → ((b = 1 → (((0 : Int) ≤ 0 ∧ 0 ≤ (1 : Int)) ∧ (Q (.inl [vi 0]) (D, SS L 1 c2 c3 c4 c5 c6)))) ∧ (¬ (b = 1) → ((a = 1 → (((0 : Int) ≤ 1 ∧ 1 ≤ (1 : Int)) ∧ (Q (.inl [vi 1]) (D, SS L 1 c2 c3 c4 c5 c6)))) ∧ (¬ (a = 1) → ((b = 16 → (((0 : Int) ≤ 1 ∧ 1 ≤ (1 : Int)) ∧ (Q (.inl [vi 1]) (D, SS L 1 c2 c3 c4 c5 c6)))) ∧ (¬ (b = 16) → ((a = 3 → (((0 : Int) ≤ 0 ∧ 0 ≤ (1 : Int)) ∧ (Q (.inl [vi 0]) (D, SS L 1 c2 c3 c4 c5 c6)))) ∧ (¬ (a = 3) → ((b = 3 → (((0 : Int) ≤ 0 ∧ 0 ≤ (1 : Int)) ∧ (Q (.inl [vi 0]) (D, SS L 1 c2 c3 c4 c5 c6)))) ∧ (¬ (b = 3) → ((a < 64 → ((b < 64 → (wp 222 76 [vr 171, vi a, vi b] [vi (w32 (a - 16)), vr 171] (D, SS L 1 c2 c3 c4 c5 c6) Q)) ∧ (¬ (b < 64) → (((0 : Int) ≤ 0 ∧ 0 ≤ (1 : Int)) ∧ (Q (.inl [vi 0]) (D, SS L 1 c2 c3 c4 c5 c6)))))) ∧ (¬ (a < 64) → ((b < 64 → (((0 : Int) ≤ 0 ∧ 0 ≤ (1 : Int)) ∧ (Q (.inl [vi 0]) (D, SS L 1 c2 c3 c4 c5 c6)))) ∧ (¬ (b < 64) → (wp 222 103 [vr 171, vi a, vi b] [vi (w32 (a - 64)), vr 171] (D, SS L 1 c2 c3 c4 c5 c6) Q))))))))))))))))))))))))) from ⟨fun h39 => ⟨(by decide), (H.1 h39)⟩, fun h40 => ⟨fun h37 => ⟨(by decide), ((H.2 h40).1 h37)⟩, fun h38 => ⟨fun h35 => ⟨(by decide), (((H.2 h40).2 h38).1 h35)⟩, fun h36 => ⟨fun h33 => ⟨(by decide), ((((H.2 h40).2 h38).2 h36).1 h33)⟩, fun h34 => ⟨fun h31 => ⟨(by decide), (((((H.2 h40).2 h38).2 h36).2 h34).1 h31)⟩, fun h32 => ⟨fun h29 => ⟨(by decide), ((((((H.2 h40).2 h38).2 h36).2 h34).2 h32).1 h29)⟩, fun h30 => ⟨fun h27 => ⟨(by decide), (((((((H.2 h40).2 h38).2 h36).2 h34).2 h32).2 h30).1 h27)⟩, fun h28 => ⟨fun h25 => ⟨(by decide), ((((((((H.2 h40).2 h38).2 h36).2 h34).2 h32).2 h30).2 h28).1 h25)⟩, fun h26 => ⟨fun h23 => ⟨(by decide), (((((((((H.2 h40).2 h38).2 h36).2 h34).2 h32).2 h30).2 h28).2 h26).1 h23)⟩, fun h24 => ⟨fun h21 => ⟨(by decide), ((((((((((H.2 h40).2 h38).2 h36).2 h34).2 h32).2 h30).2 h28).2 h26).2 h24).1 h21)⟩, fun h22 => ⟨fun h19 => ⟨fun h8 => w32_i (fun z7 : Int => wp 222 76 [vr 171, vi a, vi b] [vi z7, vr 171] (D, SS L 1 c2 c3 c4 c5 c6) Q) (((((((((((((H.2 h40).2 h38).2 h36).2 h34).2 h32).2 h30).2 h28).2 h26).2 h24).2 h22).1 h19).1 h8)).1 (vc_wp [80] 200 _ _ _ _ _ _ (show wp 222 80 [vr 171, vi a, vi b] [vi (w32 (b - 16)), vi (a - 16), vr 171] (D, SS L 1 c2 c3 c4 c5 c6) Q from w32_i (fun z6 : Int => wp 222 80 [vr 171, vi a, vi b] [vi z6, vi (a - 16), vr 171] (D, SS L 1 c2 c3 c4 c5 c6) Q) ((((((((((((((H.2 h40).2 h38).2 h36).2 h34).2 h32).2 h30).2 h28).2 h26).2 h24).2 h22).1 h19).1 h8)).2).1 (vc_wp [] 200 _ _ _ _ _ _ (show wp 216 0 [vr 171, vi (a - 16), vi (b - 16), vu] [] (D, SS L 1 c2 c3 c4 c5 c6) (aft wp 222 80 [vr 171, vi a, vi b] [] Q) from Exists.elim (((((((((((((((H.2 h40).2 h38).2 h36).2 h34).2 h32).2 h30).2 h28).2 h26).2 h24).2 h22).1 h19).1 h8)).2).2) fun ab1 x2 => s216p171 ⟨ab1, x2.1, (show wp 222 83 [vr 171, vi a, vi b] [vi (ib (cbl ab1 (a - 16) (b - 16)))] (D, SS L 1 c2 c3 c4 c5 c6) Q from vc_wp [] 200 _ _ _ _ _ _ (show ((ib (cbl ab1 (a - 16) (b - 16)) = 0 → (((0 : Int) ≤ 0 ∧ 0 ≤ (1 : Int)) ∧ (Q (.inl [vi 0]) (D, SS L 1 c2 c3 c4 c5 c6)))) ∧ (¬ (ib (cbl ab1 (a - 16) (b - 16)) = 0) → (((0 : Int) ≤ 1 ∧ 1 ≤ (1 : Int)) ∧ (Q (.inl [vi 1]) (D, SS L 1 c2 c3 c4 c5 c6))))) from ⟨fun h4 => ⟨(by decide), (x2.2.2 ((ib_z).mp h4))⟩, fun h5 => ⟨(by decide), (x2.2.1 (Classical.not_not.mp (mt (ib_z).mpr h5)))⟩⟩))⟩)))), fun h9 => ⟨(by decide), ((((((((((((H.2 h40).2 h38).2 h36).2 h34).2 h32).2 h30).2 h28).2 h26).2 h24).2 h22).1 h19).2 h9)⟩⟩, fun h20 => ⟨fun h17 => ⟨(by decide), ((((((((((((H.2 h40).2 h38).2 h36).2 h34).2 h32).2 h30).2 h28).2 h26).2 h24).2 h22).2 h20).1 h17)⟩, fun h18 => w32_i (fun z16 : Int => wp 222 103 [vr 171, vi a, vi b] [vi z16, vr 171] (D, SS L 1 c2 c3 c4 c5 c6) Q) (((((((((((((H.2 h40).2 h38).2 h36).2 h34).2 h32).2 h30).2 h28).2 h26).2 h24).2 h22).2 h20).2 h18)).1 (vc_wp [107] 200 _ _ _ _ _ _ (show wp 222 107 [vr 171, vi a, vi b] [vi (w32 (b - 64)), vi (a - 64), vr 171] (D, SS L 1 c2 c3 c4 c5 c6) Q from w32_i (fun z15 : Int => wp 222 107 [vr 171, vi a, vi b] [vi z15, vi (a - 64), vr 171] (D, SS L 1 c2 c3 c4 c5 c6) Q) ((((((((((((((H.2 h40).2 h38).2 h36).2 h34).2 h32).2 h30).2 h28).2 h26).2 h24).2 h22).2 h20).2 h18)).2).1 (vc_wp [] 200 _ _ _ _ _ _ (show wp 216 0 [vr 171, vi (a - 64), vi (b - 64), vu] [] (D, SS L 1 c2 c3 c4 c5 c6) (aft wp 222 107 [vr 171, vi a, vi b] [] Q) from Exists.elim (((((((((((((((H.2 h40).2 h38).2 h36).2 h34).2 h32).2 h30).2 h28).2 h26).2 h24).2 h22).2 h20).2 h18)).2).2) fun ab10 x11 => s216p171 ⟨ab10, x11.1, (show wp 222 110 [vr 171, vi a, vi b] [vi (ib (cbl ab10 (a - 64) (b - 64)))] (D, SS L 1 c2 c3 c4 c5 c6) Q from vc_wp [] 200 _ _ _ _ _ _ (show ((ib (cbl ab10 (a - 64) (b - 64)) = 0 → (((0 : Int) ≤ 0 ∧ 0 ≤ (1 : Int)) ∧ (Q (.inl [vi 0]) (D, SS L 1 c2 c3 c4 c5 c6)))) ∧ (¬ (ib (cbl ab10 (a - 64) (b - 64)) = 0) → (((0 : Int) ≤ 1 ∧ 1 ≤ (1 : Int)) ∧ (Q (.inl [vi 1]) (D, SS L 1 c2 c3 c4 c5 c6))))) from ⟨fun h13 => ⟨(by decide), (x11.2.2 ((ib_z).mp h13))⟩, fun h14 => ⟨(by decide), (x11.2.1 (Classical.not_not.mp (mt (ib_z).mpr h14)))⟩⟩))⟩))))⟩⟩⟩⟩⟩⟩⟩⟩⟩⟩⟩⟩)
theorem s222p171 {L c2 c3 c4 c5 c6 : Nat} {D : Dt} {Q : Out → Wd → Prop} {a b : Int} (H : ∃ ab, (ABp (D 172) ab ∧ ABw ab ∧ ab.length ≤ 24 ∧ tyS (8 + ab.length) a ∧ tyS (8 + ab.length) b) ∧ Q (.inl [vi (ib (tbl ab a b))]) (D, SS L 1 c2 c3 c4 c5 c6)) : wp 222 0 [vr 171, vi a, vi b] [] (D, SS L 1 c2 c3 c4 c5 c6) Q := by
  obtain ⟨ab, ⟨hA, hw, hl, ha, hb⟩, H⟩ := H
  unfold tyS at ha hb
  have h0 : ¬ tbl ab a b → Q (.inl [vi 0]) (D, SS L 1 c2 c3 c4 c5 c6) := fun x => q_i H (ib_f x)
  have h1 : tbl ab a b → Q (.inl [vi 1]) (D, SS L 1 c2 c3 c4 c5 c6) := fun x => q_i H (ib_t x)
  clear H
  unfold tbl at h0 h1
  refine r222_0p171 ⟨fun g => h1 (Or.inl g), fun g1 => ⟨fun g => h1 (Or.inr (Or.inl g)), fun g2 => ⟨fun g => h0 (by omega), fun g3 => ⟨fun g => h0 (by omega), fun g4 => ⟨fun g => h0 (by omega), fun g5 => ⟨fun g => h0 (by omega), fun g6 => ⟨fun g => h1 (Or.inr (Or.inr ⟨by omega, Or.inl g⟩)), fun g7 => ⟨fun g => h1 (Or.inr (Or.inr ⟨by omega, Or.inr (Or.inl g)⟩)), fun g8 => ⟨fun g => h0 (by omega), fun g9 => ⟨fun g => h0 (by omega), fun g10 => ⟨fun g => ⟨fun g11 => ⟨by omega, by omega, ab, ⟨hA, hw, hl, by omega⟩, fun x => h1 (Or.inr (Or.inr ⟨by omega, Or.inr (Or.inr ⟨by omega, Or.inl ⟨g, g11, x⟩⟩)⟩)), fun x => h0 ?_⟩, fun g11 => h0 (by omega)⟩, fun g => ⟨fun g11 => h0 (by omega), fun g11 => ⟨by omega, by omega, ab, ⟨hA, hw, hl, by omega⟩, fun x => h1 (Or.inr (Or.inr ⟨by omega, Or.inr (Or.inr ⟨by omega, Or.inr ⟨by omega, by omega, x⟩⟩)⟩)), fun x => h0 ?_⟩⟩⟩⟩⟩⟩⟩⟩⟩⟩⟩⟩⟩
  · rintro (y | y | ⟨_, y | y | ⟨_, y | y⟩⟩)
    · exact g1 y
    · exact g2 y
    · exact g7 y
    · exact g8 y
    · exact x y.2.2
    · omega
  · rintro (y | y | ⟨_, y | y | ⟨_, y | y⟩⟩)
    · exact g1 y
    · exact g2 y
    · exact g7 y
    · exact g8 y
    · omega
    · exact x y.2.2
theorem r223_0 {L c2 c3 c4 c5 c6 : Nat} {D : Dt} {Q : Out → Wd → Prop} {c d : Int} (H : wp 223 2 [vr 197, vu, vi d, vi c] [] (D, SS L 1 c2 c3 c4 c5 c6) Q) : wp 223 0 [vr 197, vi c, vi d, vu] [] (D, SS L 1 c2 c3 c4 c5 c6) Q := vc_wp [2] 200 _ _ _ _ _ _ (show wp 223 2 [vr 197, vi c, vi d, vi c] [] (D, SS L 1 c2 c3 c4 c5 c6) Q from wp_d (Lle.k rfl (Lle.v rfl (Lle.k rfl (Lle.k rfl (Lle.nil))))) (H))
theorem r223_2 {L c2 c3 c4 c5 c6 : Nat} {D : Dt} {Q : Out → Wd → Prop} {d k : Int} (H : ∃ (ab1 : List Int), (ABp (D 198) ab1 ∧ ABw ab1 ∧ ab1.length ≤ 24 ∧ d < 8 + ab1.length) ∧ ((((cbl ab1 d k → (Q (.inl [vi k]) (D, SS L 1 c2 c3 c4 c5 c6))) ∧ (¬ (cbl ab1 d k) → ((0 ≤ k ∧ k < 32) ∧ (wp 223 2 [vr 197, vu, vi d, vi (D 198 k)] [] (D, SS L 1 c2 c3 c4 c5 c6) Q))))))) : wp 223 2 [vr 197, vu, vi d, vi k] [] (D, SS L 1 c2 c3 c4 c5 c6) Q := vc_wp [] 200 _ _ _ _ _ _ (show wp 216 0 [vr 197, vi d, vi k, vu] [] (D, SS L 1 c2 c3 c4 c5 c6) (aft wp 223 5 [vr 197, vu, vi d, vi k] [] Q) from Exists.elim (H) fun ab1 x2 => s216p197 ⟨ab1, x2.1, (show wp 223 8 [vr 197, vu, vi d, vi k] [vi (ib (cbl ab1 d k))] (D, SS L 1 c2 c3 c4 c5 c6) Q from vc_wp [15] 200 _ _ _ _ _ _ (show ((ib (cbl ab1 d k) = 0 → (wp 223 15 [vr 197, vu, vi d, vi k] [vr 198] (D, SS L 1 c2 c3 c4 c5 c6) Q)) ∧ (¬ (ib (cbl ab1 d k) = 0) → (Q (.inl [vi k]) (D, SS L 1 c2 c3 c4 c5 c6)))) from ⟨fun h4 => vc_wp [2] 200 _ _ _ _ _ _ (show (0 ≤ k ∧ k < 32) ∧ (wp 223 2 [vr 197, vu, vi d, vi (D 198 k)] [] (D, SS L 1 c2 c3 c4 c5 c6) Q) from ⟨(x2.2.2 ((ib_z).mp h4)).1, (x2.2.2 ((ib_z).mp h4)).2⟩), fun h5 => (x2.2.1 (Classical.not_not.mp (mt (ib_z).mpr h5)))⟩))⟩)
theorem s223 {L c2 c3 c4 c5 c6 : Nat} {D : Dt} {Q : Out → Wd → Prop} {c d : Int} (H : ∃ ab, (ABp (D 198) ab ∧ ABw ab ∧ ab.length ≤ 24 ∧ (0 ≤ c ∧ c < 8 + ab.length) ∧ (0 ≤ d ∧ d < 8 + ab.length)) ∧ Q (.inl [vi (cjn ab c d)]) (D, SS L 1 c2 c3 c4 c5 c6)) : wp 223 0 [vr 197, vi c, vi d, vu] [] (D, SS L 1 c2 c3 c4 c5 c6) Q := by
  obtain ⟨ab, ⟨hA, hw, hl, hc, hd⟩, H⟩ := H
  have hL : ∀ (N : Nat) (k : Int), k.toNat < N → 0 ≤ k → k < 8 + ab.length → Q (.inl [vi (cjN ab d N k)]) (D, SS L 1 c2 c3 c4 c5 c6) → wp 223 2 [vr 197, vu, vi d, vi k] [] (D, SS L 1 c2 c3 c4 c5 c6) Q := by
    intro N
    induction N with
    | zero => intro k h; omega
    | succ N ih =>
      intro k hN k0 k1 HH
      refine r223_2 ⟨ab, ⟨hA, hw, hl, hd.2⟩, fun g => q_i HH (cit_t g), fun g => ⟨by omega, ?_⟩⟩
      have h2 := abF_w hw k0 k1
      have h3 : ¬ k = 0 := fun e => g (by rw [e]; exact cbl_0 hw _ d (Nat.lt_succ_self _) hd.1 hd.2)
      have h4 : 0 ≤ abF ab k := by
        have := cbl_0 hw _ k (Nat.lt_succ_self _) k0 k1
        rw [cbl_s hw k0 k1 h3] at this
        exact this.1
      rw [abF_e hA k0 k1]
      exact ih _ (by omega) h4 (by omega) (q_i HH (cit_f g))
  exact r223_0 (hL _ c (Nat.lt_succ_self _) hc.1 hc.2 H)
theorem r221_0 {L c2 c3 c4 c5 c6 : Nat} {D : Dt} {Q : Out → Wd → Prop} {a b : Int} (H : ∃ (ab1 : List Int), (ABp (D 198) ab1 ∧ ABw ab1 ∧ ab1.length ≤ 24 ∧ tyS (8 + ab1.length) a ∧ tyS (8 + ab1.length) b) ∧ ((((tbl ab1 a b → (Q (.inl [vi b]) (D, SS L 1 c2 c3 c4 c5 c6))) ∧ (¬ (tbl ab1 a b) → (∃ (ab4 : List Int), (ABp (D 198) ab4 ∧ ABw ab4 ∧ ab4.length ≤ 24 ∧ tyS (8 + ab4.length) b ∧ tyS (8 + ab4.length) a) ∧ ((((tbl ab4 b a → (Q (.inl [vi a]) (D, SS L 1 c2 c3 c4 c5 c6))) ∧ (¬ (tbl ab4 b a) → ((a = 0 → (Q (.inl [vi 2]) (D, SS L 1 c2 c3 c4 c5 c6))) ∧ (¬ (a = 0) → ((b = 0 → (Q (.inl [vi 2]) (D, SS L 1 c2 c3 c4 c5 c6))) ∧ (¬ (b = 0) → ((a < 64 → ((a < 16 → (Q (.inl [vi 16]) (D, SS L 1 c2 c3 c4 c5 c6))) ∧ (¬ (a < 16) → ((a < 64 → ((b < 16 → (Q (.inl [vi 16]) (D, SS L 1 c2 c3 c4 c5 c6))) ∧ (¬ (b < 16) → ((b < 64 → (((-2147483648) ≤ a - 16 ∧ a - 16 ≤ 2147483647) ∧ (((-2147483648) ≤ b - 16 ∧ b - 16 ≤ 2147483647) ∧ (∃ (ab7 : List Int), (ABp (D 198) ab7 ∧ ABw ab7 ∧ ab7.length ≤ 24 ∧ (0 ≤ (a - 16) ∧ (a - 16) < 8 + ab7.length) ∧ (0 ≤ (b - 16) ∧ (b - 16) < 8 + ab7.length)) ∧ ((((-2147483648) ≤ 16 + (cjn ab7 (a - 16) (b - 16)) ∧ 16 + (cjn ab7 (a - 16) (b - 16)) ≤ 2147483647) ∧ (Q (.inl [vi (16 + (cjn ab7 (a - 16) (b - 16)))]) (D, SS L 1 c2 c3 c4 c5 c6)))))))) ∧ (¬ (b < 64) → (Q (.inl [vi 16]) (D, SS L 1 c2 c3 c4 c5 c6))))))) ∧ (¬ (a < 64) → (Q (.inl [vi 16]) (D, SS L 1 c2 c3 c4 c5 c6))))))) ∧ (¬ (a < 64) → ((b < 64 → ((a < 16 → (Q (.inl [vi 16]) (D, SS L 1 c2 c3 c4 c5 c6))) ∧ (¬ (a < 16) → ((a < 64 → ((b < 16 → (Q (.inl [vi 16]) (D, SS L 1 c2 c3 c4 c5 c6))) ∧ (¬ (b < 16) → ((b < 64 → (((-2147483648) ≤ a - 16 ∧ a - 16 ≤ 2147483647) ∧ (((-2147483648) ≤ b - 16 ∧ b - 16 ≤ 2147483647) ∧ (∃ (ab21 : List Int), (ABp (D 198) ab21 ∧ ABw ab21 ∧ ab21.length ≤ 24 ∧ (0 ≤ (a - 16) ∧ (a - 16) < 8 + ab21.length) ∧ (0 ≤ (b - 16) ∧ (b - 16) < 8 + ab21.length)) ∧ ((((-2147483648) ≤ 16 + (cjn ab21 (a - 16) (b - 16)) ∧ 16 + (cjn ab21 (a - 16) (b - 16)) ≤ 2147483647) ∧ (Q (.inl [vi (16 + (cjn ab21 (a - 16) (b - 16)))]) (D, SS L 1 c2 c3 c4 c5 c6)))))))) ∧ (¬ (b < 64) → (Q (.inl [vi 16]) (D, SS L 1 c2 c3 c4 c5 c6))))))) ∧ (¬ (a < 64) → (Q (.inl [vi 16]) (D, SS L 1 c2 c3 c4 c5 c6))))))) ∧ (¬ (b < 64) → (((-2147483648) ≤ a - 64 ∧ a - 64 ≤ 2147483647) ∧ (((-2147483648) ≤ b - 64 ∧ b - 64 ≤ 2147483647) ∧ (∃ (ab35 : List Int), (ABp (D 198) ab35 ∧ ABw ab35 ∧ ab35.length ≤ 24 ∧ (0 ≤ (a - 64) ∧ (a - 64) < 8 + ab35.length) ∧ (0 ≤ (b - 64) ∧ (b - 64) < 8 + ab35.length)) ∧ ((((-2147483648) ≤ 64 + (cjn ab35 (a - 64) (b - 64)) ∧ 64 + (cjn ab35 (a - 64) (b - 64)) ≤ 2147483647) ∧ (Q (.inl [vi (64 + (cjn ab35 (a - 64) (b - 64)))]) (D, SS L 1 c2 c3 c4 c5 c6))))))))))))))))))))))))) : wp 221 0 [vr 197, vi a, vi b] [] (D, SS L 1 c2 c3 c4 c5 c6) Q := vc_wp [] 200 _ _ _ _ _ _ (show wp 222 0 [vr 197, vi a, vi b] [] (D, SS L 1 c2 c3 c4 c5 c6) (aft wp 221 3 [vr 197, vi a, vi b] [] Q) from Exists.elim (H) fun ab1 x2 => s222p197 ⟨ab1, x2.1, (show wp 221 6 [vr 197, vi a, vi b] [vi (ib (tbl ab1 a b))] (D, SS L 1 c2 c3 c4 c5 c6) Q from vc_wp [] 200 _ _ _ _ _ _ (show ((ib (tbl ab1 a b) = 0 → (wp 222 0 [vr 197, vi b, vi a] [] (D, SS L 1 c2 c3 c4 c5 c6) (aft wp 221 14 [vr 197, vi a, vi b] [] Q))) ∧ (¬ (ib (tbl ab1 a b) = 0) → (Q (.inl [vi b]) (D, SS L 1 c2 c3 c4 c5 c6)))) from ⟨fun h51 => Exists.elim ((x2.2.2 ((ib_z).mp h51))) fun ab4 x5 => s222p197 ⟨ab4, x5.1, (show wp 221 17 [vr 197, vi a, vi b] [vi (ib (tbl ab4 b a))] (D, SS L 1 c2 c3 c4 c5 c6) Q from vc_wp [51, 91] 200 _ _ _ _ _ _ (show ((ib (tbl ab4 b a) = 0 → ((a = 0 → (Q (.inl [vi 2]) (D, SS L 1 c2 c3 c4 c5 c6))) ∧ (¬ (a = 0) → ((b = 0 → (Q (.inl [vi 2]) (D, SS L 1 c2 c3 c4 c5 c6))) ∧ (¬ (b = 0) → ((a < 64 → ((a < 16 → (Q (.inl [vi 16]) (D, SS L 1 c2 c3 c4 c5 c6))) ∧ (¬ (a < 16) → ((a < 64 → ((b < 16 → (Q (.inl [vi 16]) (D, SS L 1 c2 c3 c4 c5 c6))) ∧ (¬ (b < 16) → ((b < 64 → (wp 221 91 [vr 197, vi a, vi b] [vi (w32 (a - 16)), vr 197, vi 16] (D, SS L 1 c2 c3 c4 c5 c6) Q)) ∧ (¬ (b < 64) → (Q (.inl [vi 16]) (D, SS L 1 c2 c3 c4 c5 c6))))))) ∧ (¬ (a < 64) → (Q (.inl [vi 16]) (D, SS L 1 c2 c3 c4 c5 c6))))))) ∧ (¬ (a < 64) → ((b < 64 → ((a < 16 → (Q (.inl [vi 16]) (D, SS L 1 c2 c3 c4 c5 c6))) ∧ (¬ (a < 16) → ((a < 64 → ((b < 16 → (Q (.inl [vi 16]) (D, SS L 1 c2 c3 c4 c5 c6))) ∧ (¬ (b < 16) → ((b < 64 → (wp 221 91 [vr 197, vi a, vi b] [vi (w32 (a - 16)), vr 197, vi 16] (D, SS L 1 c2 c3 c4 c5 c6) Q)) ∧ (¬ (b < 64) → (Q (.inl [vi 16]) (D, SS L 1 c2 c3 c4 c5 c6))))))) ∧ (¬ (a < 64) → (Q (.inl [vi 16]) (D, SS L 1 c2 c3 c4 c5 c6))))))) ∧ (¬ (b < 64) → (wp 221 51 [vr 197, vi a, vi b] [vi (w32 (a - 64)), vr 197, vi 64] (D, SS L 1 c2 c3 c4 c5 c6) Q)))))))))) ∧ (¬ (ib (tbl ab4 b a) = 0) → (Q (.inl [vi a]) (D, SS L 1 c2 c3 c4 c5 c6)))) from ⟨fun h49 => ⟨fun h47 => ((x5.2.2 ((ib_z).mp h49)).1 h47), fun h48 => ⟨fun h45 => (((x5.2.2 ((ib_z).mp h49)).2 h48).1 h45), fun h46 => ⟨fun h43 => ⟨fun h19 => (((((x5.2.2 ((ib_z).mp h49)).2 h48).2 h46).1 h43).1 h19), fun h20 => ⟨fun h17 => ⟨fun h15 => (((((((x5.2.2 ((ib_z).mp h49)).2 h48).2 h46).1 h43).2 h20).1 h17).1 h15), fun h16 => ⟨fun h13 => w32_i (fun z12 : Int => wp 221 91 [vr 197, vi a, vi b] [vi z12, vr 197, vi 16] (D, SS L 1 c2 c3 c4 c5 c6) Q) (((((((((x5.2.2 ((ib_z).mp h49)).2 h48).2 h46).1 h43).2 h20).1 h17).2 h16).1 h13)).1 (vc_wp [95] 200 _ _ _ _ _ _ (show wp 221 95 [vr 197, vi a, vi b] [vi (w32 (b - 16)), vi (a - 16), vr 197, vi 16] (D, SS L 1 c2 c3 c4 c5 c6) Q from w32_i (fun z11 : Int => wp 221 95 [vr 197, vi a, vi b] [vi z11, vi (a - 16), vr 197, vi 16] (D, SS L 1 c2 c3 c4 c5 c6) Q) ((((((((((x5.2.2 ((ib_z).mp h49)).2 h48).2 h46).1 h43).2 h20).1 h17).2 h16).1 h13)).2).1 (vc_wp [] 200 _ _ _ _ _ _ (show wp 223 0 [vr 197, vi (a - 16), vi (b - 16), vu] [] (D, SS L 1 c2 c3 c4 c5 c6) (aft wp 221 95 [vr 197, vi a, vi b] [vi 16] Q) from Exists.elim (((((((((((x5.2.2 ((ib_z).mp h49)).2 h48).2 h46).1 h43).2 h20).1 h17).2 h16).1 h13)).2).2) fun ab7 x8 => s223 ⟨ab7, x8.1, (show wp 221 98 [vr 197, vi a, vi b] [vi (cjn ab7 (a - 16) (b - 16)), vi 16] (D, SS L 1 c2 c3 c4 c5 c6) Q from vc_wp [99] 200 _ _ _ _ _ _ (show wp 221 99 [vr 197, vi a, vi b] [vi (w32 (16 + (cjn ab7 (a - 16) (b - 16))))] (D, SS L 1 c2 c3 c4 c5 c6) Q from w32_i (fun z10 : Int => wp 221 99 [vr 197, vi a, vi b] [vi z10] (D, SS L 1 c2 c3 c4 c5 c6) Q) (x8.2).1 (vc_wp [] 200 _ _ _ _ _ _ (show Q (.inl [vi (16 + (cjn ab7 (a - 16) (b - 16)))]) (D, SS L 1 c2 c3 c4 c5 c6) from (x8.2).2))))⟩)))), fun h14 => ((((((((x5.2.2 ((ib_z).mp h49)).2 h48).2 h46).1 h43).2 h20).1 h17).2 h16).2 h14)⟩⟩, fun h18 => ((((((x5.2.2 ((ib_z).mp h49)).2 h48).2 h46).1 h43).2 h20).2 h18)⟩⟩, fun h44 => ⟨fun h41 => ⟨fun h33 => ((((((x5.2.2 ((ib_z).mp h49)).2 h48).2 h46).2 h44).1 h41).1 h33), fun h34 => ⟨fun h31 => ⟨fun h29 => ((((((((x5.2.2 ((ib_z).mp h49)).2 h48).2 h46).2 h44).1 h41).2 h34).1 h31).1 h29), fun h30 => ⟨fun h27 => w32_i (fun z26 : Int => wp 221 91 [vr 197, vi a, vi b] [vi z26, vr 197, vi 16] (D, SS L 1 c2 c3 c4 c5 c6) Q) ((((((((((x5.2.2 ((ib_z).mp h49)).2 h48).2 h46).2 h44).1 h41).2 h34).1 h31).2 h30).1 h27)).1 (vc_wp [95] 200 _ _ _ _ _ _ (show wp 221 95 [vr 197, vi a, vi b] [vi (w32 (b - 16)), vi (a - 16), vr 197, vi 16] (D, SS L 1 c2 c3 c4 c5 c6) Q from w32_i (fun z25 : Int => wp 221 95 [vr 197, vi a, vi b] [vi z25, vi (a - 16), vr 197, vi 16] (D, SS L 1 c2 c3 c4 c5 c6) Q) (((((((((((x5.2.2 ((ib_z).mp h49)).2 h48).2 h46).2 h44).1 h41).2 h34).1 h31).2 h30).1 h27)).2).1 (vc_wp [] 200 _ _ _ _ _ _ (show wp 223 0 [vr 197, vi (a - 16), vi (b - 16), vu] [] (D, SS L 1 c2 c3 c4 c5 c6) (aft wp 221 95 [vr 197, vi a, vi b] [vi 16] Q) from Exists.elim ((((((((((((x5.2.2 ((ib_z).mp h49)).2 h48).2 h46).2 h44).1 h41).2 h34).1 h31).2 h30).1 h27)).2).2) fun ab21 x22 => s223 ⟨ab21, x22.1, (show wp 221 98 [vr 197, vi a, vi b] [vi (cjn ab21 (a - 16) (b - 16)), vi 16] (D, SS L 1 c2 c3 c4 c5 c6) Q from vc_wp [99] 200 _ _ _ _ _ _ (show wp 221 99 [vr 197, vi a, vi b] [vi (w32 (16 + (cjn ab21 (a - 16) (b - 16))))] (D, SS L 1 c2 c3 c4 c5 c6) Q from w32_i (fun z24 : Int => wp 221 99 [vr 197, vi a, vi b] [vi z24] (D, SS L 1 c2 c3 c4 c5 c6) Q) (x22.2).1 (vc_wp [] 200 _ _ _ _ _ _ (show Q (.inl [vi (16 + (cjn ab21 (a - 16) (b - 16)))]) (D, SS L 1 c2 c3 c4 c5 c6) from (x22.2).2))))⟩)))), fun h28 => (((((((((x5.2.2 ((ib_z).mp h49)).2 h48).2 h46).2 h44).1 h41).2 h34).1 h31).2 h30).2 h28)⟩⟩, fun h32 => (((((((x5.2.2 ((ib_z).mp h49)).2 h48).2 h46).2 h44).1 h41).2 h34).2 h32)⟩⟩, fun h42 => w32_i (fun z40 : Int => wp 221 51 [vr 197, vi a, vi b] [vi z40, vr 197, vi 64] (D, SS L 1 c2 c3 c4 c5 c6) Q) ((((((x5.2.2 ((ib_z).mp h49)).2 h48).2 h46).2 h44).2 h42)).1 (vc_wp [55] 200 _ _ _ _ _ _ (show wp 221 55 [vr 197, vi a, vi b] [vi (w32 (b - 64)), vi (a - 64), vr 197, vi 64] (D, SS L 1 c2 c3 c4 c5 c6) Q from w32_i (fun z39 : Int => wp 221 55 [vr 197, vi a, vi b] [vi z39, vi (a - 64), vr 197, vi 64] (D, SS L 1 c2 c3 c4 c5 c6) Q) (((((((x5.2.2 ((ib_z).mp h49)).2 h48).2 h46).2 h44).2 h42)).2).1 (vc_wp [] 200 _ _ _ _ _ _ (show wp 223 0 [vr 197, vi (a - 64), vi (b - 64), vu] [] (D, SS L 1 c2 c3 c4 c5 c6) (aft wp 221 55 [vr 197, vi a, vi b] [vi 64] Q) from Exists.elim ((((((((x5.2.2 ((ib_z).mp h49)).2 h48).2 h46).2 h44).2 h42)).2).2) fun ab35 x36 => s223 ⟨ab35, x36.1, (show wp 221 58 [vr 197, vi a, vi b] [vi (cjn ab35 (a - 64) (b - 64)), vi 64] (D, SS L 1 c2 c3 c4 c5 c6) Q from vc_wp [59] 200 _ _ _ _ _ _ (show wp 221 59 [vr 197, vi a, vi b] [vi (w32 (64 + (cjn ab35 (a - 64) (b - 64))))] (D, SS L 1 c2 c3 c4 c5 c6) Q from w32_i (fun z38 : Int => wp 221 59 [vr 197, vi a, vi b] [vi z38] (D, SS L 1 c2 c3 c4 c5 c6) Q) (x36.2).1 (vc_wp [] 200 _ _ _ _ _ _ (show Q (.inl [vi (64 + (cjn ab35 (a - 64) (b - 64)))]) (D, SS L 1 c2 c3 c4 c5 c6) from (x36.2).2))))⟩))))⟩⟩⟩⟩, fun h50 => (x5.2.1 (Classical.not_not.mp (mt (ib_z).mpr h50)))⟩))⟩, fun h52 => (x2.2.1 (Classical.not_not.mp (mt (ib_z).mpr h52)))⟩))⟩)
theorem s221 {L c2 c3 c4 c5 c6 : Nat} {D : Dt} {Q : Out → Wd → Prop} {a b : Int} (H : ∃ ab, (ABp (D 198) ab ∧ ABw ab ∧ ab.length ≤ 24 ∧ tyS (8 + ab.length) a ∧ tyS (8 + ab.length) b) ∧ Q (.inl [vi (tjn ab a b)]) (D, SS L 1 c2 c3 c4 c5 c6)) : wp 221 0 [vr 197, vi a, vi b] [] (D, SS L 1 c2 c3 c4 c5 c6) Q := by
  obtain ⟨ab, ⟨hA, hw, hl, ha, hb⟩, H⟩ := H
  have hA2 : ABp (D 198) ab ∧ ABw ab ∧ ab.length ≤ 24 ∧ tyS (8 + ab.length) a ∧ tyS (8 + ab.length) b := ⟨hA, hw, hl, ha, hb⟩
  have hB2 : ABp (D 198) ab ∧ ABw ab ∧ ab.length ≤ 24 ∧ tyS (8 + ab.length) b ∧ tyS (8 + ab.length) a := ⟨hA, hw, hl, hb, ha⟩
  refine r221_0 ⟨ab, hA2, fun g => q_i H (cit_t g), fun g => ⟨ab, hB2, fun g1 => q_i H ((cit_f g).trans (cit_t g1)), fun g1 => ?_⟩⟩
  have e : tjn ab a b = _ := (cit_f g).trans (cit_f g1)
  rw [e] at H
  clear e hA2 hB2
  have h2 : (a = 0 ∨ b = 0) → Q (.inl [vi 2]) (D, SS L 1 c2 c3 c4 c5 c6) := fun x => q_i H (cit_t x)
  have h64 : ¬ (a = 0 ∨ b = 0) → (64 ≤ a ∧ 64 ≤ b) → Q (.inl [vi (64 + cjn ab (a - 64) (b - 64))]) (D, SS L 1 c2 c3 c4 c5 c6) := fun x y => q_i H ((cit_f x).trans (cit_t y))
  have h16 : ¬ (a = 0 ∨ b = 0) → ¬ (64 ≤ a ∧ 64 ≤ b) → ((16 ≤ a ∧ a < 64) ∧ (16 ≤ b ∧ b < 64)) → Q (.inl [vi (16 + cjn ab (a - 16) (b - 16))]) (D, SS L 1 c2 c3 c4 c5 c6) := fun x y z => q_i H ((cit_f x).trans ((cit_f y).trans (cit_t z)))
  have h0 : ¬ (a = 0 ∨ b = 0) → ¬ (64 ≤ a ∧ 64 ≤ b) → ¬ ((16 ≤ a ∧ a < 64) ∧ (16 ≤ b ∧ b < 64)) → Q (.inl [vi 16]) (D, SS L 1 c2 c3 c4 c5 c6) := fun x y z => q_i H ((cit_f x).trans ((cit_f y).trans (cit_f z)))
  unfold tyS at ha hb
  have hj : ∀ o : Int, (0 ≤ a - o ∧ a - o < 8 + ab.length) → (0 ≤ b - o ∧ b - o < 8 + ab.length) → 0 ≤ o → o ≤ 64 → -2147483648 ≤ o + cjn ab (a - o) (b - o) ∧ o + cjn ab (a - o) (b - o) ≤ 2147483647 := fun o q1 q2 o0 o1 => by
    have := (cjn_b hw q1.1 q1.2 q2.1 q2.2).1
    omega
  refine ⟨fun g2 => h2 (Or.inl g2), fun g2 => ⟨fun g3 => h2 (Or.inr g3), fun g3 => ⟨fun g4 => ⟨fun g5 => h0 (by omega) (by omega) (by omega), fun g5 => ⟨fun g6 => ⟨fun g7 => h0 (by omega) (by omega) (by omega), fun g7 => ⟨fun g8 => ⟨by omega, by omega, ab, ⟨hA, hw, hl, by omega, by omega⟩, hj 16 (by omega) (by omega) (by decide) (by decide), h16 (by omega) (by omega) (by omega)⟩, fun g8 => h0 (by omega) (by omega) (by omega)⟩⟩, fun g6 => absurd g4 g6⟩⟩, fun g4 => ⟨fun g5 => ⟨fun g6 => by omega, fun g6 => ⟨fun g7 => absurd g7 g4, fun g7 => h0 (by omega) (by omega) (by omega)⟩⟩, fun g5 => ⟨by omega, by omega, ab, ⟨hA, hw, hl, by omega, by omega⟩, hj 64 (by omega) (by omega) (by decide) (by decide), h64 (by omega) (by omega)⟩⟩⟩⟩⟩
theorem r224_0 {L c2 c3 c4 c5 c6 : Nat} {D : Dt} {Q : Out → Wd → Prop} {t : Int} (H : ((t = 3 → (Q (.inl [vi 1]) (D, SS L 1 c2 c3 c4 c5 c6))) ∧ (¬ (t = 3) → ((t < 64 → (Q (.inl [vi 0]) (D, SS L 1 c2 c3 c4 c5 c6))) ∧ (¬ (t < 64) → (Q (.inl [vi 1]) (D, SS L 1 c2 c3 c4 c5 c6))))))) : wp 224 0 [vi t] [] (D, SS L 1 c2 c3 c4 c5 c6) Q := vc_wp [] 200 _ _ _ _ _ _ (show ((t = 3 → (((0 : Int) ≤ 1 ∧ 1 ≤ (1 : Int)) ∧ (Q (.inl [vi 1]) (D, SS L 1 c2 c3 c4 c5 c6)))) ∧ (¬ (t = 3) → ((t < 64 → (((0 : Int) ≤ 0 ∧ 0 ≤ (1 : Int)) ∧ (Q (.inl [vi 0]) (D, SS L 1 c2 c3 c4 c5 c6)))) ∧ (¬ (t < 64) → (((0 : Int) ≤ 1 ∧ 1 ≤ (1 : Int)) ∧ (Q (.inl [vi 1]) (D, SS L 1 c2 c3 c4 c5 c6))))))) from ⟨fun h3 => ⟨(by decide), (H.1 h3)⟩, fun h4 => ⟨fun h1 => ⟨(by decide), ((H.2 h4).1 h1)⟩, fun h2 => ⟨(by decide), ((H.2 h4).2 h2)⟩⟩⟩)
theorem r225_0 {L c2 c3 c4 c5 c6 : Nat} {D : Dt} {Q : Out → Wd → Prop} {t : Int} (H : ((t = 3 → (Q (.inl [vi 0]) (D, SS L 1 c2 c3 c4 c5 c6))) ∧ (¬ (t = 3) → (((-2147483648) ≤ 16 + t ∧ 16 + t ≤ 2147483647) ∧ (((-2147483648) ≤ (16 + t) - 64 ∧ (16 + t) - 64 ≤ 2147483647) ∧ (Q (.inl [vi ((16 + t) - 64)]) (D, SS L 1 c2 c3 c4 c5 c6))))))) : wp 225 0 [vi t] [] (D, SS L 1 c2 c3 c4 c5 c6) Q := vc_wp [13, 16] 200 _ _ _ _ _ _ (show ((t = 3 → (wp 225 16 [vi t] [vi 0] (D, SS L 1 c2 c3 c4 c5 c6) Q)) ∧ (¬ (t = 3) → (wp 225 13 [vi t] [vi (w32 (16 + t))] (D, SS L 1 c2 c3 c4 c5 c6) Q))) from ⟨fun h3 => vc_wp [] 200 _ _ _ _ _ _ (show Q (.inl [vi 0]) (D, SS L 1 c2 c3 c4 c5 c6) from (H.1 h3)), fun h4 => w32_i (fun z2 : Int => wp 225 13 [vi t] [vi z2] (D, SS L 1 c2 c3 c4 c5 c6) Q) ((H.2 h4)).1 (vc_wp [16] 200 _ _ _ _ _ _ (show wp 225 16 [vi t] [vi (w32 ((16 + t) - 64))] (D, SS L 1 c2 c3 c4 c5 c6) Q from w32_i (fun z1 : Int => wp 225 16 [vi t] [vi z1] (D, SS L 1 c2 c3 c4 c5 c6) Q) (((H.2 h4)).2).1 (vc_wp [] 200 _ _ _ _ _ _ (show Q (.inl [vi ((16 + t) - 64)]) (D, SS L 1 c2 c3 c4 c5 c6) from (((H.2 h4)).2).2))))⟩)
theorem s224 {L c2 c3 c4 c5 c6 : Nat} {D : Dt} {Q : Out → Wd → Prop} {t : Int} (H : Q (.inl [vi (ib (t = 3 ∨ 64 ≤ t))]) (D, SS L 1 c2 c3 c4 c5 c6)) : wp 224 0 [vi t] [] (D, SS L 1 c2 c3 c4 c5 c6) Q := r224_0 ⟨fun g => q_i H (ib_t (Or.inl g)), fun g => ⟨fun g1 => q_i H (ib_f (by omega)), fun g1 => q_i H (ib_t (by omega))⟩⟩
theorem s225 {L c2 c3 c4 c5 c6 : Nat} {D : Dt} {Q : Out → Wd → Prop} {t : Int} (H : ((t = 3 ∨ 64 ≤ t) ∧ t ≤ 1000) ∧ Q (.inl [vi (elT t)]) (D, SS L 1 c2 c3 c4 c5 c6)) : wp 225 0 [vi t] [] (D, SS L 1 c2 c3 c4 c5 c6) Q := by
  obtain ⟨ht, H⟩ := H
  exact r225_0 ⟨fun g => q_i H (if_pos g), fun g => ⟨by omega, by omega, q_i H (by unfold elT; rw [if_neg g, if_pos (by omega)]; omega)⟩⟩
