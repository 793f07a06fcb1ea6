/-! the straight-line executor over lists of changes: it does not look at the first world -/
set_option maxRecDepth 100000
abbrev Lw : Type := List (Nat × Option (Nat × Nat)) × List (Nat × Nat × Nat) × List (Nat × Option (Int × Int)) × Nat × Nat
def lR : List (Nat × Option (Nat × Nat)) → Nat → Nat → Nat
  | [] => fun _ _ => 0
  | (a, none) :: t => zrf (lR t) a
  | (a, some (f, v)) :: t => urf (lR t) a f v
def lT (T0 : Nat → Nat × Nat) : List (Nat × Nat × Nat) → Nat → Nat × Nat
  | [] => T0
  | (a, v) :: t => utg (lT T0 t) a v
def lU (D0 : Dt) : List (Nat × Option (Int × Int)) → Dt
  | [] => D0
  | (a, none) :: t => zr (lU D0 t) a
  | (a, some (i, v)) :: t => up (lU D0 t) a i v
def toW (D0 : Dt) (T0 : Nat → Nat × Nat) (l : Lw) : Wd := (lU D0 l.2.2.1, lR l.1, lT T0 l.2.1, l.2.2.2.1, l.2.2.2.2)
/-- the kind of what has been made; 0 of all else -/
def ltg : List (Nat × Nat × Nat) → Nat → Nat
  | [], _ => 0
  | (a', v) :: t, a => bif Nat.beq a a' then v.1 else ltg t a
theorem ltg_ok (D0 : Dt) (T0 : Nat → Nat × Nat) (l : Lw) (a : Nat) (h : Nat.ble 1 (ltg l.2.1 a) = true) : tg (toW D0 T0 l) a = ltg l.2.1 a := by
  show (lT T0 l.2.1 a).1 = _
  generalize l.2.1 = t at h ⊢
  induction t with
  | nil => exact Bool.noConfusion (show false = true from h)
  | cons x t ih =>
    obtain ⟨a', v⟩ := x
    show (bif Nat.beq a a' then v else lT T0 t a).1 = (bif Nat.beq a a' then v.1 else ltg t a)
    have h' : Nat.ble 1 (bif Nat.beq a a' then v.1 else ltg t a) = true := h
    cases hb : Nat.beq a a' with
    | true => rfl
    | false => rw [hb] at h'; exact ih h'
def lmk (l : Lw) (t n s : Nat) : Lw := ((l.2.2.2.1, none) :: l.1, (l.2.2.2.1, t, n) :: l.2.1, (l.2.2.2.1, none) :: l.2.2.1, l.2.2.2.1 + 1, l.2.2.2.2 + s)
def lmr (l : Lw) (n : Nat) : Lw := ((l.2.2.2.1, none) :: l.1, (l.2.2.2.1, 55, 0) :: l.2.1, (l.2.2.2.1, some (-1, (n : Int))) :: (l.2.2.2.1, none) :: l.2.2.1, l.2.2.2.1 + 1, l.2.2.2.2 + n)
def lroomy (l : Lw) (s : Nat) : Bool := Nat.ble l.2.2.2.1 1000 && Nat.ble (l.2.2.2.2 + s) 1000000
/-- a kind between lo and hi, of what has been made -/
def lin (l : Lw) (lo hi a : Nat) : Bool := Nat.ble 1 (ltg l.2.1 a) && (Nat.ble lo (ltg l.2.1 a) && Nat.ble (ltg l.2.1 a) hi)
def lstb (l : Lw) (m2 : Nat) (v : Vl) : Bool := match v with
  | .inr (.inr (.inl a)) => Nat.ble 1 (ltg l.2.1 a) && (!(Nat.beq (ltg l.2.1 a) 55) && !((Nat.beq m2 4 || Nat.beq m2 231) && inb a))
  | _ => true
theorem lin_ok (D0 : Dt) (T0 : Nat → Nat × Nat) {l : Lw} {lo hi a : Nat} (h : lin l lo hi a = true) : (Nat.ble lo (tg (toW D0 T0 l) a) && Nat.ble (tg (toW D0 T0 l) a) hi) = true := by
  unfold lin at h
  rw [Bool.and_eq_true] at h
  rw [ltg_ok D0 T0 l a h.1]
  exact h.2
theorem lstb_ok (D0 : Dt) (T0 : Nat → Nat × Nat) {l : Lw} {m2 : Nat} {v : Vl} (h : lstb l m2 v = true) : stb (toW D0 T0 l) m2 v = true := by
  unfold lstb at h
  unfold stb
  split at h
  · next a =>
    rw [Bool.and_eq_true] at h
    dsimp only
    rw [ltg_ok D0 T0 l a h.1]
    exact h.2
  · next hv =>
    split
    · next a => exact absurd rfl (hv a)
    · rfl
theorem lall_ok (D0 : Dt) (T0 : Nat → Nat × Nat) {l : Lw} {m2 : Nat} {vs : List Vl} (h : vs.all (lstb l m2) = true) : vs.all (stb (toW D0 T0 l) m2) = true := by
  rw [List.all_eq_true] at h ⊢
  exact fun v hv => lstb_ok D0 T0 (h v hv)
def lS (m own ini : Nat) (i : Jvm.ClassFile.Instr) (ls st : List Vl) (l : Lw) : Option (List Vl × Lw) := match i with
  | .iconst n => some (vi n :: st, l)
  | .bipush n => some (vi n :: st, l)
  | .sipush n => some (vi n :: st, l)
  | .iload_n j => (match ls[j.val]? with
    | some (.inl x) => some (vi x :: st, l)
    | _ => none)
  | .aload_n j => (match ls[j.val]? with
    | some (.inr (.inr (.inl x))) => some (vr x :: st, l)
    | _ => none)
  | .dup => (match st with
    | .inr (.inr (.inl a)) :: st' => some (vr a :: vr a :: st', l)
    | _ => none)
  | .getfield j => (match rfd (own * 1000 + j), st with
    | some (lo, hi, f, 2, _), .inr (.inr (.inl a)) :: st' => bif lin l lo hi a && Nat.ble 1 (lR l.1 a f) then some (vr (lR l.1 a f) :: st', l) else none
    | _, _ => none)
  | .putfield j => (match rfd (own * 1000 + j), st with
    | some (lo, hi, f, 2, fin), .inr (.inr (.inl v)) :: .inr (.inr (.inl a)) :: st' => bif Nat.ble fin ini && lin l lo hi a then some (st', ((a, some (f, v)) :: l.1, l.2)) else none
    | some (lo, hi, f, 0, fin), .inl v :: .inr (.inr (.inl a)) :: st' => bif Nat.ble fin ini && lin l lo hi a then some (st', (l.1, l.2.1, (a, some (f, v)) :: l.2.2.1, l.2.2.2)) else none
    | _, _ => none)
  | .newarray t => (match st with
    | .inl n :: st' => bif Nat.ble 1 (kArr t) && decide (0 ≤ n) && decide (n ≤ 100000) && lroomy l n.toNat then (bif isRow m then (bif Nat.ble n.toNat 8192 && rws.any (Nat.beq l.2.2.2.1) then some (vr l.2.2.2.1 :: st', lmr l n.toNat) else none) else some (vr l.2.2.2.1 :: st', lmk l (kArr t) n.toNat n.toNat)) else none
    | _ => none)
  | .new j => (match rnw (own * 1000 + j) with
    | some (c, s) => bif lroomy l s then some (vr l.2.2.2.1 :: st, lmk l c 0 s) else none
    | none => none)
  | _ => none
theorem bif_i {α : Type} {b : Bool} {x : Option α} {y : Option α} (hb : b = true) (hx : x = y) : (bif b then x else none) = y := by
  rw [hb]; exact hx
theorem lS_ok (D0 : Dt) (T0 : Nat → Nat × Nat) {m own ini : Nat} {i : Jvm.ClassFile.Instr} {ls st st' : List Vl} {l l' : Lw} (h : lS m own ini i ls st l = some (st', l')) : exS m own ini i ls st (toW D0 T0 l) = some (st', toW D0 T0 l') := by
  unfold lS at h
  split at h
  · cases h; rfl
  · cases h; rfl
  · cases h; rfl
  · split at h
    · next x hj => cases h; unfold exS; dsimp only; rw [hj]
    · cases h
  · split at h
    · next x hj => cases h; unfold exS; dsimp only; rw [hj]
    · cases h
  · split at h
    · cases h; rfl
    · cases h
  · split at h
    · next lo hi f _ a st1 hr =>
      obtain ⟨hb, h⟩ := bif_s h
      cases h
      rw [Bool.and_eq_true] at hb
      unfold exS
      dsimp only
      rw [hr]
      refine bif_i ?_ rfl
      rw [lin_ok D0 T0 hb.1]
      exact hb.2
    · cases h
  · split at h
    · next lo hi f fin v a st1 hr =>
      obtain ⟨hb, h⟩ := bif_s h
      cases h
      rw [Bool.and_eq_true] at hb
      unfold exS
      dsimp only
      rw [hr]
      refine bif_i ?_ rfl
      rw [lin_ok D0 T0 hb.2, hb.1]
      rfl
    · next lo hi f fin v a st1 hr =>
      obtain ⟨hb, h⟩ := bif_s h
      cases h
      rw [Bool.and_eq_true] at hb
      unfold exS
      dsimp only
      rw [hr]
      refine bif_i ?_ rfl
      rw [lin_ok D0 T0 hb.2, hb.1]
      rfl
    · cases h
  · split at h
    · next n st1 =>
      obtain ⟨hb, h⟩ := bif_s h
      unfold exS
      dsimp only
      refine bif_i hb ?_
      cases hr : isRow m with
      | true =>
        rw [hr] at h
        obtain ⟨hb, h⟩ := bif_s h
        cases h
        exact bif_i hb rfl
      | false =>
        rw [hr] at h
        cases h
        rfl
    · cases h
  · split at h
    · next c s hr =>
      obtain ⟨hb, h⟩ := bif_s h
      cases h
      unfold exS
      dsimp only
      rw [hr]
      exact bif_i hb rfl
    · cases h
  · cases h
def lX : Nat → Nat → Nat → List Vl → List Vl → Lw → Option Lw
  | 0, _, _, _, _, _ => none
  | n + 1, m, pc, ls, st, l =>
    bif Nat.beq (mac m pc) 5 then (match ls, st with
      | [.inr (.inr (.inl a))], [] => bif Nat.beq (ltg l.2.1 a) 2 && lroomy l 6 then lX n m 15 [vr a] [] ((a, some (0, l.2.2.2.1)) :: (lmk l 18 0 6).1, (lmk l 18 0 6).2) else none
      | _, _ => none)
    else bif Nat.beq (mac m pc) 0 then (match lk (tb m) pc with
      | none => none
      | some (i, len) => (match kin i with
        | (0, _, _) => (match lS m (inf m).1 (inf m).2.2.2.2 i ls st l with
          | some (st', l') => lX n m (pc + len) ls st' l'
          | none => none)
        | (1, kd, j) => (match rcl ((inf m).1 * 1000 + j) with
          | some (kd', np, m2, lo, hi) => bif Nat.beq kd' kd && Nat.ble np st.length && Nat.ble (pdep m2 + 1) (inf m).2.2.1 && Nat.ble (wt (st.drop np)) 8 && (Nat.ble 600 m2 || Nat.ble (wt (st.take np)) (inf m2).2.1) && (ls.all (lstb l m2) && (st.drop np).all (lstb l m2)) then
              (match kd, (st.take np).reverse with
                | _ + 1, .inr (.inr (.inl a)) :: as => bif lin l lo hi a then
                    (bif Nat.beq m2 600 then (match as with
                      | [] => lX n m (pc + 3) ls (st.drop np) l
                      | _ => none)
                    else bif Nat.ble 600 m2 then none
                    else (match lX n m2 0 (ent m2 (vr a :: as)) [] l with
                      | some l' => lX n m (pc + 3) ls (st.drop np) l'
                      | none => none)) else none
                | _, _ => none) else none
          | none => none)
        | (2, _, _) => (match i, st with
          | .return_, [] => bif Nat.beq (inf m).2.2.2.1 0 then some l else none
          | _, _ => none)
        | _ => none))
    else none
theorem lX_ok (D0 : Dt) (T0 : Nat → Nat × Nat) : ∀ (n m pc : Nat) (ls st : List Vl) (l l' : Lw), lX n m pc ls st l = some l' → ex n m pc ls st (toW D0 T0 l) = some (toW D0 T0 l')
  | 0, _, _, _, _, _, _, h => by cases h
  | n + 1, m, pc, ls, st, l, l', h => by
    unfold lX at h
    unfold ex
    cases h5 : Nat.beq (mac m pc) 5 with
    | true =>
      rw [h5, cond_true] at h
      rw [cond_true]
      split at h
      · next a =>
        obtain ⟨hb, h⟩ := bif_s h
        rw [Bool.and_eq_true] at hb
        have h1 : Nat.ble 1 (ltg l.2.1 a) = true := by rw [Nat.eq_of_beq_eq_true hb.1]; rfl
        refine bif_i ?_ (lX_ok D0 T0 n m 15 _ _ _ _ h)
        rw [ltg_ok D0 T0 l a h1, hb.1]
        exact hb.2
      · cases h
    | false =>
      rw [h5, cond_false] at h
      rw [cond_false]
      obtain ⟨h0, h⟩ := bif_s h
      refine bif_i h0 ?_
      split at h
      · cases h
      · next i len hlk =>
        rw [hlk]
        dsimp only
        split at h
        · next hk =>
          rw [hk]
          split at h
          · next st' l1 hs =>
            rw [lS_ok D0 T0 hs]
            exact lX_ok D0 T0 n m _ _ _ _ _ h
          · cases h
        · next kd j hk =>
          rw [hk]
          split at h
          · next kd' np m2 lo hi hr =>
            obtain ⟨hb, h⟩ := bif_s h
            simp only [hr]
            refine bif_i ?_ ?_
            · obtain ⟨hb1, hb2⟩ := (Bool.and_eq_true _ _).mp hb
              obtain ⟨hb3, hb4⟩ := (Bool.and_eq_true _ _).mp hb2
              rw [hb1, lall_ok D0 T0 hb3, lall_ok D0 T0 hb4]
              rfl
            · split at h
              · next a as hE _ =>
                obtain ⟨hg, h⟩ := bif_s h
                rw [hE]
                dsimp only
                refine bif_i (lin_ok D0 T0 hg) ?_
                cases h6 : Nat.beq m2 600 with
                | true =>
                  rw [h6, cond_true] at h
                  rw [cond_true]
                  split at h
                  · exact lX_ok D0 T0 n m _ _ _ _ _ h
                  · cases h
                | false =>
                  rw [h6, cond_false] at h
                  rw [cond_false]
                  cases h7 : Nat.ble 600 m2 with
                  | true => rw [h7] at h; cases h
                  | false =>
                    rw [h7, cond_false] at h
                    rw [cond_false]
                    split at h
                    · next l1 hc =>
                      rw [lX_ok D0 T0 n m2 0 _ _ _ _ hc]
                      exact lX_ok D0 T0 n m _ _ _ _ _ h
                    · cases h
              · cases h
          · cases h
        · next hk =>
          rw [hk]
          split at h
          · obtain ⟨hb, h⟩ := bif_s h
            cases h
            exact bif_i hb rfl
          · cases h
        · cases h
