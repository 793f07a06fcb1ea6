/-! straight-line code, run: for the constructors -/
set_option maxRecDepth 100000
def exS (m own ini : Nat) (i : Jvm.ClassFile.Instr) (ls st : List Vl) (w : Wd) : Option (List Vl × Wd) := match i with
  | .iconst n => some (vi n :: st, w)
  | .bipush n => some (vi n :: st, w)
  | .sipush n => some (vi n :: st, w)
  | .iload_n j => (match ls[j.val]? with
    | some (.inl x) => some (vi x :: st, w)
    | _ => none)
  | .aload_n j => (match ls[j.val]? with
    | some (.inr (.inr (.inl x))) => some (vr x :: st, w)
    | _ => none)
  | .dup => (match st with
    | .inr (.inr (.inl a)) :: st' => some (vr a :: vr a :: st', w)
    | _ => none)
  | .getfield j => (match rfd (own * 1000 + j), st with
    | some (lo, hi, f, 2, _), .inr (.inr (.inl a)) :: st' => bif Nat.ble lo (tg w a) && Nat.ble (tg w a) hi && Nat.ble 1 (gr w a f) then some (vr (gr w a f) :: st', w) else none
    | _, _ => none)
  | .putfield j => (match rfd (own * 1000 + j), st with
    | some (lo, hi, f, 2, fin), .inr (.inr (.inl v)) :: .inr (.inr (.inl a)) :: st' => bif Nat.ble fin ini && (Nat.ble lo (tg w a) && Nat.ble (tg w a) hi) then some (st', (w.1, urf w.2.1 a f v, w.2.2)) else none
    | some (lo, hi, f, 0, fin), .inl v :: .inr (.inr (.inl a)) :: st' => bif Nat.ble fin ini && (Nat.ble lo (tg w a) && Nat.ble (tg w a) hi) then some (st', (up w.1 a f v, w.2)) else none
    | _, _ => none)
  | .newarray t => (match st with
    | .inl n :: st' => bif Nat.ble 1 (kArr t) && decide (0 ≤ n) && decide (n ≤ 100000) && roomy w n.toNat then (bif isRow m then (bif Nat.ble n.toNat 8192 && rws.any (Nat.beq (nx w)) then some (vr (nx w) :: st', mkr w n.toNat) else none) else some (vr (nx w) :: st', mkc w (kArr t) n.toNat n.toNat)) else none
    | _ => none)
  | .new j => (match rnw (own * 1000 + j) with
    | some (c, s) => bif roomy w s then some (vr (nx w) :: st, mkc w c 0 s) else none
    | none => none)
  | _ => none
theorem bif_s {α : Type} {b : Bool} {x : Option α} {y : α} (h : (bif b then x else none) = some y) : b = true ∧ x = some y := by
  cases b
  · cases h
  · exact ⟨rfl, h⟩
theorem exS_ok {m own ini pc len : Nat} {i : Jvm.ClassFile.Instr} {ls st st' : List Vl} {w w' : Wd} {k : Nat → List Vl → List Vl → Wd → Prop} (h : exS m own ini i ls st w = some (st', w')) (hk : k (pc + len) ls st' w') : exP m own ini pc len i ls st w k := by
  unfold exS at h
  split at h
  · cases h; exact hk
  · cases h; exact hk
  · cases h; exact hk
  · split at h
    · next x hj => cases h; show ldI ls _ _; unfold ldI; rw [hj]; exact hk
    · cases h
  · split at h
    · next x hj => cases h; show ldA ls _ _; unfold ldA; rw [hj]; exact hk
    · cases h
  · split at h
    · cases h; exact hk
    · cases h
  · split at h
    · next lo hi f _ a st1 hr =>
      obtain ⟨hb, h⟩ := bif_s h
      cases h
      rw [Bool.and_eq_true] at hb
      unfold exP
      dsimp only
      rw [hr]
      exact gd_i hb.1 (gd_i hb.2 hk)
    · cases h
  · split at h
    · next lo hi f fin v a st1 hr =>
      obtain ⟨hb, h⟩ := bif_s h
      cases h
      rw [Bool.and_eq_true] at hb
      unfold exP
      dsimp only
      rw [hr]
      exact gd_i hb.1 (gd_i hb.2 hk)
    · next lo hi f fin v a st1 hr =>
      obtain ⟨hb, h⟩ := bif_s h
      cases h
      rw [Bool.and_eq_true] at hb
      unfold exP
      dsimp only
      rw [hr]
      exact gd_i hb.1 (gd_i hb.2 hk)
    · cases h
  · split at h
    · next n st1 =>
      obtain ⟨hb, h⟩ := bif_s h
      simp only [Bool.and_eq_true, decide_eq_true_eq] at hb
      obtain ⟨⟨⟨h1, h2⟩, h3⟩, h4⟩ := hb
      refine gd_i h1 ⟨⟨h2, h3⟩, gd_i h4 ?_⟩
      cases hr : isRow m with
      | true =>
        rw [hr] at h
        obtain ⟨hb, h⟩ := bif_s h
        cases h
        exact gd_i hb hk
      | false =>
        rw [hr] at h
        cases h
        exact hk
    · cases h
  · split at h
    · next c s hr =>
      obtain ⟨hb, h⟩ := bif_s h
      cases h
      unfold exP
      dsimp only
      rw [hr]
      exact gd_i hb hk
    · cases h
  · cases h
