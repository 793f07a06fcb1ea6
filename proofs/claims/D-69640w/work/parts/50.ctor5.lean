/-! the constructors: kinds and numbers -/
set_option maxRecDepth 100000
def T00 (L : Nat) : Nat → Nat × Nat := fun a => bif Nat.beq a 1 then (51, L) else bif Nat.ble 2 a && Nat.ble a 38 then (60, 0) else (0, 0)
def lP : List (Nat × Nat × Nat) → Nat → Nat × Nat
  | [], _ => (0, 0)
  | (a', v) :: t, a => bif Nat.beq a a' then v else lP t a
theorem lT_in (T0 : Nat → Nat × Nat) (a : Nat) (h : T0 a = (0, 0)) : ∀ l, lT T0 l a = lP l a
  | [] => h
  | (a', v) :: t => by
    show (bif Nat.beq a a' then v else lT T0 t a) = (bif Nat.beq a a' then v else lP t a)
    rw [lT_in T0 a h t]
theorem lT_low (T0 : Nat → Nat × Nat) (a : Nat) (h : a < 50) : ∀ l : List (Nat × Nat × Nat), (l.all fun x => Nat.ble 50 x.1 && Nat.blt x.1 355) = true → lT T0 l a = T0 a
  | [], _ => rfl
  | (a', v) :: t, hl => by
    rw [List.all_cons, Bool.and_eq_true] at hl
    show (bif Nat.beq a a' then v else lT T0 t a) = T0 a
    have h1 : (Nat.ble 50 a' && Nat.blt a' 355) = true := hl.1
    rw [Bool.and_eq_true] at h1
    have h2 : 50 ≤ a' := Nat.le_of_ble_eq_true h1.1
    cases e : Nat.beq a a' with
    | true => have := Nat.eq_of_beq_eq_true e; omega
    | false => exact lT_low T0 a h t hl.2
theorem lP_out (a : Nat) (h : 355 ≤ a) : ∀ l : List (Nat × Nat × Nat), (l.all fun x => Nat.ble 50 x.1 && Nat.blt x.1 355) = true → lP l a = (0, 0)
  | [], _ => rfl
  | (a', v) :: t, hl => by
    rw [List.all_cons, Bool.and_eq_true] at hl
    show (bif Nat.beq a a' then v else lP t a) = (0, 0)
    have h1 : (Nat.ble 50 a' && Nat.blt a' 355) = true := hl.1
    rw [Bool.and_eq_true] at h1
    have h2 : a' + 1 ≤ 355 := Nat.le_of_ble_eq_true h1.2
    cases e : Nat.beq a a' with
    | true => have := Nat.eq_of_beq_eq_true e; omega
    | false => exact lP_out a h t hl.2
def pbeq (x y : Nat × Nat) : Bool := Nat.beq x.1 y.1 && Nat.beq x.2 y.2
theorem pbeq_ok {x y : Nat × Nat} (h : pbeq x y = true) : x = y := by
  obtain ⟨x1, x2⟩ := x
  obtain ⟨y1, y2⟩ := y
  have h' : (Nat.beq x1 y1 && Nat.beq x2 y2) = true := h
  rw [Bool.and_eq_true] at h'
  rw [Nat.eq_of_beq_eq_true h'.1, Nat.eq_of_beq_eq_true h'.2]
theorem ck_t : (rng 355 fun a => Nat.blt a 50 || pbeq (lP lw2.2.1 a) (st0 0 a)) = true := by decide +kernel
theorem ck_tl : (rng 50 fun a => pbeq (T00 0 a) (st0 0 a)) = true := by decide +kernel
theorem ck_ta : (lw2.2.1.all fun x => Nat.ble 50 x.1 && Nat.blt x.1 355) = true := by decide +kernel
theorem bq1 {b : Bool} {x y z t : Nat × Nat} (hx : x = z) (hy : y = t) : (bif b then x else y) = bif b then z else t := by
  rw [hx, hy]
theorem bq2 {b : Bool} {x y z t : Nat × Nat} (hx : b = false) (hy : y = t) : (bif b then x else y) = bif b then z else t := by
  rw [hx]; exact hy
theorem bq3 {b : Bool} {x y z : Nat × Nat} (hx : x = z) (hy : y = z) : (bif b then x else y) = z := by
  cases b
  · exact hy
  · exact hx
theorem bq4 {b : Bool} {x y z : Nat × Nat} (hx : b = false) (hy : y = z) : (bif b then x else y) = z := by
  rw [hx]; exact hy
theorem bl {b : Bool} {x x' y : Nat × Nat} (h : x = x') : (bif b then x else y) = bif b then x' else y := by rw [h]
theorem ble_f {a k : Nat} (h : k < a) : Nat.ble a k = false := by
  cases e : Nat.ble a k with
  | true => have := Nat.le_of_ble_eq_true e; omega
  | false => rfl
theorem st_L (L a : Nat) (h : Nat.beq a 1 = false) : st0 L a = st0 0 a := by
  unfold st0
  exact bl (bl (bl (bl (bl (bl (bl (bl (bq2 h rfl))))))))
theorem st_out (L a : Nat) (h : 355 ≤ a) : st0 L a = (0, 0) := by
  unfold st0
  repeat (refine bq4 (ble_f (a := a) (Nat.lt_of_lt_of_le (by decide) h)) ?_)
  exact bq4 (beq_f (a := a) (Nat.lt_of_lt_of_le (by decide) h)) rfl
theorem lw2_t (L : Nat) : lT (T00 L) lw2.2.1 = st0 L := by
  funext a
  by_cases h : a < 50
  · rw [lT_low _ a h _ ck_ta]
    cases e : Nat.beq a 1 with
    | true =>
      have := Nat.eq_of_beq_eq_true e
      subst this
      rfl
    | false =>
      rw [st_L L a e, ← pbeq_ok (rng_ok ck_tl h)]
      show (bif Nat.beq a 1 then _ else _) = (bif Nat.beq a 1 then _ else _)
      rw [e]; rfl
  · have h0 : T00 L a = (0, 0) := by
      show (bif Nat.beq a 1 then (51, L) else bif Nat.ble 2 a && Nat.ble a 38 then (60, 0) else (0, 0)) = _
      rw [beq_f (by omega)]
      have : Nat.ble a 38 = false := by
        cases e : Nat.ble a 38 with
        | true => have := Nat.le_of_ble_eq_true e; omega
        | false => rfl
      rw [this, Bool.and_false]; rfl
    rw [lT_in _ a h0]
    by_cases h2 : a < 355
    · have h3 := rng_ok ck_t h2
      have h4 : Nat.blt a 50 = false := by
        cases e : Nat.blt a 50 with
        | true => have : a + 1 ≤ 50 := Nat.le_of_ble_eq_true e; omega
        | false => rfl
      have h3' : (Nat.blt a 50 || pbeq (lP lw2.2.1 a) (st0 0 a)) = true := h3
      rw [h4, Bool.false_or] at h3'
      rw [pbeq_ok h3', st_L L a (beq_f (by omega))]
    · rw [lP_out a (by omega) _ ck_ta, st_out L a (by omega)]
/-! numbers -/
/-- the first numbers: the script, and what the constructors have put -/
def D00 (L : Nat) (xs : Nat → Int32) : Dt := fun a i =>
  if a = 1 then (if 0 ≤ i ∧ i < L then (xs i.toNat).toInt else 0)
  else if i = -1 ∧ a ∈ rws then 64
  else if a = 51 ∧ i = 2 ∨ a = 226 ∧ (i = 12 ∨ i = 59 ∨ i = 60) then -1
  else 0
def lV : List (Nat × Option (Int × Int)) → Nat → Int → Int
  | [], _, _ => 0
  | (a', none) :: t, a, i => bif Nat.beq a a' then 0 else lV t a i
  | (a', some (i', v)) :: t, a, i => bif Nat.beq a a' && decide (i = i') then v else lV t a i
theorem lU_in (D0 : Dt) (a : Nat) (i : Int) (h : D0 a i = 0) : ∀ l, lU D0 l a i = lV l a i
  | [] => h
  | (a', none) :: t => by
    show (if a = a' then 0 else lU D0 t a i) = (bif Nat.beq a a' then 0 else lV t a i)
    rw [lU_in D0 a i h t]
    cases e : Nat.beq a a' with
    | true => rw [if_pos (Nat.eq_of_beq_eq_true e)]; rfl
    | false => rw [if_neg (Nat.ne_of_beq_eq_false e)]; rfl
  | (a', some (i', v)) :: t => by
    show (if a = a' ∧ i = i' then v else lU D0 t a i) = (bif Nat.beq a a' && decide (i = i') then v else lV t a i)
    rw [lU_in D0 a i h t]
    cases e : Nat.beq a a' with
    | true =>
      by_cases e2 : i = i'
      · rw [if_pos ⟨Nat.eq_of_beq_eq_true e, e2⟩, decide_eq_true e2]; rfl
      · rw [if_neg (fun x => e2 x.2), decide_eq_false e2]; rfl
    | false => rw [if_neg (fun x => Nat.ne_of_beq_eq_false e x.1)]; rfl
theorem lU_low (D0 : Dt) (a : Nat) (i : Int) (h : a < 50) : ∀ l : List (Nat × Option (Int × Int)), (l.all fun x => Nat.ble 50 x.1) = true → lU D0 l a i = D0 a i
  | [], _ => rfl
  | (a', none) :: t, hl => by
    rw [List.all_cons, Bool.and_eq_true] at hl
    have h2 : 50 ≤ a' := Nat.le_of_ble_eq_true hl.1
    show (if a = a' then 0 else lU D0 t a i) = D0 a i
    rw [if_neg (by omega)]
    exact lU_low D0 a i h t hl.2
  | (a', some (i', v)) :: t, hl => by
    rw [List.all_cons, Bool.and_eq_true] at hl
    have h2 : 50 ≤ a' := Nat.le_of_ble_eq_true hl.1
    show (if a = a' ∧ i = i' then v else lU D0 t a i) = D0 a i
    rw [if_neg (by omega)]
    exact lU_low D0 a i h t hl.2
/-- an update that is in the table of first numbers, or is undone by one behind it: the net list has each once -/
def dv (a : Nat) (i : Int) : Int := if i = -1 ∧ a ∈ rws then 64 else if a = 51 ∧ i = 2 ∨ a = 226 ∧ (i = 12 ∨ i = 59 ∨ i = 60) then -1 else 0
def ckU (x : Nat × Option (Int × Int)) : Bool := match x with
  | (_, none) => true
  | (a, some (i, v)) => decide (v = dv a i)
/-- at the places where something is put behind their making, the list tells it; else 0 -/
def keysU : List (Nat × Int) := rws.map (fun a => (a, -1)) ++ [(51, 2), (226, 12), (226, 59), (226, 60)]
theorem ck_u : lw2.2.2.1.all ckU = true := by decide +kernel
theorem ck_ul : (lw2.2.2.1.all fun x => Nat.ble 50 x.1) = true := by decide +kernel
theorem ck_k : (keysU.all fun x => decide (lV lw2.2.2.1 x.1 x.2 = dv x.1 x.2)) = true := by decide +kernel
theorem lV_z (a : Nat) (i : Int) (h : dv a i = 0) : ∀ l : List (Nat × Option (Int × Int)), l.all ckU = true → lV l a i = 0
  | [], _ => rfl
  | (a', none) :: t, hl => by
    rw [List.all_cons, Bool.and_eq_true] at hl
    show (bif Nat.beq a a' then 0 else lV t a i) = 0
    cases Nat.beq a a' with
    | true => rfl
    | false => exact lV_z a i h t hl.2
  | (a', some (i', v)) :: t, hl => by
    rw [List.all_cons, Bool.and_eq_true] at hl
    show (bif Nat.beq a a' && decide (i = i') then v else lV t a i) = 0
    cases e : Nat.beq a a' && decide (i = i') with
    | true =>
      rw [Bool.and_eq_true] at e
      have e1 := Nat.eq_of_beq_eq_true e.1
      have e2 := of_decide_eq_true e.2
      have hv : v = dv a' i' := of_decide_eq_true hl.1
      show v = 0
      rw [hv, ← e1, ← e2, h]
    | false => exact lV_z a i h t hl.2
theorem dv_key (a : Nat) (i : Int) (h : ¬ dv a i = 0) : (a, i) ∈ keysU := by
  unfold dv at h
  unfold keysU
  rw [List.mem_append, List.mem_map]
  split at h
  · next hh => exact Or.inl ⟨a, hh.2, by rw [hh.1]⟩
  · split at h
    · next hh =>
      right
      rcases hh with ⟨rfl, rfl⟩ | ⟨rfl, rfl | rfl | rfl⟩ <;> decide
    · exact absurd rfl h
theorem lV_dv (l : List (Nat × Option (Int × Int))) (h1 : l.all ckU = true) (h2 : (keysU.all fun x => decide (lV l x.1 x.2 = dv x.1 x.2)) = true) (a : Nat) (i : Int) : lV l a i = dv a i := by
  by_cases h : dv a i = 0
  · rw [lV_z a i h _ h1, h]
  · have h3 := List.all_eq_true.mp h2 (a, i) (dv_key a i h)
    exact of_decide_eq_true h3
theorem rws_50 {a : Nat} (h : a ∈ rws) : 50 ≤ a := by
  have : rws.all (fun a => Nat.ble 50 a) = true := by decide
  exact Nat.le_of_ble_eq_true (List.all_eq_true.mp this a h)
theorem lU_all (l : List (Nat × Option (Int × Int))) (h1 : l.all ckU = true) (h2 : (keysU.all fun x => decide (lV l x.1 x.2 = dv x.1 x.2)) = true) (h3 : (l.all fun x => Nat.ble 50 x.1) = true) (L : Nat) (xs : Nat → Int32) : lU (wi L xs).1 l = D00 L xs := by
  funext a i
  by_cases h : a < 50
  · rw [lU_low _ a i h _ h3]
    show (if a = 1 ∧ 0 ≤ i ∧ i < L then (xs i.toNat).toInt else 0) = D00 L xs a i
    unfold D00
    by_cases h1 : a = 1
    · rw [if_pos h1]
      by_cases h2 : 0 ≤ i ∧ i < L
      · rw [if_pos h2, if_pos ⟨h1, h2⟩]
      · rw [if_neg h2, if_neg (fun x => h2 x.2)]
    · rw [if_neg h1, if_neg (fun x => h1 x.1), if_neg (fun x => by have := rws_50 x.2; omega), if_neg (by omega)]
  · have h0 : (wi L xs).1 a i = 0 := by
      show (if a = 1 ∧ 0 ≤ i ∧ i < L then (xs i.toNat).toInt else 0) = 0
      rw [if_neg (by omega)]
    rw [lU_in _ a i h0, lV_dv l h1 h2]
    unfold D00 dv
    rw [if_neg (by omega : ¬ a = 1)]
theorem lw2_u (L : Nat) (xs : Nat → Int32) : lU (wi L xs).1 lw2.2.2.1 = D00 L xs := lU_all _ ck_u ck_k ck_ul L xs
