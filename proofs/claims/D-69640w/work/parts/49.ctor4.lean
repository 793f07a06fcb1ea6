/-! the constructors, run: what they make is the structure S0 -/
set_option maxRecDepth 100000
def lw0 : Lw := ([], [], [], 50, 0)
def lw1 : Lw := (lX 200 0 0 (ent 0 [vr 50]) [] (lmk lw0 1 0 19)).getD lw0
def lw2 : Lw := (lX 200 227 0 (ent 227 [vr 226]) [] (lmk lw1 16 0 64)).getD lw0
theorem getD_some {α : Type} {o : Option α} {x : α} (h : o.isSome = true) : o = some (o.getD x) := by
  cases o
  · cases h
  · rfl
theorem ctor1 : lX 200 0 0 (ent 0 [vr 50]) [] (lmk lw0 1 0 19) = some lw1 := getD_some (by decide +kernel)
theorem ctor2 : lX 200 227 0 (ent 227 [vr 226]) [] (lmk lw1 16 0 64) = some lw2 := getD_some (by decide +kernel)
theorem lw1_n : lw1.2.2.2 = (226, 275698) := by decide +kernel
theorem lw1_t : ltg lw1.2.1 50 = 1 := by decide +kernel
theorem lw2_n : lw2.2.2.2 = (355, 842906) := by decide +kernel
/-! references -/
theorem lR_filter (a f : Nat) : ∀ l : List (Nat × Option (Nat × Nat)), lR l a f = lR (l.filter fun x => Nat.beq a x.1) a f
  | [] => rfl
  | (a', none) :: t => by
    show (bif Nat.beq a a' then 0 else lR t a f) = lR (List.filter _ ((a', none) :: t)) a f
    rw [List.filter_cons]
    cases h : Nat.beq a a' with
    | true =>
      show 0 = (bif Nat.beq a a' then 0 else lR _ a f)
      rw [h]; rfl
    | false => exact lR_filter a f t
  | (a', some (f', v)) :: t => by
    show (bif Nat.beq a a' && Nat.beq f f' then v else lR t a f) = lR (List.filter _ ((a', some (f', v)) :: t)) a f
    rw [List.filter_cons]
    cases h : Nat.beq a a' with
    | true =>
      show (bif true && Nat.beq f f' then v else lR t a f) = (bif Nat.beq a a' && Nat.beq f f' then v else lR _ a f)
      rw [h, lR_filter a f t]
    | false => exact lR_filter a f t
def inR (x : Nat × Option (Nat × Nat)) : Bool := match x with
  | (a, none) => Nat.blt a 355
  | (a, some (f, _)) => Nat.blt a 355 && Nat.blt f 64
theorem lR_out (a f : Nat) (h : 355 ≤ a ∨ 64 ≤ f) : ∀ l : List (Nat × Option (Nat × Nat)), l.all inR = true → lR l a f = 0
  | [], _ => rfl
  | (a', none) :: t, hl => by
    rw [List.all_cons, Bool.and_eq_true] at hl
    show (bif Nat.beq a a' then 0 else lR t a f) = 0
    cases Nat.beq a a' with
    | true => rfl
    | false => exact lR_out a f h t hl.2
  | (a', some (f', v)) :: t, hl => by
    rw [List.all_cons, Bool.and_eq_true] at hl
    show (bif Nat.beq a a' && Nat.beq f f' then v else lR t a f) = 0
    have h1 : (Nat.blt a' 355 && Nat.blt f' 64) = true := hl.1
    rw [Bool.and_eq_true] at h1
    have h2 : a' + 1 ≤ 355 := Nat.le_of_ble_eq_true h1.1
    have h3 : f' + 1 ≤ 64 := Nat.le_of_ble_eq_true h1.2
    cases hb : Nat.beq a a' && Nat.beq f f' with
    | true =>
      rw [Bool.and_eq_true] at hb
      have := Nat.eq_of_beq_eq_true hb.1
      have := Nat.eq_of_beq_eq_true hb.2
      omega
    | false => exact lR_out a f h t hl.2
def rng (n : Nat) (p : Nat → Bool) : Bool := match n with
  | 0 => true
  | n + 1 => p n && rng n p
theorem rng_ok {n : Nat} {p : Nat → Bool} (h : rng n p = true) {k : Nat} (hk : k < n) : p k = true := by
  induction n with
  | zero => omega
  | succ n ih =>
    have h' : (p n && rng n p) = true := h
    rw [Bool.and_eq_true] at h'
    by_cases e : k = n
    · subst e; exact h'.1
    · exact ih h'.2 (by omega)
def ckR (l : List (Nat × Option (Nat × Nat))) (a : Nat) : Bool := rng 64 fun f => Nat.beq (lR l a f) (sr0 0 0 0 0 0 0 a f)
theorem ck_r : (rng 355 fun a => ckR (lw2.1.filter fun x => Nat.beq a x.1) a) = true := by decide +kernel
theorem ck_ra : lw2.1.all inR = true := by decide +kernel
theorem bz1 {b : Bool} {x y : Nat} (hx : x = 0) (hy : y = 0) : (bif b then x else y) = 0 := by
  cases b
  · exact hy
  · exact hx
theorem bz2 {b : Bool} {x y : Nat} (hx : b = false) (hy : y = 0) : (bif b then x else y) = 0 := by
  rw [hx]; exact hy
theorem beq_f {a k : Nat} (h : k < a) : Nat.beq a k = false := by
  cases e : Nat.beq a k with
  | true => have := Nat.eq_of_beq_eq_true e; omega
  | false => rfl
set_option maxHeartbeats 4000000 in
theorem sr_out (a f : Nat) (h : 64 ≤ f) : sr0 0 0 0 0 0 0 a f = 0 := by
  unfold sr0
  repeat' (first | rfl | (refine bz2 (beq_f (a := f) (Nat.lt_of_lt_of_le (by decide) h)) rfl) | apply bz1)
set_option maxHeartbeats 4000000 in
theorem sr_out2 (a f : Nat) (h : 355 ≤ a) : sr0 0 0 0 0 0 0 a f = 0 := by
  unfold sr0
  repeat' (first | rfl | (refine bz2 (beq_f (a := a) (Nat.lt_of_lt_of_le (by decide) h)) rfl) | apply bz1)
theorem lw2_r : lR lw2.1 = sr0 0 0 0 0 0 0 := by
  funext a f
  by_cases h : 355 ≤ a ∨ 64 ≤ f
  · rw [lR_out a f h _ ck_ra]
    rcases h with h | h
    · exact (sr_out2 a f h).symm
    · exact (sr_out a f h).symm
  · have ha : a < 355 := by omega
    have hf : f < 64 := by omega
    rw [lR_filter]
    exact Nat.eq_of_beq_eq_true (rng_ok (rng_ok ck_r ha) hf)
