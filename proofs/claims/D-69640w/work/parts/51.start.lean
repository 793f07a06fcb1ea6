/-! the law's first steps: both objects are made -/
set_option maxRecDepth 100000
theorem wpn_wp {n m pc : Nat} {ls st : List Vl} {w : Wd} {Q : Out → Wd → Prop} (h : wpn n m pc ls st w Q) : wp m pc ls st w Q := ⟨n, h⟩
theorem toW_eq (D0 : Dt) (T0 : Nat → Nat × Nat) (l : Lw) {D : Dt} {R : Nat → Nat → Nat} {T : Nat → Nat × Nat} {n : Nat × Nat} (h1 : lU D0 l.2.2.1 = D) (h2 : lR l.1 = R) (h3 : lT T0 l.2.1 = T) (h4 : l.2.2.2 = n) : toW D0 T0 l = (D, R, T, n) := by
  subst h1 h2 h3 h4
  rfl
theorem toW2 (L : Nat) (xs : Nat → Int32) : toW (wi L xs).1 (T00 L) lw2 = (D00 L xs, sr0 0 0 0 0 0 0, st0 L, 355, 842906) := toW_eq _ _ lw2 (lw2_u L xs) lw2_r (lw2_t L) lw2_n
/-- from the second object's making on -/
theorem law_b (D : Dt) (R : Nat → Nat → Nat) (T : Nat → Nat × Nat) (Q : Out → Wd → Prop) (h1 : (T 1).1 = 51) (h5 : (T 50).1 = 1) (H : wp 227 0 (ent 227 [vr 226]) [] (mkc (D, R, T, 226, 275698) 16 0 64) (aft wp 399 12 [vr 1, vr 50, vu, vu] [vr 226] Q)) : wp 399 7 [vr 1, vu, vu, vu] [vr 50] (D, R, T, 226, 275698) Q := by
  refine vc_wp [] 4 _ _ _ _ _ _ ?_
  show gd _ (gd _ (wp 227 0 (ent 227 [vr 226]) [] (mkc (D, R, T, 226, 275698) 16 0 64) (aft wp 399 12 [vr 1, vr 50, vu, vu] [vr 226] Q)))
  refine gd_i rfl (gd_i ?_ H)
  have e1 : stb (mkc (D, R, T, 226, 275698) 16 0 64) 227 (vr 1) = true := by
    show (!(Nat.beq (T 1).1 55) && true) = true
    rw [h1]; rfl
  have e5 : stb (mkc (D, R, T, 226, 275698) 16 0 64) 227 (vr 50) = true := by
    show (!(Nat.beq (T 50).1 55) && true) = true
    rw [h5]; rfl
  show ((stb (mkc (D, R, T, 226, 275698) 16 0 64) 227 (vr 1) && (stb (mkc (D, R, T, 226, 275698) 16 0 64) 227 (vr 50) && true)) && true) = true
  rw [e1, e5]
  rfl
theorem ck1_a : (lw1.2.1.all fun x => Nat.ble 50 x.1 && Nat.blt x.1 355) = true := by decide +kernel
theorem mk_eq (D0 : Dt) (T0 : Nat → Nat × Nat) (l : Lw) {n u t k s : Nat} (h : l.2.2.2 = (n, u)) : mkc (lU D0 l.2.2.1, lR l.1, lT T0 l.2.1, n, u) t k s = toW D0 T0 (lmk l t k s) := by
  obtain ⟨l1, l2, l3, l4, l5⟩ := l
  have h4 : l4 = n := congrArg Prod.fst h
  have h5 : l5 = u := congrArg Prod.snd h
  subst h4 h5
  rfl
theorem law_gen (L : Nat) (xs : Nat → Int32) (Q : Out → Wd → Prop) (l1 l2 : Lw) (c1 : lX 200 0 0 (ent 0 [vr 50]) [] (lmk lw0 1 0 19) = some l1) (c2 : lX 200 227 0 (ent 227 [vr 226]) [] (lmk l1 16 0 64) = some l2) (n1 : l1.2.2.2 = (226, 275698)) (a1 : (l1.2.1.all fun x => Nat.ble 50 x.1 && Nat.blt x.1 355) = true) (t1 : ltg l1.2.1 50 = 1) {w2 : Wd} (e2 : toW (wi L xs).1 (T00 L) l2 = w2) (H : wp 399 15 [vr 1, vr 50, vu, vu] [vr 226] w2 Q) : wp 399 0 [vr 1, vu, vu, vu] [] (wi L xs) Q := by
  refine vc_wp [] 3 _ _ _ _ _ _ ?_
  show wp 0 0 (ent 0 [vr 50]) [] (toW (wi L xs).1 (T00 L) (lmk lw0 1 0 19)) (aft wp 399 4 [vr 1, vu, vu, vu] [vr 50] Q)
  refine wpn_wp (ex_ok 200 0 0 _ _ _ _ _ (lX_ok _ _ _ _ _ _ _ _ _ c1) ?_)
  show wp 399 7 [vr 1, vu, vu, vu] [vr 50] (toW (wi L xs).1 (T00 L) l1) Q
  rw [toW_eq (wi L xs).1 (T00 L) l1 rfl rfl rfl n1]
  have h1 : (lT (T00 L) l1.2.1 1).1 = 51 := by
    rw [lT_low (T00 L) 1 (by decide) l1.2.1 a1]
    rfl
  have h5 : (lT (T00 L) l1.2.1 50).1 = 1 := by
    have h := ltg_ok (wi L xs).1 (T00 L) l1 50 (by rw [t1]; rfl)
    rw [t1] at h
    exact h
  refine law_b _ _ _ _ h1 h5 ?_
  rw [mk_eq (wi L xs).1 (T00 L) l1 n1]
  refine wpn_wp (ex_ok 200 227 0 _ _ _ _ _ (lX_ok _ _ _ _ _ _ _ _ _ c2) ?_)
  rw [e2]
  exact H
/-- the first numbers and the whole structure: the law's loop begins -/
theorem law_start (L : Nat) (xs : Nat → Int32) (Q : Out → Wd → Prop) (H : wp 399 18 [vr 1, vr 50, vr 226, vi 0] [] (D00 L xs, S0 L 0 0 0 0 0 0) Q) : wp 399 0 [vr 1, vu, vu, vu] [] (wi L xs) Q :=
  law_gen L xs Q lw1 lw2 ctor1 ctor2 lw1_n ck1_a lw1_t (toW2 L xs) (vc_wp [18] 4 _ _ _ _ _ _ H)
