/-! a few instructions as one step: a row grows -/
set_option maxRecDepth 100000
theorem lsum_at {l : List Nat} {f g : Nat → Nat} {b k : Nat} (hn : l.Nodup) (hb : b ∈ l) (h1 : ∀ x, x ≠ b → f x = g x) (h2 : f b = g b + k) : (l.map f).sum = (l.map g).sum + k := by
  induction l with
  | nil => cases hb
  | cons x t ih =>
    rw [List.nodup_cons] at hn
    simp only [List.map_cons, List.sum_cons]
    rcases List.mem_cons.mp hb with rfl | hb
    · have : t.map f = t.map g := List.map_congr_left fun y hy => h1 y fun z => hn.1 (z ▸ hy)
      rw [this, h2]
      omega
    · have := ih hn.2 hb
      have hx : x ≠ b := fun z => hn.1 (z ▸ hb)
      rw [h1 x hx]
      omega
section Grow
variable {p : Program} {l : Launch} {e : Env} {R : Room} {s : State} {mid : MethodId} {args : Array Value} {below : List Frame} {meth : Method} {c : Code} {dC : Nat → ClassId} {dI : Nat → Nat → Nat} {tc : Nat → ClassId} {A : Nat → Prop} {w0 : Wd} {θ0 : Nat → Nat} {θ : Nat → Nat} {fe : Nat → List Value} {w : Wd} {H : Heap} {locs : List Loc} {cells slots : Nat} {ls st : List Vl} {lsJ : Array Slot} {m pc len n : Nat} {Qm : Out → Wd → Prop}
theorem grw_ne {D : Dt} {b x : Nat} {k : Int} (h : x ≠ b) : grw D b k x = D x := by
  funext i
  simp [grw, h]
theorem grw_at {D : Dt} {b : Nat} {k i : Int} : grw D b k b i = if i = -1 then k else if i < D b (-1) then D b i else 0 := by
  simp [grw]
theorem fr_grow {a b q nn : Nat} {H1 : Heap} {locs1 : List Loc} (hF : Fr dC dI tc A s R w0 θ fe w H locs cells slots) (ha : tg w a = 4 ∨ tg w a = 9) (hb : gr w a 0 = b) (h55 : tg w b = 55) (h1 : 1 ≤ nn) (h2 : nn ≤ 4096) (hnn : w.1 a 1 = nn) (hlen : w.1 b (-1) = nn) (hun : ∀ a' f', w.2.1 a' f' = b → a' = a ∧ f' = 0)
    (hP : va_P (dC, dI) cls ((wsf θ fe tc w ++ ([(q, .inl (tc 50, 2 * nn, .inl fun k => if k < nn then Int32.ofInt (w.1 b k) else 0))] : va_W)).set (a - 50) (θ a, .inr (tg w a - 1, ((List.range (nf (tg w a))).map fun k => fvl θ (w.1 a) (w.2.1 a) k (knd (tg w a) k)).set 0 (.ref q)))) H1)
    (hD : va_D A ((wsf θ fe tc w ++ ([(q, .inl (tc 50, 2 * nn, .inl fun k => if k < nn then Int32.ofInt (w.1 b k) else 0))] : va_W)).set (a - 50) (θ a, .inr (tg w a - 1, ((List.range (nf (tg w a))).map fun k => fvl θ (w.1 a) (w.2.1 a) k (knd (tg w a) k)).set 0 (.ref q))))) (hS : va_S A s.heap H1 locs1) :
    Fr dC dI tc A s R w0 (ext θ b q) fe (grw w.1 b (2 * w.1 a 1), w.2) H1 locs1 (cells + 1) (slots + 2 * nn) := by
  obtain ⟨hK, -, -, -, hW, ⟨b1, b2, b3, b4⟩, hR, hSt, L0, xs, g1, g2, g3, g4, g5, g6, g7, g8⟩ := hF
  obtain ⟨a50, anx⟩ := (hW.2.1 a).mp (by rcases ha with z | z <;> rw [z] <;> rfl)
  obtain ⟨b50, bnx⟩ := (hW.2.1 b).mp (by rw [h55]; rfl)
  have hab : a ≠ b := fun z => by rw [z, h55] at ha; omega
  have hwl : (wsf θ fe tc w).length = nx w - 50 := by unfold wsf; rw [List.length_map, List.length_range]
  rw [hnn]
  have hb4 := hW.2.2.2.1 b
  have hDb : ∀ i : Int, grw w.1 b (2 * (nn : Int)) b i = if i = -1 then 2 * (nn : Int) else if i < (nn : Int) then w.1 b i else 0 := fun i => by rw [grw_at, hlen]
  have hfv : ∀ (x k kd : Nat) (d : Int → Int), w.2.1 x k ≠ b → fvl (ext θ b q) d (w.2.1 x) k kd = fvl θ d (w.2.1 x) k kd := fun x k kd d hk => by
    unfold fvl
    split
    · rfl
    · rw [ext_ne hk]
    · rfl
  have hat : ∀ x, 50 ≤ x → x < nx w → ((wsf θ fe tc w ++ ([(q, .inl (tc 50, 2 * nn, .inl fun k => if k < nn then Int32.ofInt (w.1 b k) else 0))] : va_W)).set (a - 50) (θ a, .inr (tg w a - 1, ((List.range (nf (tg w a))).map fun k => fvl θ (w.1 a) (w.2.1 a) k (knd (tg w a) k)).set 0 (.ref q))))[if x = b then nx w - 50 else x - 50]? = some (ext θ b q x, ety (ext θ b q) fe tc x (grw w.1 b (2 * (nn : Int)) x) (w.2.1 x) (w.2.2.1 x)) := fun x h5 hn => by
    by_cases hxb : x = b
    · subst hxb
      rw [if_pos rfl, List.getElem?_set_ne (by omega), ← hwl, List.getElem?_append_right (Nat.le_refl _), Nat.sub_self]
      show some _ = _
      rw [ext_at]
      congr 2
      unfold ety
      have h55 : (w.2.2.1 x).1 = 55 := h55
      rw [h55]
      show (.inl (tc 50, 2 * nn, .inl fun k => if k < nn then Int32.ofInt (w.1 x k) else 0) : va_E) = .inl (tc 50, (grw w.1 x (2 * (nn : Int)) x (-1)).toNat, .inl fun j : Nat => Int32.ofInt (grw w.1 x (2 * (nn : Int)) x j))
      have e1 : (grw w.1 x (2 * (nn : Int)) x (-1)).toNat = 2 * nn := by rw [hDb, if_pos rfl]; omega
      rw [e1]
      congr 4
      funext k
      rw [hDb, if_neg (show ¬ ((k : Int) = -1) by omega)]
      by_cases hk : k < nn
      · rw [if_pos hk, if_pos (show (k : Int) < (nn : Int) by omega)]
      · rw [if_neg hk, if_neg (show ¬ ((k : Int) < (nn : Int)) by omega)]
        rfl
    · rw [if_neg hxb]
      by_cases hxa : x = a
      · subst hxa
        rw [List.getElem?_set_self (by rw [List.length_append, hwl]; simp only [List.length_cons, List.length_nil]; omega), ext_ne hxb, grw_ne hxb]
        congr 2
        have hr0 : w.2.1 x 0 = b := hb
        have hr1 : w.2.1 x 1 ≠ b := fun z => absurd (hun x 1 z).2 (by decide)
        have hbz : Nat.beq b 0 = false := nbeq (by omega)
        unfold ety
        rcases ha with ht | ht
        · have ht' : (w.2.2.1 x).1 = 4 := ht
          rw [ht, ht']
          show (.inr (3, [.ref q, fvl θ (w.1 x) (w.2.1 x) 1 0]) : va_E) = .inr (3, [fvl (ext θ b q) (w.1 x) (w.2.1 x) 0 2, fvl (ext θ b q) (w.1 x) (w.2.1 x) 1 0])
          rw [hfv x 1 0 _ hr1]
          have : fvl (ext θ b q) (w.1 x) (w.2.1 x) 0 2 = .ref q := by
            show (bif Nat.beq (w.2.1 x 0) 0 then Value.null else .ref (ext θ b q (w.2.1 x 0))) = _
            rw [hr0, hbz, ext_at]
            rfl
          rw [this]
        · have ht' : (w.2.2.1 x).1 = 9 := ht
          rw [ht, ht']
          show (.inr (8, [.ref q, fvl θ (w.1 x) (w.2.1 x) 1 0]) : va_E) = .inr (8, [fvl (ext θ b q) (w.1 x) (w.2.1 x) 0 2, fvl (ext θ b q) (w.1 x) (w.2.1 x) 1 0])
          rw [hfv x 1 0 _ hr1]
          have : fvl (ext θ b q) (w.1 x) (w.2.1 x) 0 2 = .ref q := by
            show (bif Nat.beq (w.2.1 x 0) 0 then Value.null else .ref (ext θ b q (w.2.1 x 0))) = _
            rw [hr0, hbz, ext_at]
            rfl
          rw [this]
      · rw [List.getElem?_set_ne (by omega), List.getElem?_append_left (by rw [hwl]; omega), wsf_at h5 hn, ext_ne hxb, grw_ne hxb]
        congr 2
        have hf : ∀ k kd, fvl (ext θ b q) (w.1 x) (w.2.1 x) k kd = fvl θ (w.1 x) (w.2.1 x) k kd := fun k kd => hfv x k kd _ fun z => hxa (hun x k z).1
        unfold ety
        simp only [hf]
  have hrs : rsum (grw w.1 b (2 * (nn : Int))) = rsum w.1 + nn := by
    unfold rsum
    refine lsum_at (by decide) (hb4.2.2.2 h55) (fun x hx => by rw [grw_ne hx]) ?_
    rw [hDb, if_pos rfl, hlen]
    omega
  have hinj : ∀ x y, 50 ≤ x → x < nx w → 50 ≤ y → y < nx w → (if x = b then nx w - 50 else x - 50) = (if y = b then nx w - 50 else y - 50) → x = y := fun x y hx hx' hy hy' h => by
    by_cases e1 : x = b <;> by_cases e2 : y = b
    · omega
    · rw [if_pos e1, if_neg e2] at h; omega
    · rw [if_neg e1, if_pos e2] at h; omega
    · rw [if_neg e1, if_neg e2] at h; omega
  refine ⟨hK, fun k x hq => ?_, ⟨fun i j x x' hi hj he => ?_, fun k x hq => ?_⟩, hS, ⟨hW.1, hW.2.1, hW.2.2.1, fun x => ?_, fun x i => ?_, hW.2.2.2.2.2⟩, ⟨?_, ?_, b3, b4⟩, hR, fun i h2 h38 => ?_, L0, xs, ?_, ?_, ?_, g4, g5, g6, g7, fun j hj => ?_⟩
  · obtain ⟨h5, hn, rfl⟩ := wsf_inv hq
    exact hP _ _ (hat _ h5 hn)
  · obtain ⟨h5, hn, rfl⟩ := wsf_inv hi
    obtain ⟨h5', hn', rfl⟩ := wsf_inv hj
    have := hinj _ _ h5 hn h5' hn' (hD.1 _ _ _ _ (hat _ h5 hn) (hat _ h5' hn') he)
    omega
  · obtain ⟨h5, hn, rfl⟩ := wsf_inv hq
    exact hD.2 _ _ (hat _ h5 hn)
  · show 0 ≤ grw w.1 b (2 * (nn : Int)) x (-1) ∧ grw w.1 b (2 * (nn : Int)) x (-1) ≤ 8192 ∧ (nx w ≤ x → grw w.1 b (2 * (nn : Int)) x (-1) = 0) ∧ _
    by_cases hx : x = b
    · subst hx
      rw [hDb, if_pos rfl]
      exact ⟨by omega, by omega, fun z => by omega, hb4.2.2.2⟩
    · rw [grw_ne hx]
      exact hW.2.2.2.1 x
  · show r64 (grw w.1 b (2 * (nn : Int)) x i) ∧ (lng (tg w x) i = false → r32 (grw w.1 b (2 * (nn : Int)) x i)) ∧ (tg w x = 52 → -128 ≤ grw w.1 b (2 * (nn : Int)) x i ∧ grw w.1 b (2 * (nn : Int)) x i ≤ 127) ∧ (tg w x = 53 → 0 ≤ grw w.1 b (2 * (nn : Int)) x i ∧ grw w.1 b (2 * (nn : Int)) x i ≤ 1)
    by_cases hx : x = b
    · subst hx
      have h5 := hW.2.2.2.2.1 x i
      have h32 := h5.2.1 (by rw [h55]; rfl)
      have key : r32 (grw w.1 x (2 * (nn : Int)) x i) := by
        rw [hDb]
        split
        · unfold r32; omega
        · split
          · exact h32
          · unfold r32; omega
      exact ⟨r64_32 key, fun _ => key, fun z => by omega, fun z => by omega⟩
    · rw [grw_ne hx]
      exact hW.2.2.2.2.1 x i
  · have : Cw (grw w.1 b (2 * (nn : Int)), w.2) = Cw w + nn := by
      unfold Cw
      show nx w + rsum (grw w.1 b (2 * (nn : Int))) = _
      rw [hrs]
      omega
    omega
  · have : Sw (grw w.1 b (2 * (nn : Int)), w.2) = Sw w + 2 * nn := by
      unfold Sw
      show us w + 2 * rsum (grw w.1 b (2 * (nn : Int))) = _
      rw [hrs]
      omega
    omega
  · rw [ext_ne (show i ≠ b by omega)]
    exact hSt i h2 h38
  · rw [ext_ne (show 1 ≠ b by omega)]; exact g1
  · rw [ext_ne (show 1 ≠ b by omega)]; exact g2
  · rw [ext_ne (show 1 ≠ b by omega)]; exact g3
  · show grw w.1 b (2 * (nn : Int)) 1 j = _
    rw [grw_ne (show 1 ≠ b by omega)]
    exact g8 j hj
end Grow
