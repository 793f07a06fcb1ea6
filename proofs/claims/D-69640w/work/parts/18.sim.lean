/-! one instruction of the machine is one of the model's -/
section Sim
variable {p : Program} {l : Launch} {e : Env} {R : Room} {s : State} {mid : MethodId} {args : Array Value} {below : List Frame} {meth : Method} {c : Code} {Q : State → Prop} {dC : Nat → ClassId} {dI : Nat → Nat → Nat} {tc : Nat → ClassId} {A : Nat → Prop} {w0 : Wd}
variable {θ : Nat → Nat} {fe : Nat → List Value} {w : Wd} {H : Heap} {locs : List Loc} {cells slots : Nat} {ls st : List Vl} {lsJ : Array Slot} {nL m pc len own ini : Nat} {k : Nat → List Vl → List Vl → Wd → Prop}
/-- the goal of a step: whatever comes behind it -/
def Go (p : Program) (l : Launch) (e : Env) (R : Room) (s : State) (mid : MethodId) (args : Array Value) (below : List Frame) (meth : Method) (c : Code) (Q : State → Prop) (dC : Nat → ClassId) (dI : Nat → Nat → Nat) (tc : Nat → ClassId) (A : Nat → Prop) (w0 : Wd) (nL : Nat) (θ : Nat → Nat) (n : Nat) (k : Nat → List Vl → List Vl → Wd → Prop) : Prop :=
  ∀ (pc' : Nat) (ls' st' : List Vl) (w' : Wd) (θ' : Nat → Nat) (fe' : Nat → List Value) (H' : Heap) (locs' : List Loc) (cells' slots' : Nat) (lsJ' : Array Slot), k pc' ls' st' w' → Fr dC dI tc A s R w0 θ' fe' w' H' locs' cells' slots' → Ls θ' (nx w') ls' lsJ' nL → (∀ v ∈ st', okv (nx w') v) → (∀ a, a < n → θ' a = θ a) → n ≤ nx w' → W p l e R s mid args below meth c H' locs' cells' slots' Q (F0 mid pc' lsJ' (st'.map (vlv θ')))
theorem go1 (G : Go p l e R s mid args below meth c Q dC dI tc A w0 nL θ (nx w) k) (hF : Fr dC dI tc A s R w0 θ fe w H locs cells slots) (hl : Ls θ (nx w) ls lsJ nL) {pc' : Nat} {st' : List Vl} (hk : k pc' ls st' w) (hs : ∀ v ∈ st', okv (nx w) v) : W p l e R s mid args below meth c H locs cells slots Q (F0 mid pc' lsJ (st'.map (vlv θ))) := G _ _ _ _ _ _ _ _ _ _ _ hk hF hl hs (fun _ _ => rfl) (Nat.le_refl _)
theorem ok_c {n : Nat} {v : Vl} {st : List Vl} (h : okv n v) (hs : ∀ v ∈ st, okv n v) : ∀ x ∈ v :: st, okv n x := fun x hx => by
  rcases List.mem_cons.mp hx with rfl | hx
  · exact h
  · exact hs x hx
theorem ok_t {n : Nat} {v : Vl} {st : List Vl} (hs : ∀ x ∈ v :: st, okv n x) : ∀ x ∈ st, okv n x := fun x hx => hs x (List.mem_cons_of_mem _ hx)
theorem ok_h {n : Nat} {v : Vl} {st : List Vl} (hs : ∀ x ∈ v :: st, okv n x) : okv n v := hs v List.mem_cons_self
theorem o1_e {st : List Vl} {k : Int → List Vl → Prop} (h : o1 st k) : ∃ x st', st = .inl x :: st' ∧ k x st' := by
  unfold o1 at h
  split at h
  · exact ⟨_, _, rfl, h⟩
  · exact h.elim
theorem oL_e {st : List Vl} {k : Int → List Vl → Prop} (h : oL st k) : ∃ x st', st = .inr (.inl x) :: st' ∧ k x st' := by
  unfold oL at h
  split at h
  · exact ⟨_, _, rfl, h⟩
  · exact h.elim
theorem oA_e {st : List Vl} {k : Nat → List Vl → Prop} (h : oA st k) : ∃ x st', st = .inr (.inr (.inl x)) :: st' ∧ k x st' := by
  unfold oA at h
  split at h
  · exact ⟨_, _, rfl, h⟩
  · exact h.elim
theorem o2_e {st : List Vl} {k : Int → Int → List Vl → Prop} (h : o2 st k) : ∃ x y st', st = .inl y :: .inl x :: st' ∧ k x y st' := by
  unfold o2 at h
  obtain ⟨y, st1, e1, h1⟩ := o1_e h
  obtain ⟨x, st2, e2, h2⟩ := o1_e h1
  exact ⟨x, y, st2, by rw [e1, e2], h2⟩
theorem oLL_e {st : List Vl} {k : Int → Int → List Vl → Prop} (h : oLL st k) : ∃ x y st', st = .inr (.inl y) :: .inr (.inl x) :: st' ∧ k x y st' := by
  unfold oLL at h
  obtain ⟨y, st1, e1, h1⟩ := oL_e h
  obtain ⟨x, st2, e2, h2⟩ := oL_e h1
  exact ⟨x, y, st2, by rw [e1, e2], h2⟩
theorem gd_e {b : Bool} {P : Prop} (h : gd b P) : b = true ∧ P := by
  cases b
  · exact h.elim
  · exact ⟨rfl, h⟩
theorem ldI_e {ls : List Vl} {j : Nat} {k : Int → Prop} (h : ldI ls j k) : ∃ x, ls[j]? = some (.inl x) ∧ k x := by
  unfold ldI at h
  split at h
  · next e => exact ⟨_, e, h⟩
  · exact h.elim
theorem ldA_e {ls : List Vl} {j : Nat} {k : Nat → Prop} (h : ldA ls j k) : ∃ x, ls[j]? = some (.inr (.inr (.inl x))) ∧ k x := by
  unfold ldA at h
  split at h
  · next e => exact ⟨_, e, h⟩
  · exact h.elim
theorem ldL_e {ls : List Vl} {j : Nat} {k : Int → Prop} (h : ldL ls j k) : ∃ x, ls[j]? = some (.inr (.inl x)) ∧ ls[j + 1]? = some vu ∧ k x := by
  unfold ldL at h
  split at h
  · next e =>
    split at h
    · next e2 => exact ⟨_, e, e2, h⟩
    · exact h.elim
  · exact h.elim
theorem lenK {n K : Nat} (h : Nat.beq n K = true) : n = K := Nat.eq_of_beq_eq_true h
theorem jmp_e {pc : Nat} {off : Int} (h : decide (0 ≤ (pc : Int) + off) = true) : (pc : Int) + off = (jmp pc off : Int) := by
  have := of_decide_eq_true h
  unfold jmp
  omega
theorem q_own {own j : Nat} (h : Nat.ble j 999 = true) : (own * 1000 + j) / 1000 = own ∧ (own * 1000 + j) % 1000 = j := by
  have := Nat.le_of_ble_eq_true h
  omega
theorem ls_lt {j : Nat} {v : Vl} (hl : Ls θ (nx w) ls lsJ nL) (h : ls[j]? = some v) : j < nL := by
  have := (List.getElem?_eq_some_iff.mp h).1
  rw [hl.1] at this
  exact this
/-- a place of a cell of a class -/
theorem cell_c {a lo hi : Nat} (hF : Fr dC dI tc A s R w0 θ fe w H locs cells slots) (h1 : 1 ≤ lo) (h2 : hi ≤ 17) (hg : (Nat.ble lo (tg w a) && Nat.ble (tg w a) hi) = true) : 50 ≤ a ∧ a < nx w ∧ lo ≤ tg w a ∧ tg w a ≤ hi ∧ (wsf θ fe tc w)[a - 50]? = some (θ a, .inr (tg w a - 1, (List.range (nf (tg w a))).map fun k => fvl θ (w.1 a) (w.2.1 a) k (knd (tg w a) k))) := by
  rw [Bool.and_eq_true] at hg
  have g1 := Nat.le_of_ble_eq_true hg.1
  have g2 := Nat.le_of_ble_eq_true hg.2
  obtain ⟨-, -, -, -, hW, -⟩ := hF
  have ht : tcell (tg w a) = true := by
    unfold tcell
    rw [show Nat.ble 1 (tg w a) = true from Nat.ble_eq_true_of_le (by omega), show Nat.ble (tg w a) 18 = true from Nat.ble_eq_true_of_le (by omega)]
    rfl
  obtain ⟨h50, hn⟩ := (hW.2.1 a).mp ht
  refine ⟨h50, hn, g1, g2, ?_⟩
  rw [wsf_at h50 hn]
  unfold ety
  rw [nbeq (show tg w a ≠ 18 by omega), show Nat.ble (tg w a) 17 = true from Nat.ble_eq_true_of_le (by omega)]
  rfl
theorem tag_beq {t K : Nat} (h : t = K) : Nat.beq t K = true := by rw [h]; exact Nat.beq_refl K
/-- an array of ints or bytes or booleans -/
theorem cell_a {a t : Nat} (hF : Fr dC dI tc A s R w0 θ fe w H locs cells slots) (ht : tg w a = t) (hk : t = 50 ∨ t = 52 ∨ t = 53) : 50 ≤ a ∧ a < nx w ∧ (wsf θ fe tc w)[a - 50]? = some (θ a, .inl (tc t, ln w a, .inl fun j => Int32.ofInt (w.1 a j))) := by
  obtain ⟨-, -, -, -, hW, -⟩ := hF
  have hc : tcell (tg w a) = true := by rw [ht]; rcases hk with rfl | rfl | rfl <;> rfl
  obtain ⟨h50, hn⟩ := (hW.2.1 a).mp hc
  refine ⟨h50, hn, ?_⟩
  rw [wsf_at h50 hn]
  unfold ety
  have ht : (w.2.2.1 a).1 = t := ht
  rw [ht]
  rcases hk with rfl | rfl | rfl <;> rfl
theorem cell_l {a : Nat} (hF : Fr dC dI tc A s R w0 θ fe w H locs cells slots) (ht : tg w a = 54) : 50 ≤ a ∧ a < nx w ∧ (wsf θ fe tc w)[a - 50]? = some (θ a, .inl (tc 54, ln w a, .inr (.inl fun j => Int64.ofInt (w.1 a j)))) := by
  obtain ⟨-, -, -, -, hW, -⟩ := hF
  have hc : tcell (tg w a) = true := by rw [ht]; rfl
  obtain ⟨h50, hn⟩ := (hW.2.1 a).mp hc
  refine ⟨h50, hn, ?_⟩
  rw [wsf_at h50 hn]
  unfold ety
  have ht : (w.2.2.1 a).1 = 54 := ht
  rw [ht]
  rfl
theorem cell_r {a : Nat} (hF : Fr dC dI tc A s R w0 θ fe w H locs cells slots) (ht : tg w a = 55) : 50 ≤ a ∧ a < nx w ∧ (wsf θ fe tc w)[a - 50]? = some (θ a, .inl (tc 50, (w.1 a (-1)).toNat, .inl fun j => Int32.ofInt (w.1 a j))) := by
  obtain ⟨-, -, -, -, hW, -⟩ := hF
  have hc : tcell (tg w a) = true := by rw [ht]; rfl
  obtain ⟨h50, hn⟩ := (hW.2.1 a).mp hc
  refine ⟨h50, hn, ?_⟩
  rw [wsf_at h50 hn]
  unfold ety
  have ht : (w.2.2.1 a).1 = 55 := ht
  rw [ht]
  rfl
/-- a number is put: the frame behind it -/
theorem fr_up {a : Nat} {i v : Int} {H1 : Heap} {locs1 : List Loc} {x : va_E} (hF : Fr dC dI tc A s R w0 θ fe w H locs cells slots) (h50 : 50 ≤ a) (hn : a < nx w) (hi : 0 ≤ i) (h64 : r64 v) (h32 : lng (tg w a) i = false → r32 v) (h52 : tg w a = 52 → -128 ≤ v ∧ v ≤ 127) (h53 : tg w a = 53 → 0 ≤ v ∧ v ≤ 1) (hx : x = ety θ fe tc a (up w.1 a i v a) (w.2.1 a) (w.2.2.1 a))
    (hP : va_P (dC, dI) cls ((wsf θ fe tc w).set (a - 50) (θ a, x)) H1) (hD : va_D A ((wsf θ fe tc w).set (a - 50) (θ a, x))) (hS : va_S A s.heap H1 locs1) : Fr dC dI tc A s R w0 θ fe (up w.1 a i v, w.2) H1 locs1 cells slots := by
  obtain ⟨hK, -, -, -, hW, hb, hR, hSt, hSc⟩ := hF
  have e : (wsf θ fe tc w).set (a - 50) (θ a, x) = wsf θ fe tc (up w.1 a i v, w.2) := wsf_set h50 hn rfl hx fun b hb => ⟨up_ne hb, rfl, rfl⟩
  rw [e] at hP hD
  have hr : rsum (up w.1 a i v) = rsum w.1 := rsum_up hi
  refine ⟨hK, hP, hD, hS, hW.u_ hi h64 h32 h52 h53, ?_, hR, hSt, ?_⟩
  · unfold Cw Sw at hb ⊢
    show cells + (nx w0 + rsum w0.1) ≤ nx w + rsum (up w.1 a i v) ∧ slots + (us w0 + 2 * rsum w0.1) ≤ us w + 2 * rsum (up w.1 a i v) ∧ Tp w0 w
    rw [hr]
    exact hb
  · obtain ⟨L, xs, g1, g2, g3, g4, g5, g6, g7, g8⟩ := hSc
    refine ⟨L, xs, g1, g2, g3, g4, g5, g6, g7, fun j hj => ?_⟩
    show up w.1 a i v 1 j = _
    rw [up_ne (show (1 : Nat) ≠ a by omega)]
    exact g8 j hj
theorem fr_urf {a f v : Nat} {H1 : Heap} {locs1 : List Loc} {x : va_E} (hF : Fr dC dI tc A s R w0 θ fe w H locs cells slots) (h50 : 50 ≤ a) (hn : a < nx w) (hv : v < nx w) (hx : x = ety θ fe tc a (w.1 a) (urf w.2.1 a f v a) (w.2.2.1 a))
    (hP : va_P (dC, dI) cls ((wsf θ fe tc w).set (a - 50) (θ a, x)) H1) (hD : va_D A ((wsf θ fe tc w).set (a - 50) (θ a, x))) (hS : va_S A s.heap H1 locs1) : Fr dC dI tc A s R w0 θ fe (w.1, urf w.2.1 a f v, w.2.2) H1 locs1 cells slots := by
  obtain ⟨hK, -, -, -, hW, hb, hR, hSt, hSc⟩ := hF
  have e : (wsf θ fe tc w).set (a - 50) (θ a, x) = wsf θ fe tc (w.1, urf w.2.1 a f v, w.2.2) := wsf_set h50 hn rfl hx fun b hb => ⟨rfl, urf_ne hb, rfl⟩
  rw [e] at hP hD
  exact ⟨hK, hP, hD, hS, hW.r_ hv, hb, hR, hSt, hSc⟩
theorem bv_len {n : Nat} (h : n ≤ 100000) : Int32.ofNat n = Int32.ofInt (n : Int) := by
  apply Int32.toInt_inj.mp
  rw [nb_id (by unfold r32; omega)]
  exact nI_toInt (by omega)
theorem upd_eq {d : Int → Int} {D : Dt} {a : Nat} {i x : Int} (hi : r32 i) (h0 : 0 ≤ i) (hd : d = D a) : upd (fun j : Nat => Int32.ofInt (d j)) (Int32.ofInt i).toNatClampNeg (Int32.ofInt x) = fun j : Nat => Int32.ofInt (up D a i x a j) := by
  funext j
  rw [nb_clamp hi, up_at, hd]
  unfold upd
  by_cases e : j = i.toNat
  · rw [if_pos e, if_pos (by omega)]
  · rw [if_neg e, if_neg (by omega)]
theorem updL_eq {d : Int → Int} {D : Dt} {a : Nat} {i x : Int} (hi : r32 i) (h0 : 0 ≤ i) (hd : d = D a) : vp_updL (fun j : Nat => Int64.ofInt (d j)) (Int32.ofInt i).toNatClampNeg (Int64.ofInt x) = fun j : Nat => Int64.ofInt (up D a i x a j) := by
  funext j
  rw [nb_clamp hi, up_at, hd]
  unfold vp_updL
  by_cases e : j = i.toNat
  · rw [if_pos e, if_pos (by omega)]
  · rw [if_neg e, if_neg (by omega)]
theorem arr_f {θ : Nat → Nat} {d : Int → Int} {i : Int} (hi : r32 i) (h0 : 0 ≤ i) : (fun j : Nat => Int32.ofInt (d j)) (Int32.ofInt i).toNatClampNeg = Int32.ofInt (d i) := by
  show Int32.ofInt (d ((Int32.ofInt i).toNatClampNeg : Int)) = _
  rw [nb_clamp hi, Int.toNat_of_nonneg h0]
theorem arr_g {d : Int → Int} {i : Int} (hi : r32 i) (h0 : 0 ≤ i) : (fun j : Nat => Int64.ofInt (d j)) (Int32.ofInt i).toNatClampNeg = Int64.ofInt (d i) := by
  show Int64.ofInt (d ((Int32.ofInt i).toNatClampNeg : Int)) = _
  rw [nb_clamp hi, Int.toNat_of_nonneg h0]
theorem lng_a {t : Nat} {i : Int} (h : t = 50 ∨ t = 51 ∨ t = 52 ∨ t = 53 ∨ t = 55) : lng t i = false := by rcases h with rfl | rfl | rfl | rfl | rfl <;> rfl
end Sim
