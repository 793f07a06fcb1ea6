section Sim4
variable {p : Program} {l : Launch} {e : Env} {R : Room} {s : State} {mid : MethodId} {args : Array Value} {below : List Frame} {meth : Method} {c : Code} {Q : State → Prop} {dC : Nat → ClassId} {dI : Nat → Nat → Nat} {tc : Nat → ClassId} {A : Nat → Prop} {w0 : Wd}
variable {θ : Nat → Nat} {fe : Nat → List Value} {w : Wd} {H : Heap} {locs : List Loc} {cells slots : Nat} {ls st : List Vl} {lsJ : Array Slot} {nL m pc len own ini : Nat} {k : Nat → List Vl → List Vl → Wd → Prop}
theorem prl_ext {θ θ' : Nat → Nat} {ls : List Vl} (h : ∀ a, vr a ∈ ls → θ' a = θ a) (j : Nat) : prl θ' ls j = prl θ ls j := by
  unfold prl
  split
  · rfl
  · rfl
  · next a e => rw [h a (List.mem_of_getElem? e)]
  · rfl
theorem Ls.ext {θ θ' : Nat → Nat} {n n' nL : Nat} {ls : List Vl} {lsJ : Array Slot} (h : Ls θ n ls lsJ nL) (hn : n ≤ n') (he : ∀ a, vr a ∈ ls → θ' a = θ a) : Ls θ' n' ls lsJ nL := by
  refine ⟨h.1, ?_, fun v hv => ?_⟩
  · have : prs θ' ls = prs θ ls := by
      unfold prs
      congr 1
      funext j
      exact prl_ext he j
    rw [this]
    exact h.2.1
  · have := h.2.2 v hv
    match v, this with
    | .inl x, q => exact q
    | .inr (.inl x), q => exact q
    | .inr (.inr (.inl a)), q => exact ⟨q.1, Nat.lt_of_lt_of_le q.2 hn⟩
    | .inr (.inr (.inr ())), _ => trivial
theorem okv_ext {n n' : Nat} {st : List Vl} (hs : ∀ v ∈ st, okv n v) (hn : n ≤ n') : ∀ v ∈ st, okv n' v := fun v hv => by
  have := hs v hv
  match v, this with
  | .inl x, q => exact q
  | .inr (.inl x), q => exact q
  | .inr (.inr (.inl a)), q => exact ⟨q.1, Nat.lt_of_lt_of_le q.2 hn⟩
  | .inr (.inr (.inr ())), _ => trivial
theorem vlv_ext {θ θ' : Nat → Nat} {st : List Vl} (he : ∀ a, vr a ∈ st → θ' a = θ a) : st.map (vlv θ') = st.map (vlv θ) := by
  apply List.map_congr_left
  intro v hv
  match v, hv with
  | .inl x, _ => rfl
  | .inr (.inl x), _ => rfl
  | .inr (.inr (.inl a)), hv => show Value.ref (θ' a) = Value.ref (θ a); rw [he a hv]
  | .inr (.inr (.inr ())), _ => rfl
theorem ety_ext {θ θ' : Nat → Nat} {fe fe' : Nat → List Value} {tc : Nat → ClassId} {a : Nat} {d : Int → Int} {r : Nat → Nat} {tl : Nat × Nat} (h : ∀ k, θ' (r k) = θ (r k)) (hf : fe' a = fe a) : ety θ' fe' tc a d r tl = ety θ fe tc a d r tl := by
  unfold ety
  have : ∀ k kd, fvl θ' d r k kd = fvl θ d r k kd := fun k kd => by unfold fvl; rw [h k]
  simp only [this, hf]
theorem ok_ref {n a : Nat} {st : List Vl} (hs : ∀ v ∈ st, okv n v) (h : vr a ∈ st) : a < n := (hs _ h).2
def ext (θ : Nat → Nat) (a q : Nat) : Nat → Nat := fun b => if b = a then q else θ b
theorem ext_ne {θ : Nat → Nat} {a q b : Nat} (h : b ≠ a) : ext θ a q b = θ b := if_neg h
theorem ext_at {θ : Nat → Nat} {a q : Nat} : ext θ a q a = q := if_pos rfl
/-- a new cell: the frame behind it -/
theorem fr_new {w' : Wd} {q sl : Nat} {x : va_E} {H1 : Heap} {fe' : Nat → List Value} (hF : Fr dC dI tc A s R w0 θ fe w H locs cells slots) (hn : nx w' = nx w + 1) (hu : us w' = us w + sl) (hW : Wok w') (hr : rsum w.1 ≤ rsum w'.1) (hfe : ∀ b, b ≠ nx w → fe' b = fe b)
    (hx : x = ety (ext θ (nx w) q) fe' tc (nx w) (w'.1 (nx w)) (w'.2.1 (nx w)) (w'.2.2.1 (nx w))) (ho : ∀ b, b < nx w → w'.1 b = w.1 b ∧ w'.2.1 b = w.2.1 b ∧ w'.2.2.1 b = w.2.2.1 b) (h51 : ∀ a, tg w' a = 51 → tg w a = 51)
    (hP : va_P (dC, dI) cls (wsf θ fe tc w ++ [(q, x)]) H1) (hD : va_D A (wsf θ fe tc w ++ [(q, x)])) (hS : va_S A s.heap H1 locs) : Fr dC dI tc A s R w0 (ext θ (nx w) q) fe' w' H1 locs (cells + 1) (slots + sl) := by
  obtain ⟨hK, -, -, -, hW0, hb, hR, hSt, hSc⟩ := hF
  have h50 := hW0.1.1
  have e : wsf θ fe tc w ++ [(q, x)] = wsf (ext θ (nx w) q) fe' tc w' := by
    refine wsf_push h50 hn ext_at hx fun b hb1 hb2 => ⟨ext_ne (by omega), ?_⟩
    obtain ⟨q1, q2, q3⟩ := ho b hb1
    rw [q1, q2, q3]
    exact ety_ext (fun k => ext_ne (by have := hW0.2.2.2.2.2 b k; omega)) (hfe b (by omega))
  rw [e] at hP hD
  refine ⟨hK, hP, hD, hS, hW, ?_, hR, ?_, ?_⟩
  · obtain ⟨hb1, hb2, hb3, hb4⟩ := hb
    unfold Cw at hb1 ⊢
    unfold Sw at hb2 ⊢
    refine ⟨by omega, by omega, by omega, fun a ha => ?_⟩
    rw [(ho a (by omega)).2.2]
    exact hb4 a ha
  · intro i h2 h38
    rw [ext_ne (show i ≠ nx w by omega)]
    exact hSt i h2 h38
  · obtain ⟨L, xs, g1, g2, g3, g4, g5, g6, g7, g8⟩ := hSc
    obtain ⟨o1, o2, o3⟩ := ho 1 (by omega)
    refine ⟨L, xs, ?_, ?_, ?_, fun a ha => g4 a (h51 a ha), ?_, ?_, g7, fun j hj => ?_⟩
    · rw [ext_ne (show (1 : Nat) ≠ nx w by omega)]; exact g1
    · rw [ext_ne (show (1 : Nat) ≠ nx w by omega)]; exact g2
    · rw [ext_ne (show (1 : Nat) ≠ nx w by omega)]; exact g3
    · show (w'.2.2.1 1).1 = 51
      rw [o3]; exact g5
    · show (w'.2.2.1 1).2 = L
      rw [o3]; exact g6
    · rw [o1]; exact g8 j hj
theorem dflt_e {θ : Nat → Nat} {fe : Nat → List Value} {tc : Nat → ClassId} {a t : Nat} (h1 : 1 ≤ t) (h2 : t ≤ 18) (hf : t = 18 → fe a = dflt 18) : (.inr (t - 1, dflt t) : va_E) = ety θ fe tc a (fun _ => 0) (fun _ => 0) (t, 0) := by
  unfold ety
  by_cases h : t = 18
  · subst h
    show _ = (.inr (17, fe a) : va_E)
    rw [hf rfl]
  · simp only [nbeq h, show Nat.ble t 17 = true from Nat.ble_eq_true_of_le (by omega), cond_false, cond_true]
    congr 2
theorem sim_new (hx : p.tables.exec = Jvm.exec) (hts : ∀ w ∈ lw_all, w.before args s = true) (hown : s.vm.findClass (owS own) = some mid.cls) (hA : ∀ q, s.heap.size ≤ q → A q) (hin : 1 ≤ ini → meth.name = "<init>") (hF : Fr dC dI tc A s R w0 θ fe w H locs cells slots) (hl : Ls θ (nx w) ls lsJ nL) (hs : ∀ v ∈ st, okv (nx w) v) (G : Go p l e R s mid args below meth c Q dC dI tc A w0 nL θ (nx w) k) {j : Nat} (hd : decode c.code pc = .ok (.new j, 3)) (hsm : smI own (.new j) = true) (he : exP m own ini pc 3 (.new j) ls st w k) : W p l e R s mid args below meth c H locs cells slots Q (F0 mid pc lsJ (st.map (vlv θ))) := by
  obtain ⟨e1, e2⟩ := q_own (own := own) hsm
  unfold exP at he
  dsimp only at he
  split at he
  · next t n hr =>
    obtain ⟨hg, he⟩ := gd_e he
    obtain ⟨r1, r2, r3⟩ := nwr_all hr
    dsimp only at r1 r2 r3
    have nw := nw_all hr
    unfold nwP at nw
    rw [e1, e2] at nw
    dsimp only at nw
    have hW := hF.2.2.2.2.1
    obtain ⟨hW', hrs⟩ := hW.mc_ (t := t) (n := 0) (sl := n) (by
      unfold tcell
      rw [show Nat.ble 1 t = true from Nat.ble_eq_true_of_le r1, show Nat.ble t 18 = true from Nat.ble_eq_true_of_le r2]
      rfl) (by omega) (by omega) hg
    have hrm := hg
    unfold roomy at hrm
    rw [Bool.and_eq_true] at hrm
    have m1 := Nat.le_of_ble_eq_true hrm.1
    have m2 := Nat.le_of_ble_eq_true hrm.2
    have hrs0 := hW.rs
    obtain ⟨b1, b2, -⟩ := hF.2.2.2.2.2.1
    obtain ⟨c1, c2⟩ := hF.2.2.2.2.2.2.1
    have hcw : Cw w ≤ 123880 := by unfold Cw; omega
    have hsw : Sw w + n ≤ 1245760 := by unfold Sw; omega
    refine nw p l e R s mid args below meth c H locs cells slots Q pc lsJ (st.map (vlv θ)) (dC, dI) (tysf tc) (wsf θ fe tc w) A s.heap hx hts hown hF.1 hF.2.1 hF.2.2.1 hF.2.2.2.1 hA (by omega) (by omega) hd fun q H1 hP1 hD1 hS1 => ?_
    have tgE : ∀ b, b ≠ nx w → tg (mkc w t 0 n) b = tg w b := fun b hb => by show (utg w.2.2.1 (nx w) (t, 0) b).1 = _; rw [utg_ne hb]
    have hF' := fr_new (w' := mkc w t 0 n) (q := q) (sl := n) (fe' := fun b => if b = nx w then dflt 18 else fe b) hF rfl rfl hW' (by rw [hrs]; exact Nat.le_refl _) (fun b hb => if_neg hb) (by
        show (.inr (t - 1, dflt t) : va_E) = ety _ _ tc (nx w) (zr w.1 (nx w) (nx w)) (zrf w.2.1 (nx w) (nx w)) (utg w.2.2.1 (nx w) (t, 0) (nx w))
        rw [zr_at, zrf_at, utg_at]
        exact dflt_e r1 r2 fun _ => if_pos rfl) (fun b hb => ⟨zr_ne (Nat.ne_of_lt hb), zrf_ne (Nat.ne_of_lt hb), utg_ne (Nat.ne_of_lt hb)⟩) (fun a ha => by
        by_cases q : a = nx w
        · subst q
          have : tg (mkc w t 0 n) (nx w) = t := by show (utg w.2.2.1 (nx w) (t, 0) (nx w)).1 = _; rw [utg_at]
          omega
        · rw [tgE a q] at ha; exact ha) hP1 hD1 hS1
    have h50 := hW.1.1
    have := G _ _ _ _ _ _ _ _ _ _ lsJ he hF' (hl.ext (Nat.le_succ _) fun a ha => ext_ne (by have := ok_ref hl.2.2 ha; omega)) (ok_c (v := vr (nx w)) ⟨by omega, Nat.lt_succ_self _⟩ (okv_ext hs (Nat.le_succ _))) (fun a ha => ext_ne (by omega)) (Nat.le_succ _)
    rw [List.map_cons, vlv_ext (θ := θ) (fun a ha => ext_ne (by have := ok_ref hs ha; omega))] at this
    have e3 : vlv (ext θ (nx w) q) (vr (nx w)) = .ref q := by show Value.ref _ = _; rw [ext_at]
    rw [e3] at this
    exact this
  · exact he.elim
theorem tc_eq {tys : List (ClassId × FieldType)} {cA c0 : ClassId} {ty : FieldType} {i : Nat} (hK : va_K (dC, dI) cls (tysf tc) s) (hi : (tysf tc)[i]? = some (c0, ty)) (ht : ty = .int ∨ ty = .byte ∨ ty = .boolean ∨ ty = .long) (hK' : va_K (dC, dI) cls (tysf tc ++ [(cA, ty)]) s) : cA = c0 := by
  have h1 := (hK.2 i _ hi).2
  have h2 := (hK'.2 4 (cA, ty) rfl).2
  rcases ht with rfl | rfl | rfl | rfl <;> exact Option.some.inj (h2.symm.trans h1)
theorem sim_newa (hx : p.tables.exec = Jvm.exec) (hts : ∀ w ∈ lw_all, w.before args s = true) (hown : s.vm.findClass (owS own) = some mid.cls) (hA : ∀ q, s.heap.size ≤ q → A q) (hin : 1 ≤ ini → meth.name = "<init>") (hF : Fr dC dI tc A s R w0 θ fe w H locs cells slots) (hl : Ls θ (nx w) ls lsJ nL) (hs : ∀ v ∈ st, okv (nx w) v) (G : Go p l e R s mid args below meth c Q dC dI tc A w0 nL θ (nx w) k) {at' : Jvm.ClassFile.ArrayType} (hd : decode c.code pc = .ok (.newarray at', 2)) (hrw : isRow m = true → at' = .int) (he : exP m own ini pc 2 (.newarray at') ls st w k) : W p l e R s mid args below meth c H locs cells slots Q (F0 mid pc lsJ (st.map (vlv θ))) := by
  unfold exP at he
  dsimp only at he
  obtain ⟨n, st', rfl, he1⟩ := o1_e he
  obtain ⟨hk, ⟨h0, h1⟩, he2⟩ := gd_e he1
  have hnn : r32 n := ok_h hs
  unfold newA at he2
  obtain ⟨hg, he3⟩ := gd_e he2
  have hW := hF.2.2.2.2.1
  have hrm := hg
  unfold roomy at hrm
  rw [Bool.and_eq_true] at hrm
  have m1 := Nat.le_of_ble_eq_true hrm.1
  have m2 := Nat.le_of_ble_eq_true hrm.2
  have hrs0 := hW.rs
  obtain ⟨b1, b2, -⟩ := hF.2.2.2.2.2.1
  obtain ⟨c1, c2⟩ := hF.2.2.2.2.2.2.1
  have hcw : Cw w ≤ 123880 := by unfold Cw; omega
  have hsw : Sw w + n.toNat ≤ 1245760 := by unfold Sw; omega
  have h50 := hW.1.1
  have hneg : ¬ Int32.ofInt n < 0 := by
    have : ¬ Int32.ofInt n < Int32.ofInt 0 := by rw [nb_lt hnn (by unfold r32; omega)]; omega
    exact this
  have fin : ∀ (w' : Wd) (x : va_E) (q : Nat) (H1 : Heap), nx w' = nx w + 1 → us w' = us w + n.toNat → Wok w' → rsum w.1 ≤ rsum w'.1 → x = ety (ext θ (nx w) q) fe tc (nx w) (w'.1 (nx w)) (w'.2.1 (nx w)) (w'.2.2.1 (nx w)) → (∀ b, b < nx w → w'.1 b = w.1 b ∧ w'.2.1 b = w.2.1 b ∧ w'.2.2.1 b = w.2.2.1 b) → (∀ a, tg w' a = 51 → tg w a = 51) → k (pc + 2) ls (vr (nx w) :: st') w' → va_P (dC, dI) cls (wsf θ fe tc w ++ [(q, x)]) H1 → va_D A (wsf θ fe tc w ++ [(q, x)]) → va_S A s.heap H1 locs → W p l e R s mid args below meth c H1 locs (cells + 1) (slots + n.toNat) Q (F0 mid (pc + 2) lsJ (.ref q :: st'.map (vlv θ))) := by
    intro w' x q H1 g1 g2 g3 g4 g5 g6 g7 hk hP1 hD1 hS1
    have hF' := fr_new (w' := w') (q := q) (fe' := fe) hF g1 g2 g3 g4 (fun _ _ => rfl) g5 g6 g7 hP1 hD1 hS1
    have := G _ _ _ _ _ _ _ _ _ _ lsJ hk hF' (hl.ext (by rw [g1]; exact Nat.le_succ _) fun a ha => ext_ne (by have := ok_ref hl.2.2 ha; omega)) (ok_c (v := vr (nx w)) ⟨by omega, by rw [g1]; exact Nat.lt_succ_self _⟩ (okv_ext (ok_t hs) (by rw [g1]; exact Nat.le_succ _))) (fun a ha => ext_ne (by omega)) (by rw [g1]; exact Nat.le_succ _)
    rw [List.map_cons, vlv_ext (θ := θ) (fun a ha => ext_ne (by have := ok_ref (ok_t hs) ha; omega))] at this
    have e3 : vlv (ext θ (nx w) q) (vr (nx w)) = .ref q := by show Value.ref _ = _; rw [ext_at]
    rw [e3] at this
    exact this
  have nrm : ∀ t, kArr at' = t → (t = 50 ∨ t = 52 ∨ t = 53 ∨ t = 54) → isRow m = false → ∀ (x : va_E) (q : Nat) (H1 : Heap), x = ety (ext θ (nx w) q) fe tc (nx w) (fun _ => 0) (fun _ => 0) (t, n.toNat) → va_P (dC, dI) cls (wsf θ fe tc w ++ [(q, x)]) H1 → va_D A (wsf θ fe tc w ++ [(q, x)]) → va_S A s.heap H1 locs → W p l e R s mid args below meth c H1 locs (cells + 1) (slots + n.toNat) Q (F0 mid (pc + 2) lsJ (.ref q :: st'.map (vlv θ))) := by
    intro t ht htt hrow x q H1 hx1 hP1 hD1 hS1
    rw [hrow, ht] at he3
    have he3 : k (pc + 2) ls (vr (nx w) :: st') (mkc w t n.toNat n.toNat) := he3
    obtain ⟨hW', hrs⟩ := hW.mc_ (t := t) (n := n.toNat) (sl := n.toNat) (by rcases htt with rfl | rfl | rfl | rfl <;> rfl) (by omega) (by omega) hg
    have tgE : ∀ b, b ≠ nx w → tg (mkc w t n.toNat n.toNat) b = tg w b := fun b hb => by show (utg w.2.2.1 (nx w) (t, n.toNat) b).1 = _; rw [utg_ne hb]
    refine fin (mkc w t n.toNat n.toNat) x q H1 rfl rfl hW' (by rw [hrs]; exact Nat.le_refl _) ?_ (fun b hb => ⟨zr_ne (Nat.ne_of_lt hb), zrf_ne (Nat.ne_of_lt hb), utg_ne (Nat.ne_of_lt hb)⟩) (fun a ha => ?_) he3 hP1 hD1 hS1
    · show x = ety _ _ tc (nx w) (zr w.1 (nx w) (nx w)) (zrf w.2.1 (nx w) (nx w)) (utg w.2.2.1 (nx w) (t, n.toNat) (nx w))
      rw [zr_at, zrf_at, utg_at]
      exact hx1
    · by_cases q : a = nx w
      · subst q
        have : tg (mkc w t n.toNat n.toNat) (nx w) = t := by show (utg w.2.2.1 (nx w) (t, n.toNat) (nx w)).1 = _; rw [utg_at]
        omega
      · rw [tgE a q] at ha; exact ha
  cases hrow : isRow m with
  | true =>
    rw [hrow] at he3
    obtain ⟨hg2, he4⟩ := gd_e he3
    rw [Bool.and_eq_true] at hg2
    have m3 := Nat.le_of_ble_eq_true hg2.1
    have m4 : nx w ∈ rws := by
      obtain ⟨y, hy, hy2⟩ := List.any_eq_true.mp hg2.2
      rw [Nat.eq_of_beq_eq_true hy2]
      exact hy
    have hat := hrw hrow
    subst hat
    obtain ⟨hW', hrs⟩ := hW.mr_ (n := n.toNat) m3 m4 hg
    refine va_newa (atype := .int) (ty := .int) (a0 := (n.toNat, .inl fun _ => 0)) hx rfl (hts _ q386) rfl hF.1 hF.2.1 hF.2.2.1 hF.2.2.2.1 hA (fun _ => rfl) hneg (nb_clamp hnn) (by show n.toNat * 4 ≤ _; omega) (by omega) (by omega) hd fun q cA H1 hK1 hP1 hD1 hS1 => ?_
    have := tc_eq (tys := []) (i := 0) hF.1 rfl (Or.inl rfl) hK1
    subst this
    have tgE : ∀ b, b ≠ nx w → tg (mkr w n.toNat) b = tg w b := fun b hb => by show (utg w.2.2.1 (nx w) (55, 0) b).1 = _; rw [utg_ne hb]
    refine fin (mkr w n.toNat) _ q H1 rfl rfl hW' hrs ?_ (fun b hb => ⟨(up_ne (Nat.ne_of_lt hb)).trans (zr_ne (Nat.ne_of_lt hb)), zrf_ne (Nat.ne_of_lt hb), utg_ne (Nat.ne_of_lt hb)⟩) (fun a ha => ?_) he4 hP1 hD1 hS1
    · show _ = ety _ _ tc (nx w) (up (zr w.1 (nx w)) (nx w) (-1) (n.toNat : Int) (nx w)) (zrf w.2.1 (nx w) (nx w)) (utg w.2.2.1 (nx w) (55, 0) (nx w))
      have ed : up (zr w.1 (nx w)) (nx w) (-1) (n.toNat : Int) (nx w) = fun j => if j = -1 then (n.toNat : Int) else 0 := by
        funext j
        rw [up_at, zr_at]
      rw [utg_at, ed]
      unfold ety
      show (.inl (tc 50, n.toNat, .inl fun _ => 0) : va_E) = .inl (tc 50, ((if (-1 : Int) = -1 then (n.toNat : Int) else 0)).toNat, .inl fun j : Nat => Int32.ofInt (if (j : Int) = -1 then (n.toNat : Int) else 0))
      rw [if_pos rfl, Int.toNat_natCast]
      congr 3
    · by_cases q : a = nx w
      · subst q
        have : tg (mkr w n.toNat) (nx w) = 55 := by show (utg w.2.2.1 (nx w) (55, 0) (nx w)).1 = _; rw [utg_at]
        omega
      · rw [tgE a q] at ha; exact ha
  | false =>
    cases at' with
    | int =>
      refine va_newa (atype := .int) (ty := .int) (a0 := (n.toNat, .inl fun _ => 0)) hx rfl (hts _ q386) rfl hF.1 hF.2.1 hF.2.2.1 hF.2.2.2.1 hA (fun _ => rfl) hneg (nb_clamp hnn) (by show n.toNat * 4 ≤ _; omega) (by omega) (by omega) hd fun q cA H1 hK1 hP1 hD1 hS1 => ?_
      have := tc_eq (tys := []) (i := 0) hF.1 rfl (Or.inl rfl) hK1
      subst this
      exact nrm 50 rfl (Or.inl rfl) hrow _ q H1 rfl hP1 hD1 hS1
    | byte =>
      refine va_newa (atype := .byte) (ty := .byte) (a0 := (n.toNat, .inl fun _ => 0)) hx rfl (hts _ q1060) rfl hF.1 hF.2.1 hF.2.2.1 hF.2.2.2.1 hA (fun _ => rfl) hneg (nb_clamp hnn) (by show n.toNat * 1 ≤ _; omega) (by omega) (by omega) hd fun q cA H1 hK1 hP1 hD1 hS1 => ?_
      have := tc_eq (tys := []) (i := 1) hF.1 rfl (Or.inr (Or.inl rfl)) hK1
      subst this
      exact nrm 52 rfl (Or.inr (Or.inl rfl)) hrow _ q H1 rfl hP1 hD1 hS1
    | boolean =>
      refine va_newa (atype := .boolean) (ty := .boolean) (a0 := (n.toNat, .inl fun _ => 0)) hx rfl (hts _ q527) rfl hF.1 hF.2.1 hF.2.2.1 hF.2.2.2.1 hA (fun _ => rfl) hneg (nb_clamp hnn) (by show n.toNat * 1 ≤ _; omega) (by omega) (by omega) hd fun q cA H1 hK1 hP1 hD1 hS1 => ?_
      have := tc_eq (tys := []) (i := 2) hF.1 rfl (Or.inr (Or.inr (Or.inl rfl))) hK1
      subst this
      exact nrm 53 rfl (Or.inr (Or.inr (Or.inl rfl))) hrow _ q H1 rfl hP1 hD1 hS1
    | long =>
      refine va_newa (atype := .long) (ty := .long) (a0 := (n.toNat, .inr (.inl fun _ => 0))) hx rfl (hts _ q632) rfl hF.1 hF.2.1 hF.2.2.1 hF.2.2.2.1 hA (fun _ => rfl) hneg (nb_clamp hnn) (by show n.toNat * 8 ≤ _; omega) (by omega) (by omega) hd fun q cA H1 hK1 hP1 hD1 hS1 => ?_
      have := tc_eq (tys := []) (i := 3) hF.1 rfl (Or.inr (Or.inr (Or.inr rfl))) hK1
      subst this
      exact nrm 54 rfl (Or.inr (Or.inr (Or.inr rfl))) hrow _ q H1 rfl hP1 hD1 hS1
    | _ => exact absurd hk (by decide)
end Sim4
