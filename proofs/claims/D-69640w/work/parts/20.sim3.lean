section Sim3
variable {p : Program} {l : Launch} {e : Env} {R : Room} {s : State} {mid : MethodId} {args : Array Value} {below : List Frame} {meth : Method} {c : Code} {Q : State → Prop} {dC : Nat → ClassId} {dI : Nat → Nat → Nat} {tc : Nat → ClassId} {A : Nat → Prop} {w0 : Wd}
variable {θ : Nat → Nat} {fe : Nat → List Value} {w : Wd} {H : Heap} {locs : List Loc} {cells slots : Nat} {ls st : List Vl} {lsJ : Array Slot} {nL m pc len own ini : Nat} {k : Nat → List Vl → List Vl → Wd → Prop}
theorem ldcwS {locs : List Loc} {cells slots : Nat} (hexec : p.tables.exec = Jvm.exec) {cc : ByteArray} (hb : c.code = cc) {own tx : String} {index q : Nat} {ls : Array Slot} {rest : List Value} (hown : s.vm.findClass own = some mid.cls) (hZ : vk_R own index tx q s) (hdg : decode cc pc = .ok (.ldc_w index, 3))
    (k : W p l e R s mid args below meth c H locs cells slots Q (F0 mid (pc + 3) ls (.ref q :: rest))) : W p l e R s mid args below meth c H locs cells slots Q (F0 mid pc ls rest) := by
  intro T hT X
  obtain ⟨t, a1, b1⟩ := k T hT X
  refine ⟨t, ?_, b1⟩
  obtain ⟨k, cf, i, a', hk, hcf, hcp, -, hr, hev'⟩ := Cond.stringRef_spec hown hZ.1
  cases hZ.2.symm.trans hev'
  obtain ⟨k', hk', he⟩ := X.warmed.alike.2.2 _ _ hk
  have hr' : k'.resolved[index]? = some (some (.string q)) := by
    rcases X.warmed.entry hk hk' index with h | ⟨h, -⟩
    · rw [h]; exact hr
    · rw [hr] at h; cases h
  subst hb
  jvm_step X.here [hexec, hdg, Op.ldc_w.wp_string (e := e) (s := T) (f := F0 mid pc ls rest) X.here.top hk' (by rw [he]; exact hcf) hcp hr']
  exact a1
theorem sim_ldc (hx : p.tables.exec = Jvm.exec) (hts : ∀ w ∈ lw_all, w.before args s = true) (hown : s.vm.findClass (owS own) = some mid.cls) (hA : ∀ q, s.heap.size ≤ q → A q) (hin : 1 ≤ ini → meth.name = "<init>") (hF : Fr dC dI tc A s R w0 θ fe w H locs cells slots) (hl : Ls θ (nx w) ls lsJ nL) (hs : ∀ v ∈ st, okv (nx w) v) (G : Go p l e R s mid args below meth c Q dC dI tc A w0 nL θ (nx w) k) {j : Nat} (i : Jvm.ClassFile.Instr) (hi : (i = .ldc j ∧ len = 2) ∨ (i = .ldc_w j ∧ len = 3)) (hd : decode c.code pc = .ok (i, len)) (hsm : Nat.ble j 999 = true) (he : match rlc (own * 1000 + j) with
    | some v => k (pc + len) ls (v :: st) w
    | none => False) : W p l e R s mid args below meth c H locs cells slots Q (F0 mid pc lsJ (st.map (vlv θ))) := by
  obtain ⟨e1, e2⟩ := q_own (own := own) hsm
  split at he
  · next v hr =>
    rcases lc_all hr with ⟨n, rfl, hn, hc⟩ | ⟨i', rfl, hq, h2, h38⟩
    · rw [e1, e2] at hc
      rcases hi with ⟨rfl, rfl⟩ | ⟨rfl, rfl⟩
      · exact lv_ldc hx rfl hown (hts _ hc) hd (go1 G hF hl (st' := vi n :: st) he (ok_c hn hs))
      · exact lv_ldcw hx rfl hown (hts _ hc) hd (go1 G hF hl (st' := vi n :: st) he (ok_c hn hs))
    · obtain ⟨v, hZ, -⟩ := hF.2.2.2.2.2.2.2.1 i' h2 h38
      rw [hq, e1, e2] at hZ
      have hW := hF.2.2.2.2.1
      have hok : okv (nx w) (vr i') := ⟨by omega, by have := hW.1.1; omega⟩
      rcases hi with ⟨rfl, rfl⟩ | ⟨rfl, rfl⟩
      · exact va_ldcS hx rfl hown hZ hd (go1 G hF hl (st' := vr i' :: st) he (ok_c hok hs))
      · exact ldcwS hx rfl hown hZ hd (go1 G hF hl (st' := vr i' :: st) he (ok_c hok hs))
  · exact he.elim
/-- the length of an array -/
theorem sim_len (hx : p.tables.exec = Jvm.exec) (hts : ∀ w ∈ lw_all, w.before args s = true) (hown : s.vm.findClass (owS own) = some mid.cls) (hA : ∀ q, s.heap.size ≤ q → A q) (hin : 1 ≤ ini → meth.name = "<init>") (hF : Fr dC dI tc A s R w0 θ fe w H locs cells slots) (hl : Ls θ (nx w) ls lsJ nL) (hs : ∀ v ∈ st, okv (nx w) v) (G : Go p l e R s mid args below meth c Q dC dI tc A w0 nL θ (nx w) k) (hd : decode c.code pc = .ok (.arraylength, 1)) (he : exP m own ini pc 1 .arraylength ls st w k) : W p l e R s mid args below meth c H locs cells slots Q (F0 mid pc lsJ (st.map (vlv θ))) := by
  unfold exP at he
  dsimp only at he
  obtain ⟨a, st', rfl, he1⟩ := oA_e he
  obtain ⟨hg, he⟩ := gd_e he1
  rw [Bool.and_eq_true] at hg
  have g1 := Nat.le_of_ble_eq_true hg.1
  have g2 := Nat.le_of_ble_eq_true hg.2
  have hW := hF.2.2.2.2.1
  have hln := hW.2.2.1 a
  have hcap := hW.2.2.2.1 a
  have hor : r32 (ln w a : Int) := by unfold r32; omega
  have hoc : r32 (w.1 a (-1)) := by unfold r32; omega
  have nrm : tg w a ≠ 55 → alen w a = (ln w a : Int) := fun h => by unfold alen; rw [nbeq h]; rfl
  rcases (show tg w a = 50 ∨ tg w a = 51 ∨ tg w a = 52 ∨ tg w a = 53 ∨ tg w a = 54 ∨ tg w a = 55 by omega) with ht | ht | ht | ht | ht | ht
  · rw [nrm (by omega)] at he
    obtain ⟨h50, hn, hw⟩ := cell_a hF ht (Or.inl rfl)
    exact va_alen (v := Int32.ofInt (ln w a)) hx rfl hF.1 hF.2.1 (a - 50) 0 hw rfl (bv_len hln) hd (go1 G hF hl (st' := vi (ln w a) :: st') he (ok_c hor (ok_t hs)))
  · rw [nrm (by omega)] at he
    obtain ⟨L, xs, q1, q2, q3, q4, q5, q6, q7, q8⟩ := hF.2.2.2.2.2.2.2.2
    have ha := q4 a ht
    subst ha
    refine va_slen hx rfl q1 q2 q3 hF.2.2.2.1 hd ?_
    rw [← q6, bv_len hln]
    exact go1 G hF hl (st' := vi (ln w 1) :: st') he (ok_c hor (ok_t hs))
  · rw [nrm (by omega)] at he
    obtain ⟨h50, hn, hw⟩ := cell_a hF ht (Or.inr (Or.inl rfl))
    exact va_alen (v := Int32.ofInt (ln w a)) hx rfl hF.1 hF.2.1 (a - 50) 1 hw rfl (bv_len hln) hd (go1 G hF hl (st' := vi (ln w a) :: st') he (ok_c hor (ok_t hs)))
  · rw [nrm (by omega)] at he
    obtain ⟨h50, hn, hw⟩ := cell_a hF ht (Or.inr (Or.inr rfl))
    exact va_alen (v := Int32.ofInt (ln w a)) hx rfl hF.1 hF.2.1 (a - 50) 2 hw rfl (bv_len hln) hd (go1 G hF hl (st' := vi (ln w a) :: st') he (ok_c hor (ok_t hs)))
  · rw [nrm (by omega)] at he
    obtain ⟨h50, hn, hw⟩ := cell_l hF ht
    exact va_alen (v := Int32.ofInt (ln w a)) hx rfl hF.1 hF.2.1 (a - 50) 3 hw rfl (bv_len hln) hd (go1 G hF hl (st' := vi (ln w a) :: st') he (ok_c hor (ok_t hs)))
  · obtain ⟨h50, hn, hw⟩ := cell_r hF ht
    have e : alen w a = w.1 a (-1) := by unfold alen; rw [ht]; rfl
    rw [e] at he
    refine va_alen (v := Int32.ofInt (w.1 a (-1))) hx rfl hF.1 hF.2.1 (a - 50) 0 hw rfl ?_ hd (go1 G hF hl (st' := vi (w.1 a (-1)) :: st') he (ok_c hoc (ok_t hs)))
    rw [bv_len (by omega), Int.toNat_of_nonneg hcap.1]
theorem beq_or3 {a b c d : Nat} (h : (Nat.beq a b || Nat.beq a c || Nat.beq a d) = true) : a = b ∨ a = c ∨ a = d := by
  rw [Bool.or_eq_true, Bool.or_eq_true] at h
  rcases h with (h | h) | h
  · exact Or.inl (Nat.eq_of_beq_eq_true h)
  · exact Or.inr (Or.inl (Nat.eq_of_beq_eq_true h))
  · exact Or.inr (Or.inr (Nat.eq_of_beq_eq_true h))
theorem beq_or2 {a b c : Nat} (h : (Nat.beq a b || Nat.beq a c) = true) : a = b ∨ a = c := by
  rw [Bool.or_eq_true] at h
  rcases h with h | h
  · exact Or.inl (Nat.eq_of_beq_eq_true h)
  · exact Or.inr (Nat.eq_of_beq_eq_true h)
theorem sim_iald (hx : p.tables.exec = Jvm.exec) (hts : ∀ w ∈ lw_all, w.before args s = true) (hown : s.vm.findClass (owS own) = some mid.cls) (hA : ∀ q, s.heap.size ≤ q → A q) (hin : 1 ≤ ini → meth.name = "<init>") (hF : Fr dC dI tc A s R w0 θ fe w H locs cells slots) (hl : Ls θ (nx w) ls lsJ nL) (hs : ∀ v ∈ st, okv (nx w) v) (G : Go p l e R s mid args below meth c Q dC dI tc A w0 nL θ (nx w) k) (hd : decode c.code pc = .ok (.iaload, 1)) (he : exP m own ini pc 1 .iaload ls st w k) : W p l e R s mid args below meth c H locs cells slots Q (F0 mid pc lsJ (st.map (vlv θ))) := by
  unfold exP at he
  dsimp only at he
  obtain ⟨i, st1, rfl, he1⟩ := o1_e he
  obtain ⟨a, st', rfl, he2⟩ := oA_e he1
  obtain ⟨hg, ⟨h0, h1⟩, he⟩ := gd_e he2
  have hi : r32 i := ok_h hs
  have hW := hF.2.2.2.2.1
  have ho : ∀ {t}, tg w a = t → t = 50 ∨ t = 51 ∨ t = 52 ∨ t = 53 ∨ t = 55 → r32 (w.1 a i) := fun ht h => (hW.2.2.2.2.1 a i).2.1 (by rw [ht]; exact lng_a h)
  rcases beq_or3 hg with ht | ht | ht
  · obtain ⟨h50, hn, hw⟩ := cell_a hF ht (Or.inl rfl)
    have e : alen w a = (ln w a : Int) := by unfold alen; rw [ht]; rfl
    rw [e] at h1
    refine va_iald hx rfl hF.1 hF.2.1 (a - 50) 0 hw rfl (nb_in hi h0 h1) hd ?_
    rw [nb_clamp hi, Int.toNat_of_nonneg h0]
    exact go1 G hF hl (st' := vi (w.1 a i) :: st') he (ok_c (ho ht (by omega)) (ok_t (ok_t hs)))
  · have e : alen w a = (ln w a : Int) := by unfold alen; rw [ht]; rfl
    rw [e] at h1
    obtain ⟨L, xs, q1, q2, q3, q4, q5, q6, q7, q8⟩ := hF.2.2.2.2.2.2.2.2
    have ha := q4 a ht
    subst ha
    rw [q6] at h1
    refine va_sld hx rfl q1 q2 q3 hF.2.2.2.1 (nb_in hi h0 h1) hd ?_
    have e2 : xs (Int32.ofInt i).toNatClampNeg = Int32.ofInt (w.1 1 i) := by
      have := q8 i.toNat (by omega)
      rw [Int.toNat_of_nonneg h0] at this
      rw [this, nb_clamp hi]
      apply Int32.toInt_inj.mp
      rw [nb_id (i32_r _)]
    rw [e2]
    exact go1 G hF hl (st' := vi (w.1 1 i) :: st') he (ok_c (ho ht (by omega)) (ok_t (ok_t hs)))
  · obtain ⟨h50, hn, hw⟩ := cell_r hF ht
    have e : alen w a = w.1 a (-1) := by unfold alen; rw [ht]; rfl
    rw [e] at h1
    have hcap := (hW.2.2.2.1 a).1
    refine va_iald hx rfl hF.1 hF.2.1 (a - 50) 0 hw rfl (nb_in hi h0 (by omega)) hd ?_
    rw [nb_clamp hi, Int.toNat_of_nonneg h0]
    exact go1 G hF hl (st' := vi (w.1 a i) :: st') he (ok_c (ho ht (by omega)) (ok_t (ok_t hs)))
theorem sim_bald (hx : p.tables.exec = Jvm.exec) (hts : ∀ w ∈ lw_all, w.before args s = true) (hown : s.vm.findClass (owS own) = some mid.cls) (hA : ∀ q, s.heap.size ≤ q → A q) (hin : 1 ≤ ini → meth.name = "<init>") (hF : Fr dC dI tc A s R w0 θ fe w H locs cells slots) (hl : Ls θ (nx w) ls lsJ nL) (hs : ∀ v ∈ st, okv (nx w) v) (G : Go p l e R s mid args below meth c Q dC dI tc A w0 nL θ (nx w) k) (hd : decode c.code pc = .ok (.baload, 1)) (he : exP m own ini pc 1 .baload ls st w k) : W p l e R s mid args below meth c H locs cells slots Q (F0 mid pc lsJ (st.map (vlv θ))) := by
  unfold exP at he
  dsimp only at he
  obtain ⟨i, st1, rfl, he1⟩ := o1_e he
  obtain ⟨a, st', rfl, he2⟩ := oA_e he1
  obtain ⟨hg, ⟨h0, h1⟩, he⟩ := gd_e he2
  have hi : r32 i := ok_h hs
  have hW := hF.2.2.2.2.1
  have ho : ∀ {t}, tg w a = t → t = 50 ∨ t = 51 ∨ t = 52 ∨ t = 53 ∨ t = 55 → r32 (w.1 a i) := fun ht h => (hW.2.2.2.2.1 a i).2.1 (by rw [ht]; exact lng_a h)
  rcases beq_or2 hg with ht | ht
  · obtain ⟨h50, hn, hw⟩ := cell_a hF ht (Or.inr (Or.inl rfl))
    refine va_bald hx rfl hF.1 hF.2.1 (a - 50) 1 hw rfl (nb_in hi h0 h1) hd ?_
    rw [nb_clamp hi, Int.toNat_of_nonneg h0]
    exact go1 G hF hl (st' := vi (w.1 a i) :: st') he (ok_c (ho ht (by omega)) (ok_t (ok_t hs)))
  · obtain ⟨h50, hn, hw⟩ := cell_a hF ht (Or.inr (Or.inr rfl))
    refine va_zald hx rfl hF.1 hF.2.1 (a - 50) 2 hw rfl (nb_in hi h0 h1) hd ?_
    rw [nb_clamp hi, Int.toNat_of_nonneg h0]
    exact go1 G hF hl (st' := vi (w.1 a i) :: st') he (ok_c (ho ht (by omega)) (ok_t (ok_t hs)))
theorem sim_lald (hx : p.tables.exec = Jvm.exec) (hts : ∀ w ∈ lw_all, w.before args s = true) (hown : s.vm.findClass (owS own) = some mid.cls) (hA : ∀ q, s.heap.size ≤ q → A q) (hin : 1 ≤ ini → meth.name = "<init>") (hF : Fr dC dI tc A s R w0 θ fe w H locs cells slots) (hl : Ls θ (nx w) ls lsJ nL) (hs : ∀ v ∈ st, okv (nx w) v) (G : Go p l e R s mid args below meth c Q dC dI tc A w0 nL θ (nx w) k) (hd : decode c.code pc = .ok (.laload, 1)) (he : exP m own ini pc 1 .laload ls st w k) : W p l e R s mid args below meth c H locs cells slots Q (F0 mid pc lsJ (st.map (vlv θ))) := by
  unfold exP at he
  dsimp only at he
  obtain ⟨i, st1, rfl, he1⟩ := o1_e he
  obtain ⟨a, st', rfl, he2⟩ := oA_e he1
  obtain ⟨hg, ⟨h0, h1⟩, he⟩ := gd_e he2
  have hi : r32 i := ok_h hs
  have hW := hF.2.2.2.2.1
  obtain ⟨h50, hn, hw⟩ := cell_l hF (Nat.eq_of_beq_eq_true hg)
  refine va_lald hx rfl hF.1 hF.2.1 (a - 50) 3 hw rfl (nb_in hi h0 h1) hd ?_
  rw [nb_clamp hi, Int.toNat_of_nonneg h0]
  exact go1 G hF hl (st' := vl (w.1 a i) :: st') he (ok_c (hW.2.2.2.2.1 a i).1 (ok_t (ok_t hs)))
theorem ety_a {a t : Nat} {i x : Int} (hi : r32 i) (h0 : 0 ≤ i) (ht : tg w a = t) (hk : t = 50 ∨ t = 52 ∨ t = 53) : (.inl (tc t, ln w a, .inl (upd (fun j : Nat => Int32.ofInt (w.1 a j)) (Int32.ofInt i).toNatClampNeg (Int32.ofInt x))) : va_E) = ety θ fe tc a (up w.1 a i x a) (w.2.1 a) (w.2.2.1 a) := by
  rw [upd_eq hi h0 rfl]
  unfold ety
  have ht : (w.2.2.1 a).1 = t := ht
  rw [ht]
  rcases hk with rfl | rfl | rfl <;> rfl
theorem ety_r {a : Nat} {i x : Int} (hi : r32 i) (h0 : 0 ≤ i) (ht : tg w a = 55) : (.inl (tc 50, (w.1 a (-1)).toNat, .inl (upd (fun j : Nat => Int32.ofInt (w.1 a j)) (Int32.ofInt i).toNatClampNeg (Int32.ofInt x))) : va_E) = ety θ fe tc a (up w.1 a i x a) (w.2.1 a) (w.2.2.1 a) := by
  rw [upd_eq hi h0 rfl]
  unfold ety
  have ht : (w.2.2.1 a).1 = 55 := ht
  rw [ht, show up w.1 a i x a (-1) = w.1 a (-1) from by rw [up_at, if_neg (by omega)]]
  rfl
theorem ety_l {a : Nat} {i x : Int} (hi : r32 i) (h0 : 0 ≤ i) (ht : tg w a = 54) : (.inl (tc 54, ln w a, .inr (.inl (vp_updL (fun j : Nat => Int64.ofInt (w.1 a j)) (Int32.ofInt i).toNatClampNeg (Int64.ofInt x)))) : va_E) = ety θ fe tc a (up w.1 a i x a) (w.2.1 a) (w.2.2.1 a) := by
  rw [updL_eq hi h0 rfl]
  unfold ety
  have ht : (w.2.2.1 a).1 = 54 := ht
  rw [ht]
  rfl
theorem sim_iast (hx : p.tables.exec = Jvm.exec) (hts : ∀ w ∈ lw_all, w.before args s = true) (hown : s.vm.findClass (owS own) = some mid.cls) (hA : ∀ q, s.heap.size ≤ q → A q) (hin : 1 ≤ ini → meth.name = "<init>") (hF : Fr dC dI tc A s R w0 θ fe w H locs cells slots) (hl : Ls θ (nx w) ls lsJ nL) (hs : ∀ v ∈ st, okv (nx w) v) (G : Go p l e R s mid args below meth c Q dC dI tc A w0 nL θ (nx w) k) (hd : decode c.code pc = .ok (.iastore, 1)) (he : exP m own ini pc 1 .iastore ls st w k) : W p l e R s mid args below meth c H locs cells slots Q (F0 mid pc lsJ (st.map (vlv θ))) := by
  unfold exP at he
  dsimp only at he
  obtain ⟨x, st0, rfl, he1⟩ := o1_e he
  obtain ⟨i, st1, rfl, he2⟩ := o1_e he1
  obtain ⟨a, st', rfl, he3⟩ := oA_e he2
  obtain ⟨hg, ⟨h0, h1⟩, he⟩ := gd_e he3
  have hxx : r32 x := ok_h hs
  have hi : r32 i := ok_h (ok_t hs)
  have hW := hF.2.2.2.2.1
  rcases beq_or2 hg with ht | ht
  · obtain ⟨h50, hn, hw⟩ := cell_a hF ht (Or.inl rfl)
    have e : alen w a = (ln w a : Int) := by unfold alen; rw [ht]; rfl
    rw [e] at h1
    refine va_iast hx rfl hF.1 hF.2.1 hF.2.2.1 hF.2.2.2.1 (a - 50) 0 hw rfl (nb_in hi h0 h1) hd fun H1 locs1 hP1 hD1 hS1 => ?_
    have hF' := fr_up (v := x) hF h50 hn h0 (r64_32 hxx) (fun _ => hxx) (fun q => by omega) (fun q => by omega) (ety_a hi h0 ht (Or.inl rfl)) hP1 hD1 hS1
    exact G _ _ _ _ _ _ _ _ _ _ _ he hF' hl (ok_t (ok_t (ok_t hs))) (fun _ _ => rfl) (Nat.le_refl _)
  · obtain ⟨h50, hn, hw⟩ := cell_r hF ht
    have e : alen w a = w.1 a (-1) := by unfold alen; rw [ht]; rfl
    rw [e] at h1
    have hcap := (hW.2.2.2.1 a).1
    refine va_iast hx rfl hF.1 hF.2.1 hF.2.2.1 hF.2.2.2.1 (a - 50) 0 hw rfl (nb_in hi h0 (by omega)) hd fun H1 locs1 hP1 hD1 hS1 => ?_
    have hF' := fr_up (v := x) hF h50 hn h0 (r64_32 hxx) (fun _ => hxx) (fun q => by omega) (fun q => by omega) (ety_r hi h0 ht) hP1 hD1 hS1
    exact G _ _ _ _ _ _ _ _ _ _ _ he hF' hl (ok_t (ok_t (ok_t hs))) (fun _ _ => rfl) (Nat.le_refl _)
theorem sim_last (hx : p.tables.exec = Jvm.exec) (hts : ∀ w ∈ lw_all, w.before args s = true) (hown : s.vm.findClass (owS own) = some mid.cls) (hA : ∀ q, s.heap.size ≤ q → A q) (hin : 1 ≤ ini → meth.name = "<init>") (hF : Fr dC dI tc A s R w0 θ fe w H locs cells slots) (hl : Ls θ (nx w) ls lsJ nL) (hs : ∀ v ∈ st, okv (nx w) v) (G : Go p l e R s mid args below meth c Q dC dI tc A w0 nL θ (nx w) k) (hd : decode c.code pc = .ok (.lastore, 1)) (he : exP m own ini pc 1 .lastore ls st w k) : W p l e R s mid args below meth c H locs cells slots Q (F0 mid pc lsJ (st.map (vlv θ))) := by
  unfold exP at he
  dsimp only at he
  obtain ⟨x, st0, rfl, he1⟩ := oL_e he
  obtain ⟨i, st1, rfl, he2⟩ := o1_e he1
  obtain ⟨a, st', rfl, he3⟩ := oA_e he2
  obtain ⟨hg, ⟨h0, h1⟩, he⟩ := gd_e he3
  have hxx : r64 x := ok_h hs
  have hi : r32 i := ok_h (ok_t hs)
  have ht := Nat.eq_of_beq_eq_true hg
  obtain ⟨h50, hn, hw⟩ := cell_l hF ht
  refine va_last hx rfl hF.1 hF.2.1 hF.2.2.1 hF.2.2.2.1 (a - 50) 3 hw rfl (nb_in hi h0 h1) hd fun H1 locs1 hP1 hD1 hS1 => ?_
  have hF' := fr_up (v := x) hF h50 hn h0 hxx (fun q => by rw [ht] at q; cases q) (fun q => by omega) (fun q => by omega) (ety_l hi h0 ht) hP1 hD1 hS1
  exact G _ _ _ _ _ _ _ _ _ _ _ he hF' hl (ok_t (ok_t (ok_t hs))) (fun _ _ => rfl) (Nat.le_refl _)
theorem nar_b {x : Int} (h : -128 ≤ x ∧ x ≤ 127) : vp_nar .byte (Int32.ofInt x) = Int32.ofInt x := by
  rw [vp_nar_byte, nb_i2b (by unfold r32; omega)]
  congr 1
  unfold w8
  omega
theorem nar_z {x : Int} (h : 0 ≤ x ∧ x ≤ 1) : vp_nar .boolean (Int32.ofInt x) = Int32.ofInt x := by
  rcases (show x = 0 ∨ x = 1 by omega) with rfl | rfl <;> rfl
theorem sim_bast (hx : p.tables.exec = Jvm.exec) (hts : ∀ w ∈ lw_all, w.before args s = true) (hown : s.vm.findClass (owS own) = some mid.cls) (hA : ∀ q, s.heap.size ≤ q → A q) (hin : 1 ≤ ini → meth.name = "<init>") (hF : Fr dC dI tc A s R w0 θ fe w H locs cells slots) (hl : Ls θ (nx w) ls lsJ nL) (hs : ∀ v ∈ st, okv (nx w) v) (G : Go p l e R s mid args below meth c Q dC dI tc A w0 nL θ (nx w) k) (hd : decode c.code pc = .ok (.bastore, 1)) (he : exP m own ini pc 1 .bastore ls st w k) : W p l e R s mid args below meth c H locs cells slots Q (F0 mid pc lsJ (st.map (vlv θ))) := by
  unfold exP at he
  dsimp only at he
  obtain ⟨x, st0, rfl, he1⟩ := o1_e he
  obtain ⟨i, st1, rfl, he2⟩ := o1_e he1
  obtain ⟨a, st', rfl, he3⟩ := oA_e he2
  obtain ⟨hg, hv, ⟨h0, h1⟩, he⟩ := gd_e he3
  have hxx : r32 x := ok_h hs
  have hi : r32 i := ok_h (ok_t hs)
  rcases beq_or2 hg with ht | ht
  · rw [ht] at hv
    have hv : -128 ≤ x ∧ x ≤ 127 := hv
    obtain ⟨h50, hn, hw⟩ := cell_a hF ht (Or.inr (Or.inl rfl))
    refine va_bast hx rfl hF.1 hF.2.1 hF.2.2.1 hF.2.2.2.1 (a - 50) 1 hw rfl (nb_in hi h0 h1) hd fun H1 locs1 hP1 hD1 hS1 => ?_
    rw [nar_b hv] at hP1 hD1
    have hF' := fr_up (v := x) hF h50 hn h0 (r64_32 hxx) (fun _ => hxx) (fun _ => hv) (fun q => by omega) (ety_a hi h0 ht (Or.inr (Or.inl rfl))) hP1 hD1 hS1
    exact G _ _ _ _ _ _ _ _ _ _ _ he hF' hl (ok_t (ok_t (ok_t hs))) (fun _ _ => rfl) (Nat.le_refl _)
  · rw [ht] at hv
    have hv : 0 ≤ x ∧ x ≤ 1 := hv
    obtain ⟨h50, hn, hw⟩ := cell_a hF ht (Or.inr (Or.inr rfl))
    refine va_zast hx rfl hF.1 hF.2.1 hF.2.2.1 hF.2.2.2.1 (a - 50) 2 hw rfl (nb_in hi h0 h1) hd fun H1 locs1 hP1 hD1 hS1 => ?_
    rw [nar_z hv] at hP1 hD1
    have hF' := fr_up (v := x) hF h50 hn h0 (r64_32 hxx) (fun _ => hxx) (fun q => by omega) (fun _ => hv) (ety_a hi h0 ht (Or.inr (Or.inr rfl))) hP1 hD1 hS1
    exact G _ _ _ _ _ _ _ _ _ _ _ he hF' hl (ok_t (ok_t (ok_t hs))) (fun _ _ => rfl) (Nat.le_refl _)
end Sim3
