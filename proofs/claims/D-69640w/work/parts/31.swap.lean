/-! a few instructions as one step: the programs change places -/
set_option maxRecDepth 100000
/-- going on from a place: what the model does there -/
def Ks (p : Program) (l : Launch) (e : Env) (R : Room) (s : State) (mid : MethodId) (args : Array Value) (below : List Frame) (meth : Method) (c : Code) (dC : Nat → ClassId) (dI : Nat → Nat → Nat) (tc : Nat → ClassId) (A : Nat → Prop) (w0 : Wd) (θ0 : Nat → Nat) (m : Nat) (Q : State → Prop) (pc : Nat) (ls st : List Vl) (w : Wd) : Prop :=
  ∀ (θ : Nat → Nat) (fe : Nat → List Value) (H : Heap) (locs : List Loc) (cells slots : Nat) (lsJ : Array Slot), Fr dC dI tc A s R w0 θ fe w H locs cells slots → Ls θ (nx w) ls lsJ (inf m).2.1 → (∀ v ∈ st, okv (nx w) v) → Stb m w0 θ0 θ → W p l e R s mid args below meth c H locs cells slots Q (F0 mid pc lsJ (st.map (vlv θ)))
theorem gd_i {b : Bool} {P : Prop} (h : b = true) (hp : P) : gd b P := by
  subst h
  exact hp
section Swap
variable {p : Program} {l : Launch} {e : Env} {R : Room} {s : State} {mid : MethodId} {args : Array Value} {below : List Frame} {meth : Method} {c : Code} {dC : Nat → ClassId} {dI : Nat → Nat → Nat} {tc : Nat → ClassId} {A : Nat → Prop} {w0 : Wd} {θ0 : Nat → Nat} {θ : Nat → Nat} {fe : Nat → List Value} {w : Wd} {H : Heap} {locs : List Loc} {cells slots : Nat} {ls st : List Vl} {lsJ : Array Slot} {m pc len n : Nat} {Qm : Out → Wd → Prop}
theorem ks_step {Q : State → Prop} {i : Jvm.ClassFile.Instr} (hx : p.tables.exec = Jvm.exec) (htr : e.platform.stackTraces = false) (hZ : Stc A s) (hts : ∀ w ∈ lw_all, w.before args s = true) (hnw : ∀ w ∈ nws, va_Nw w s) (hA : ∀ q, s.heap.size ≤ q → A q) (hM : Mth m s mid meth c) (hf1 : (inf m).2.2.1 ≤ R.frames) (hf2 : 45 * (inf m).2.2.1 ≤ R.locals) (hlk : lk (tb m) pc = some (i, len)) (he : exP m (inf m).1 (inf m).2.2.2.2 pc len i ls st w (Ks p l e R s mid args below meth c dC dI tc A w0 θ0 m Q)) : Ks p l e R s mid args below meth c dC dI tc A w0 θ0 m Q pc ls st w := by
  intro θ fe H locs cells slots lsJ hF hl hs hsb
  obtain ⟨ho, hd⟩ := hM.2.1 pc i len hlk
  have hm4 : m < 400 := by have := hM.1; omega
  have hsm := sm_all hm4 hlk
  have htb := tbI_all hm4 hlk
  unfold tbI at htb
  simp only [Bool.and_eq_true] at htb
  obtain ⟨⟨hst, hrw⟩, hth⟩ := htb
  exact ex_sim hx hts hM.2.2.2.2.2.1 hA hM.2.2.2.2.2.2.1 hF hl hs (fun pc' ls' st' w' θ' fe' H' locs' cells' slots' lsJ' hk' hF' hl' hs' hθ hn => hk' θ' fe' H' locs' cells' slots' lsJ' hF' hl' hs' (fun a ha hmv => (hθ a (Nat.lt_of_lt_of_le ha hF.2.2.2.2.2.1.2.2.1)).trans (hsb a ha hmv))) i hd ho hsm hst (fun hr t ht => by
    subst ht
    unfold rwI at hrw
    rw [hr] at hrw
    cases t <;> first | rfl | cases hrw) he
theorem wsf_inv {k : Nat} {q : Nat × va_E} (h : (wsf θ fe tc w)[k]? = some q) : 50 ≤ 50 + k ∧ 50 + k < nx w ∧ q = (θ (50 + k), ety θ fe tc (50 + k) (w.1 (50 + k)) (w.2.1 (50 + k)) (w.2.2.1 (50 + k))) := by
  have hk : k < nx w - 50 := by
    have := (List.getElem?_eq_some_iff.mp h).1
    unfold wsf at this
    rwa [List.length_map, List.length_range] at this
  have h1 := wsf_at (θ := θ) (fe := fe) (tc := tc) (w := w) (a := 50 + k) (by omega) (by omega)
  rw [show 50 + k - 50 = k by omega, h] at h1
  exact ⟨by omega, by omega, Option.some.inj h1⟩
theorem ety_sg {sg : Nat → Nat} {fe' : Nat → List Value} {a b : Nat} {d : Int → Int} {r r2 : Nat → Nat} {tl : Nat × Nat} (h0 : ∀ x, sg x = 0 ↔ x = 0) (hfe : fe' a = fe b) (hr : ∀ k, sg (r k) = r2 k) : ety (fun x => θ (sg x)) fe' tc a d r tl = ety θ fe tc b d r2 tl := by
  have hv : ∀ k kd, fvl (fun x => θ (sg x)) d r k kd = fvl θ d r2 k kd := fun k kd => by
    unfold fvl
    split
    · rfl
    · by_cases q : r k = 0
      · have : r2 k = 0 := by rw [← hr k]; exact (h0 _).mpr q
        rw [q, this]
        rfl
      · have : r2 k ≠ 0 := fun z => q ((h0 _).mp ((hr k).trans z))
        rw [nbeq q, nbeq this, ← hr k]
    · rfl
  unfold ety
  simp only [hv, hfe]
/-- the places' names are changed -/
theorem fr_ren {sg : Nat → Nat} {oa f1 f2 p1 p2 : Nat} (s1 : ∀ a, sg (sg a) = a) (s2 : ∀ a, inb a = false → sg a = a) (s3 : ∀ a, inb (sg a) = inb a) (ho : inb oa = false) (hf : f1 ≠ f2) (hp : sg p1 = p2) (h1 : gr w oa f1 = p1) (h2 : gr w oa f2 = p2)
    (hy : ∀ b, inb b = true → w.2.2.1 (sg b) = w.2.2.1 b ∧ ∀ f, w.2.1 (sg b) f = sg (w.2.1 b f))
    (hF : Fr dC dI tc A s R w0 θ fe (w.1, urf (urf w.2.1 oa f1 p2) oa f2 p1, w.2.2) H locs cells slots) : Fr dC dI tc A s R w0 (fun a => θ (sg a)) (fun a => fe (sg a)) (swp sg w oa f1 f2) H locs cells slots := by
  have h50 : ∀ a, a < 50 → sg a = a := fun a ha => s2 a (by
    unfold inb
    rw [show Nat.ble 171 a = false from by cases hb : Nat.ble 171 a with | false => rfl | true => exact absurd (Nat.le_of_ble_eq_true hb) (by omega), show Nat.ble 227 a = false from by cases hb : Nat.ble 227 a with | false => rfl | true => exact absurd (Nat.le_of_ble_eq_true hb) (by omega)]
    rfl)
  have hib : ∀ a, inb a = true → 50 ≤ a := fun a ha => by
    rcases Nat.lt_or_ge a 50 with q | q
    · have := h50 a q
      unfold inb at ha
      rw [show Nat.ble 171 a = false from by cases hb : Nat.ble 171 a with | false => rfl | true => exact absurd (Nat.le_of_ble_eq_true hb) (by omega), show Nat.ble 227 a = false from by cases hb : Nat.ble 227 a with | false => rfl | true => exact absurd (Nat.le_of_ble_eq_true hb) (by omega)] at ha
      cases ha
    · exact q
  have z0 : ∀ x, sg x = 0 ↔ x = 0 := fun x => ⟨fun h => by rw [← s1 x, h, h50 0 (by omega)], fun h => by rw [h, h50 0 (by omega)]⟩
  have htg : ∀ a, w.2.2.1 (sg a) = w.2.2.1 a := fun a => by
    cases q : inb a with
    | true => exact (hy a q).1
    | false => rw [s2 a q]
  obtain ⟨hK, hP, hD, hS, hW, ⟨b1, b2, b3, b4⟩, hR, hSt, L0, xs, g1, g2, g3, g4, g5, g6, g7, g8⟩ := hF
  have hr : ∀ a k, sg ((swp sg w oa f1 f2).2.1 a k) = urf (urf w.2.1 oa f1 p2) oa f2 p1 (sg a) k := fun a k => by
    have hsp : sg p2 = p1 := by rw [← hp, s1]
    show sg (bif (Nat.beq a oa && (Nat.beq k f1 || Nat.beq k f2)) || inb a then w.2.1 a k else sg (w.2.1 a k)) = _
    cases q : inb a with
    | true =>
      rw [Bool.or_true, cond_true]
      have hne : sg a ≠ oa := fun z => by
        have := s3 a
        rw [z, ho, q] at this
        cases this
      rw [urf_ne hne, urf_ne hne]
      exact ((hy a q).2 k).symm
    | false =>
      rw [Bool.or_false, s2 a q]
      by_cases ha : a = oa
      · subst ha
        rw [Nat.beq_refl, Bool.true_and, urf_at, urf_at]
        by_cases k1 : k = f1
        · subst k1
          rw [Nat.beq_refl, Bool.true_or, cond_true, if_neg hf, if_pos rfl]
          exact (congrArg sg h1).trans hp
        · by_cases k2 : k = f2
          · subst k2
            rw [Nat.beq_refl, Bool.or_true, cond_true, if_pos rfl]
            exact (congrArg sg h2).trans hsp
          · rw [nbeq k1, nbeq k2, Bool.or_false, cond_false, if_neg k2, if_neg k1, s1]
      · rw [nbeq ha, Bool.false_and, cond_false, urf_ne ha, urf_ne ha, s1]
  have hnx : ∀ x, x < nx w → sg x < nx w := fun x hx => by
    cases q : inb x with
    | false => rw [s2 x q]; exact hx
    | true =>
      have h1 := (hW.2.1 x).mpr ⟨hib x q, hx⟩
      refine ((hW.2.1 (sg x)).mp ?_).2
      show tcell (w.2.2.1 (sg x)).1 = true
      rw [htg x]
      exact h1
  have h5x : ∀ x, 50 ≤ x → 50 ≤ sg x := fun x hx => by
    cases q : inb x with
    | false => rw [s2 x q]; exact hx
    | true => exact hib _ (by rw [s3 x]; exact q)
  have hent : ∀ a, ety (fun x => θ (sg x)) (fun x => fe (sg x)) tc a ((swp sg w oa f1 f2).1 a) ((swp sg w oa f1 f2).2.1 a) ((swp sg w oa f1 f2).2.2.1 a) = ety θ fe tc (sg a) (w.1 (sg a)) (urf (urf w.2.1 oa f1 p2) oa f2 p1 (sg a)) (w.2.2.1 (sg a)) := fun a => by
    rw [htg a]
    exact ety_sg z0 rfl (hr a)
  have hat : ∀ a, 50 ≤ a → a < nx w → (wsf θ fe tc (w.1, urf (urf w.2.1 oa f1 p2) oa f2 p1, w.2.2))[sg a - 50]? = some (θ (sg a), ety (fun x => θ (sg x)) (fun x => fe (sg x)) tc a ((swp sg w oa f1 f2).1 a) ((swp sg w oa f1 f2).2.1 a) ((swp sg w oa f1 f2).2.2.1 a)) := fun a h5 hn => by
    rw [hent a]
    exact wsf_at (w := (w.1, urf (urf w.2.1 oa f1 p2) oa f2 p1, w.2.2)) (h5x a h5) (hnx a hn)
  have hrs : rsum (swp sg w oa f1 f2).1 = rsum w.1 := by
    unfold rsum
    congr 1
    apply List.map_congr_left
    intro b hb
    show (w.1 (sg b) (-1)).toNat = _
    rw [s2 b ((show ∀ b ∈ rws, inb b = false by decide) b hb)]
  have hCw : Cw (swp sg w oa f1 f2) = Cw (w.1, urf (urf w.2.1 oa f1 p2) oa f2 p1, w.2.2) := by
    unfold Cw
    rw [hrs]
    rfl
  have hSw : Sw (swp sg w oa f1 f2) = Sw (w.1, urf (urf w.2.1 oa f1 p2) oa f2 p1, w.2.2) := by
    unfold Sw
    rw [hrs]
    rfl
  refine ⟨hK, fun k q hq => ?_, ⟨fun i j q q' hi hj he => ?_, fun k q hq => ?_⟩, hS, ⟨hW.1, hW.2.1, hW.2.2.1, fun a => ?_, fun a i => ?_, fun a f => ?_⟩, ⟨by rw [hCw]; exact b1, by rw [hSw]; exact b2, b3, b4⟩, hR, fun i h2 h38 => ?_, L0, xs, ?_, ?_, ?_, g4, g5, g6, g7, fun j hj => ?_⟩
  · obtain ⟨h5, hn, rfl⟩ := wsf_inv hq
    exact hP _ _ (hat _ h5 hn)
  · obtain ⟨h5, hn, rfl⟩ := wsf_inv hi
    obtain ⟨h5', hn', rfl⟩ := wsf_inv hj
    have := hD.1 _ _ _ _ (hat _ h5 hn) (hat _ h5' hn') he
    have e1 := h5x _ h5
    have e2 := h5x _ h5'
    have e3 : sg (50 + i) = sg (50 + j) := by omega
    have e4 := congrArg sg e3
    rw [s1, s1] at e4
    omega
  · obtain ⟨h5, hn, rfl⟩ := wsf_inv hq
    exact hD.2 _ _ (hat _ h5 hn)
  · have := hW.2.2.2.1 (sg a)
    refine ⟨this.1, this.2.1, fun hn => this.2.2.1 ?_, (hW.2.2.2.1 a).2.2.2⟩
    have hn : nx w ≤ a := hn
    show nx w ≤ sg a
    rcases Nat.lt_or_ge (sg a) (nx w) with q | q
    · have := hnx _ q
      rw [s1] at this
      omega
    · exact q
  · have := hW.2.2.2.2.1 (sg a) i
    have et : tg (w.1, urf (urf w.2.1 oa f1 p2) oa f2 p1, w.2.2) (sg a) = tg w a := congrArg Prod.fst (htg a)
    rw [et] at this
    exact this
  · have := hnx _ (hW.2.2.2.2.2 (sg a) f)
    have e1 := hr a f
    have e2 := congrArg sg e1
    rw [s1] at e2
    rw [e2]
    exact this
  · show ∃ v : Nat, vk_R _ _ _ (θ (sg i)) s ∧ va_O _ (θ (sg i)) A s s.heap ∧ va_OF _ _ _ _ (θ (sg i)) A s s.heap ∧ va_OF _ _ _ (.ref v) (θ (sg i)) A s s.heap ∧ _
    rw [h50 i (by omega)]
    exact hSt i h2 h38
  · show va_X (θ (sg 1)) L0 xs s s.heap
    rw [h50 1 (by omega)]; exact g1
  · show θ (sg 1) < _
    rw [h50 1 (by omega)]; exact g2
  · show ¬ A (θ (sg 1))
    rw [h50 1 (by omega)]; exact g3
  · show w.1 (sg 1) j = _
    rw [h50 1 (by omega)]
    exact g8 j hj
theorem ble_d (a b : Nat) : Nat.ble a b = decide (a ≤ b) := by
  cases h : Nat.ble a b with
  | true => exact (decide_eq_true (Nat.le_of_ble_eq_true h)).symm
  | false => exact (decide_eq_false fun q => by rw [Nat.ble_eq_true_of_le q] at h; cases h).symm
theorem sg0_e (a : Nat) : sg0 a = if 171 ≤ a ∧ a ≤ 196 then a + 26 else if 197 ≤ a ∧ a ≤ 222 then a - 26 else a := by
  unfold sg0
  simp only [ble_d, Bool.cond_eq_ite, Bool.and_eq_true, decide_eq_true_eq]
theorem sg1_e (a : Nat) : sg1 a = if 227 ≤ a ∧ a ≤ 272 then a + 46 else if 273 ≤ a ∧ a ≤ 318 then a - 46 else a := by
  unfold sg1
  simp only [ble_d, Bool.cond_eq_ite, Bool.and_eq_true, decide_eq_true_eq]
theorem inb_e (a : Nat) : inb a = decide ((171 ≤ a ∧ a ≤ 222) ∨ (227 ≤ a ∧ a ≤ 318)) := by
  unfold inb
  simp only [ble_d]
  simp
theorem sg0_1 (a : Nat) : sg0 (sg0 a) = a := by
  rw [sg0_e (sg0 a), sg0_e a]
  repeat' split
  all_goals omega
theorem sg1_1 (a : Nat) : sg1 (sg1 a) = a := by
  rw [sg1_e (sg1 a), sg1_e a]
  repeat' split
  all_goals omega
theorem sg0_2 (a : Nat) (h : inb a = false) : sg0 a = a := by
  rw [inb_e, decide_eq_false_iff_not] at h
  rw [sg0_e]
  repeat' split
  all_goals omega
theorem sg1_2 (a : Nat) (h : inb a = false) : sg1 a = a := by
  rw [inb_e, decide_eq_false_iff_not] at h
  rw [sg1_e]
  repeat' split
  all_goals omega
theorem sg0_3 (a : Nat) : inb (sg0 a) = inb a := by
  rw [inb_e, inb_e, sg0_e]
  apply decide_eq_decide.mpr
  repeat' split
  all_goals omega
theorem sg1_3 (a : Nat) : inb (sg1 a) = inb a := by
  rw [inb_e, inb_e, sg1_e]
  apply decide_eq_decide.mpr
  repeat' split
  all_goals omega
theorem mac_3 (hB : Brg n) (hx : p.tables.exec = Jvm.exec) (htr : e.platform.stackTraces = false) (hZ : Stc A s) (hts : ∀ w ∈ lw_all, w.before args s = true) (hnw : ∀ w ∈ nws, va_Nw w s) (hA : ∀ q, s.heap.size ≤ q → A q) (hM : Mth 4 s mid meth c) (hf1 : (inf 4).2.2.1 ≤ R.frames) (hf2 : 45 * (inf 4).2.2.1 ≤ R.locals) {Q : State → Prop} (hQ : Q = Fin below s R dC dI tc A w0 θ0 4 Qm)
    (hw : exW ls w 50 7 8 171 197 sg0 (fun ls' w' => wpn n 4 88 ls' [] w' Qm)) : Ks p l e R s mid args below meth c dC dI tc A w0 θ0 4 Q 70 ls [] w := by
  unfold exW at hw
  split at hw
  · next a nn u =>
    obtain ⟨hg, hy, hw⟩ := gd_e hw
    simp only [Bool.and_eq_true] at hg
    obtain ⟨⟨ga, gt⟩, g1, g2⟩ := hg
    obtain rfl := Nat.eq_of_beq_eq_true ga
    have ht : tg w 50 = 1 := Nat.eq_of_beq_eq_true gt
    have h1 : gr w 50 7 = 171 := Nat.eq_of_beq_eq_true g1
    have h2 : gr w 50 8 = 197 := Nat.eq_of_beq_eq_true g2
    refine ks_step hx htr hZ hts hnw hA hM hf1 hf2 (i := .aload_n 0) (len := 1) rfl ?_
    show Ks p l e R s mid args below meth c dC dI tc A w0 θ0 4 Q 71 [vr 50, vi nn, u] [vr 50] w
    refine ks_step hx htr hZ hts hnw hA hM hf1 hf2 (i := .getfield 67) (len := 3) rfl ?_
    show gd (Nat.ble 1 (tg w 50) && Nat.ble (tg w 50) 1) (gd (Nat.ble 1 (gr w 50 7)) (Ks p l e R s mid args below meth c dC dI tc A w0 θ0 4 Q 74 [vr 50, vi nn, u] [vr (gr w 50 7)] w))
    refine gd_i (by rw [ht]; rfl) (gd_i (by rw [h1]; rfl) ?_)
    rw [h1]
    refine ks_step hx htr hZ hts hnw hA hM hf1 hf2 (i := .astore_n 2) (len := 1) rfl ?_
    show Ks p l e R s mid args below meth c dC dI tc A w0 θ0 4 Q 75 [vr 50, vi nn, vr 171] [] w
    refine ks_step hx htr hZ hts hnw hA hM hf1 hf2 (i := .aload_n 0) (len := 1) rfl ?_
    show Ks p l e R s mid args below meth c dC dI tc A w0 θ0 4 Q 76 [vr 50, vi nn, vr 171] [vr 50] w
    refine ks_step hx htr hZ hts hnw hA hM hf1 hf2 (i := .aload_n 0) (len := 1) rfl ?_
    show Ks p l e R s mid args below meth c dC dI tc A w0 θ0 4 Q 77 [vr 50, vi nn, vr 171] [vr 50, vr 50] w
    refine ks_step hx htr hZ hts hnw hA hM hf1 hf2 (i := .getfield 71) (len := 3) rfl ?_
    show gd (Nat.ble 1 (tg w 50) && Nat.ble (tg w 50) 1) (gd (Nat.ble 1 (gr w 50 8)) (Ks p l e R s mid args below meth c dC dI tc A w0 θ0 4 Q 80 [vr 50, vi nn, vr 171] [vr (gr w 50 8), vr 50] w))
    refine gd_i (by rw [ht]; rfl) (gd_i (by rw [h2]; rfl) ?_)
    rw [h2]
    refine ks_step hx htr hZ hts hnw hA hM hf1 hf2 (i := .putfield 67) (len := 3) rfl ?_
    show gd (Nat.ble 1 (tg w 50) && Nat.ble (tg w 50) 1) (Ks p l e R s mid args below meth c dC dI tc A w0 θ0 4 Q 83 [vr 50, vi nn, vr 171] [] (w.1, urf w.2.1 50 7 197, w.2.2))
    refine gd_i (by rw [ht]; rfl) ?_
    refine ks_step hx htr hZ hts hnw hA hM hf1 hf2 (i := .aload_n 0) (len := 1) rfl ?_
    show Ks p l e R s mid args below meth c dC dI tc A w0 θ0 4 Q 84 [vr 50, vi nn, vr 171] [vr 50] (w.1, urf w.2.1 50 7 197, w.2.2)
    refine ks_step hx htr hZ hts hnw hA hM hf1 hf2 (i := .aload_n 2) (len := 1) rfl ?_
    show Ks p l e R s mid args below meth c dC dI tc A w0 θ0 4 Q 85 [vr 50, vi nn, vr 171] [vr 171, vr 50] (w.1, urf w.2.1 50 7 197, w.2.2)
    refine ks_step hx htr hZ hts hnw hA hM hf1 hf2 (i := .putfield 71) (len := 3) rfl ?_
    show gd (Nat.ble 1 (tg w 50) && Nat.ble (tg w 50) 1) (Ks p l e R s mid args below meth c dC dI tc A w0 θ0 4 Q 88 [vr 50, vi nn, vr 171] [] (w.1, urf (urf w.2.1 50 7 197) 50 8 171, w.2.2))
    refine gd_i (by rw [ht]; rfl) ?_
    intro θ fe H locs cells slots lsJ hF hl hs hsb
    subst hQ
    refine hB p l e R s mid args below meth c dC dI tc A w0 θ0 (fun a => θ (sg0 a)) (fun a => fe (sg0 a)) (swp sg0 w 50 7 8) H locs cells slots [vr 50, vi nn, vu] [] lsJ 4 88 Qm hx htr hZ hts hnw hA hM hf1 hf2 hw (fr_ren sg0_1 sg0_2 sg0_3 rfl (by decide) rfl h1 h2 hy hF) ⟨hl.1, ⟨hl.2.1.1, hl.2.1.2.1, fun q hq => hl.2.1.2.2 q ?_⟩, fun v hv => ?_⟩ (fun v hv => by cases hv) (fun a ha hmv => ?_)
    · refine prs_mem.mpr ?_
      have hq := prs_mem.mp hq
      obtain ⟨k, v⟩ := q
      match k, hq with
      | 0, hq => exact hq
      | 1, hq => exact hq
      | 2, hq => cases hq
      | k + 3, hq => cases hq
    · simp only [List.mem_cons, List.not_mem_nil, or_false] at hv
      rcases hv with rfl | rfl | rfl
      · exact hl.2.2 _ List.mem_cons_self
      · exact hl.2.2 (vi nn) (List.mem_cons_of_mem _ List.mem_cons_self)
      · trivial
    · show θ (sg0 a) = θ0 a
      rw [sg0_2 a ?_]
      · exact hsb a ha hmv
      · unfold mvb at hmv
        rw [Bool.or_eq_false_iff] at hmv
        exact hmv.2
  · exact hw.elim
theorem mac_4 (hB : Brg n) (hx : p.tables.exec = Jvm.exec) (htr : e.platform.stackTraces = false) (hZ : Stc A s) (hts : ∀ w ∈ lw_all, w.before args s = true) (hnw : ∀ w ∈ nws, va_Nw w s) (hA : ∀ q, s.heap.size ≤ q → A q) (hM : Mth 231 s mid meth c) (hf1 : (inf 231).2.2.1 ≤ R.frames) (hf2 : 45 * (inf 231).2.2.1 ≤ R.locals) {Q : State → Prop} (hQ : Q = Fin below s R dC dI tc A w0 θ0 231 Qm)
    (hw : exW ls w 226 0 1 227 273 sg1 (fun ls' w' => wpn n 231 46 ls' [] w' Qm)) : Ks p l e R s mid args below meth c dC dI tc A w0 θ0 231 Q 28 ls [] w := by
  unfold exW at hw
  split at hw
  · next a nn u =>
    obtain ⟨hg, hy, hw⟩ := gd_e hw
    simp only [Bool.and_eq_true] at hg
    obtain ⟨⟨ga, gt⟩, g1, g2⟩ := hg
    obtain rfl := Nat.eq_of_beq_eq_true ga
    have ht : tg w 226 = 16 := Nat.eq_of_beq_eq_true gt
    have h1 : gr w 226 0 = 227 := Nat.eq_of_beq_eq_true g1
    have h2 : gr w 226 1 = 273 := Nat.eq_of_beq_eq_true g2
    refine ks_step hx htr hZ hts hnw hA hM hf1 hf2 (i := .aload_n 0) (len := 1) rfl ?_
    show Ks p l e R s mid args below meth c dC dI tc A w0 θ0 231 Q 29 [vr 226, vi nn, u] [vr 226] w
    refine ks_step hx htr hZ hts hnw hA hM hf1 hf2 (i := .getfield 12) (len := 3) rfl ?_
    show gd (Nat.ble 16 (tg w 226) && Nat.ble (tg w 226) 16) (gd (Nat.ble 1 (gr w 226 0)) (Ks p l e R s mid args below meth c dC dI tc A w0 θ0 231 Q 32 [vr 226, vi nn, u] [vr (gr w 226 0)] w))
    refine gd_i (by rw [ht]; rfl) (gd_i (by rw [h1]; rfl) ?_)
    rw [h1]
    refine ks_step hx htr hZ hts hnw hA hM hf1 hf2 (i := .astore_n 2) (len := 1) rfl ?_
    show Ks p l e R s mid args below meth c dC dI tc A w0 θ0 231 Q 33 [vr 226, vi nn, vr 227] [] w
    refine ks_step hx htr hZ hts hnw hA hM hf1 hf2 (i := .aload_n 0) (len := 1) rfl ?_
    show Ks p l e R s mid args below meth c dC dI tc A w0 θ0 231 Q 34 [vr 226, vi nn, vr 227] [vr 226] w
    refine ks_step hx htr hZ hts hnw hA hM hf1 hf2 (i := .aload_n 0) (len := 1) rfl ?_
    show Ks p l e R s mid args below meth c dC dI tc A w0 θ0 231 Q 35 [vr 226, vi nn, vr 227] [vr 226, vr 226] w
    refine ks_step hx htr hZ hts hnw hA hM hf1 hf2 (i := .getfield 16) (len := 3) rfl ?_
    show gd (Nat.ble 16 (tg w 226) && Nat.ble (tg w 226) 16) (gd (Nat.ble 1 (gr w 226 1)) (Ks p l e R s mid args below meth c dC dI tc A w0 θ0 231 Q 38 [vr 226, vi nn, vr 227] [vr (gr w 226 1), vr 226] w))
    refine gd_i (by rw [ht]; rfl) (gd_i (by rw [h2]; rfl) ?_)
    rw [h2]
    refine ks_step hx htr hZ hts hnw hA hM hf1 hf2 (i := .putfield 12) (len := 3) rfl ?_
    show gd (Nat.ble 16 (tg w 226) && Nat.ble (tg w 226) 16) (Ks p l e R s mid args below meth c dC dI tc A w0 θ0 231 Q 41 [vr 226, vi nn, vr 227] [] (w.1, urf w.2.1 226 0 273, w.2.2))
    refine gd_i (by rw [ht]; rfl) ?_
    refine ks_step hx htr hZ hts hnw hA hM hf1 hf2 (i := .aload_n 0) (len := 1) rfl ?_
    show Ks p l e R s mid args below meth c dC dI tc A w0 θ0 231 Q 42 [vr 226, vi nn, vr 227] [vr 226] (w.1, urf w.2.1 226 0 273, w.2.2)
    refine ks_step hx htr hZ hts hnw hA hM hf1 hf2 (i := .aload_n 2) (len := 1) rfl ?_
    show Ks p l e R s mid args below meth c dC dI tc A w0 θ0 231 Q 43 [vr 226, vi nn, vr 227] [vr 227, vr 226] (w.1, urf w.2.1 226 0 273, w.2.2)
    refine ks_step hx htr hZ hts hnw hA hM hf1 hf2 (i := .putfield 16) (len := 3) rfl ?_
    show gd (Nat.ble 16 (tg w 226) && Nat.ble (tg w 226) 16) (Ks p l e R s mid args below meth c dC dI tc A w0 θ0 231 Q 46 [vr 226, vi nn, vr 227] [] (w.1, urf (urf w.2.1 226 0 273) 226 1 227, w.2.2))
    refine gd_i (by rw [ht]; rfl) ?_
    intro θ fe H locs cells slots lsJ hF hl hs hsb
    subst hQ
    refine hB p l e R s mid args below meth c dC dI tc A w0 θ0 (fun a => θ (sg1 a)) (fun a => fe (sg1 a)) (swp sg1 w 226 0 1) H locs cells slots [vr 226, vi nn, vu] [] lsJ 231 46 Qm hx htr hZ hts hnw hA hM hf1 hf2 hw (fr_ren sg1_1 sg1_2 sg1_3 rfl (by decide) rfl h1 h2 hy hF) ⟨hl.1, ⟨hl.2.1.1, hl.2.1.2.1, fun q hq => hl.2.1.2.2 q ?_⟩, fun v hv => ?_⟩ (fun v hv => by cases hv) (fun a ha hmv => ?_)
    · refine prs_mem.mpr ?_
      have hq := prs_mem.mp hq
      obtain ⟨k, v⟩ := q
      match k, hq with
      | 0, hq => exact hq
      | 1, hq => exact hq
      | 2, hq => cases hq
      | k + 3, hq => cases hq
    · simp only [List.mem_cons, List.not_mem_nil, or_false] at hv
      rcases hv with rfl | rfl | rfl
      · exact hl.2.2 _ List.mem_cons_self
      · exact hl.2.2 (vi nn) (List.mem_cons_of_mem _ List.mem_cons_self)
      · trivial
    · show θ (sg1 a) = θ0 a
      rw [sg1_2 a ?_]
      · exact hsb a ha hmv
      · unfold mvb at hmv
        rw [Bool.or_eq_false_iff] at hmv
        exact hmv.2
  · exact hw.elim
end Swap
