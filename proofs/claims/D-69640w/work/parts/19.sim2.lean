section Sim2
variable {p : Program} {l : Launch} {e : Env} {R : Room} {s : State} {mid : MethodId} {args : Array Value} {below : List Frame} {meth : Method} {c : Code} {Q : State → Prop} {dC : Nat → ClassId} {dI : Nat → Nat → Nat} {tc : Nat → ClassId} {A : Nat → Prop} {w0 : Wd}
variable {θ : Nat → Nat} {fe : Nat → List Value} {w : Wd} {H : Heap} {locs : List Loc} {cells slots : Nat} {ls st : List Vl} {lsJ : Array Slot} {nL m pc len own ini : Nat} {k : Nat → List Vl → List Vl → Wd → Prop}
theorem sim_get (hx : p.tables.exec = Jvm.exec) (hts : ∀ w ∈ lw_all, w.before args s = true) (hown : s.vm.findClass (owS own) = some mid.cls) (hA : ∀ q, s.heap.size ≤ q → A q) (hin : 1 ≤ ini → meth.name = "<init>") (hF : Fr dC dI tc A s R w0 θ fe w H locs cells slots) (hl : Ls θ (nx w) ls lsJ nL) (hs : ∀ v ∈ st, okv (nx w) v) (G : Go p l e R s mid args below meth c Q dC dI tc A w0 nL θ (nx w) k) {j : Nat} (hd : decode c.code pc = .ok (.getfield j, 3)) (hsm : smI own (.getfield j) = true) (he : exP m own ini pc 3 (.getfield j) ls st w k) : W p l e R s mid args below meth c H locs cells slots Q (F0 mid pc lsJ (st.map (vlv θ))) := by
  have hsm : (Nat.ble j 999 && fug (own * 1000 + j)) = true := hsm
  rw [Bool.and_eq_true] at hsm
  obtain ⟨e1, e2⟩ := q_own (own := own) hsm.1
  unfold exP at he
  dsimp only at he
  split at he
  · next lo hi f t fin hr =>
    obtain ⟨a, st', rfl, he1⟩ := oA_e he
    obtain ⟨hg, he⟩ := gd_e he1
    obtain ⟨r1, r2, r3, r4, r5, r6, r7⟩ := rf_all hr
    dsimp only at r1 r2 r3 r4 r5 r6 r7
    obtain ⟨h50, hn, g1, g2, hw⟩ := cell_c hF r1 r3 hg
    have hf : f < nf (tg w a) ∧ knd (tg w a) f = t := by
      rcases (show tg w a = lo ∨ tg w a = hi by omega) with q | q
      · rw [q]; exact r5
      · rw [q]; exact r6
    have hv : ((List.range (nf (tg w a))).map fun k => fvl θ (w.1 a) (w.2.1 a) k (knd (tg w a) k))[f]? = some (fvl θ (w.1 a) (w.2.1 a) f t) := by
      rw [List.getElem?_map, List.getElem?_range hf.1]
      simp only [Option.map_some]
      rw [hf.2]
    have gf := gf_all hr hsm.2
    rw [e1, e2] at gf
    dsimp only at gf
    refine gf p l e R s mid args below meth c H locs cells slots Q pc lsJ (st'.map (vlv θ)) (dC, dI) (tysf tc) (wsf θ fe tc w) (θ a) (a - 50) (tg w a - 1) _ _ hx hts hown hF.1 hF.2.1 hw (by omega) (by omega) hv hd ?_
    have hW := hF.2.2.2.2.1
    unfold getF at he
    split at he
    · exact go1 G hF hl (st' := vl (w.1 a f) :: st') he (ok_c (hW.2.2.2.2.1 a f).1 (ok_t hs))
    · obtain ⟨hg, he⟩ := gd_e he
      have hg := Nat.le_of_ble_eq_true hg
      have : fvl θ (w.1 a) (w.2.1 a) f 2 = .ref (θ (gr w a f)) := by
        unfold fvl
        rw [nbeq (show w.2.1 a f ≠ 0 by have : 1 ≤ w.2.1 a f := hg; omega)]
        rfl
      rw [this]
      exact go1 G hF hl (st' := vr (gr w a f) :: st') he (ok_c ⟨hg, hW.2.2.2.2.2 a f⟩ (ok_t hs))
    · next n1 n2 =>
      have : fvl θ (w.1 a) (w.2.1 a) f t = .int (Int32.ofInt (w.1 a f)) := by
        unfold fvl
        split
        · exact absurd rfl n1
        · exact absurd rfl n2
        · rfl
      rw [this]
      refine go1 G hF hl (st' := vi (w.1 a f) :: st') he (ok_c ((hW.2.2.2.2.1 a f).2.1 ?_) (ok_t hs))
      unfold lng
      rw [nbeq (show tg w a ≠ 54 by omega), show ((f : Int)).toNat = f by omega, hf.2, nbeq n1]
      simp
  · exact he.elim
theorem ety_put {θ : Nat → Nat} {fe : Nat → List Value} {tc : Nat → ClassId} {a f t : Nat} {d : Int → Int} {r : Nat → Nat} {tl : Nat × Nat} {v : Value} {d' : Int → Int} {r' : Nat → Nat} (h1 : 1 ≤ tl.1) (h2 : tl.1 ≤ 17) (hk : knd tl.1 f = t) (hv : fvl θ d' r' f t = v) (ho : ∀ j : Nat, j ≠ f → d' j = d j ∧ r' j = r j) : (.inr (tl.1 - 1, ((List.range (nf tl.1)).map fun k => fvl θ d r k (knd tl.1 k)).set f v) : va_E) = ety θ fe tc a d' r' tl := by
  unfold ety
  rw [nbeq (show tl.1 ≠ 18 by omega), show Nat.ble tl.1 17 = true from Nat.ble_eq_true_of_le h2]
  simp only [cond_false, cond_true]
  rw [map_set]
  congr 2
  apply List.map_congr_left
  intro j _
  by_cases e : j = f
  · subst e
    rw [if_pos rfl, ← hv, hk]
  · rw [if_neg e]
    obtain ⟨q1, q2⟩ := ho j e
    unfold fvl
    rw [q1, q2]
theorem sim_put (hx : p.tables.exec = Jvm.exec) (hts : ∀ w ∈ lw_all, w.before args s = true) (hown : s.vm.findClass (owS own) = some mid.cls) (hA : ∀ q, s.heap.size ≤ q → A q) (hin : 1 ≤ ini → meth.name = "<init>") (hF : Fr dC dI tc A s R w0 θ fe w H locs cells slots) (hl : Ls θ (nx w) ls lsJ nL) (hs : ∀ v ∈ st, okv (nx w) v) (G : Go p l e R s mid args below meth c Q dC dI tc A w0 nL θ (nx w) k) {j : Nat} (hd : decode c.code pc = .ok (.putfield j, 3)) (hsm : smI own (.putfield j) = true) (he : exP m own ini pc 3 (.putfield j) ls st w k) : W p l e R s mid args below meth c H locs cells slots Q (F0 mid pc lsJ (st.map (vlv θ))) := by
  have hsm : (Nat.ble j 999 && fup (own * 1000 + j)) = true := hsm
  rw [Bool.and_eq_true] at hsm
  obtain ⟨e1, e2⟩ := q_own (own := own) hsm.1
  unfold exP at he
  dsimp only at he
  split at he
  · next lo hi f t fin hr =>
    obtain ⟨hfin, he⟩ := gd_e he
    have hfin := Nat.le_of_ble_eq_true hfin
    obtain ⟨r1, r2, r3, r4, r5, r6, r7⟩ := rf_all hr
    dsimp only at r1 r2 r3 r4 r5 r6 r7
    have pf := pf_all hr hsm.2
    rw [e1, e2] at pf
    dsimp only at pf
    have hkn : ∀ {a : Nat}, lo ≤ tg w a → tg w a ≤ hi → f < nf (tg w a) ∧ knd (tg w a) f = t := fun {a} g1 g2 => by
      rcases (show tg w a = lo ∨ tg w a = hi by omega) with q | q
      · rw [q]; exact r5
      · rw [q]; exact r6
    have hlen : ∀ {a : Nat}, f < nf (tg w a) → f < ((List.range (nf (tg w a))).map fun k => fvl θ (w.1 a) (w.2.1 a) k (knd (tg w a) k)).length := fun h => by simpa using h
    have hini : fin = 1 → meth.name = "<init>" := fun q => hin (by omega)
    unfold putF at he
    split at he
    · obtain ⟨x, st1, rfl, he1⟩ := o1_e he
      obtain ⟨a, st2, rfl, he2⟩ := oA_e he1
      obtain ⟨hg, he⟩ := gd_e he2
      obtain ⟨h50, hn, g1, g2, hw⟩ := cell_c hF r1 r3 hg
      obtain ⟨k1, k2⟩ := hkn g1 g2
      have hxx : r32 x := ok_h hs
      refine pf p l e R s mid args below meth c H locs cells slots Q pc lsJ (st2.map (vlv θ)) (dC, dI) (tysf tc) (wsf θ fe tc w) (θ a) (a - 50) (tg w a - 1) _ (.int (Int32.ofInt x)) A s.heap hx hts hown hF.1 hF.2.1 hF.2.2.1 hF.2.2.2.1 hw (by omega) (by omega) hini ⟨_, rfl⟩ (hlen k1) hd fun H1 locs1 hP1 hD1 hS1 => ?_
      have hF' := fr_up (a := a) (i := f) (v := x) hF h50 hn (by omega) (r64_32 hxx) (fun _ => hxx) (fun q => by omega) (fun q => by omega) (ety_put (tl := w.2.2.1 a) (d := w.1 a) (r := w.2.1 a) (Nat.le_trans r1 g1) (Nat.le_trans g2 r3) k2 (by unfold fvl; simp only [up_at, ↓reduceIte]) (fun j hj => ⟨by rw [up_at, if_neg (by omega)], rfl⟩)) hP1 hD1 hS1
      exact G _ _ _ _ _ _ _ _ _ _ _ he hF' hl (ok_t (ok_t hs)) (fun _ _ => rfl) (Nat.le_refl _)
    · obtain ⟨x, st1, rfl, he1⟩ := oL_e he
      obtain ⟨a, st2, rfl, he2⟩ := oA_e he1
      obtain ⟨hg, he⟩ := gd_e he2
      obtain ⟨h50, hn, g1, g2, hw⟩ := cell_c hF r1 r3 hg
      obtain ⟨k1, k2⟩ := hkn g1 g2
      have hxx : r64 x := ok_h hs
      refine pf p l e R s mid args below meth c H locs cells slots Q pc lsJ (st2.map (vlv θ)) (dC, dI) (tysf tc) (wsf θ fe tc w) (θ a) (a - 50) (tg w a - 1) _ (.long (Int64.ofInt x)) A s.heap hx hts hown hF.1 hF.2.1 hF.2.2.1 hF.2.2.2.1 hw (by omega) (by omega) hini ⟨_, rfl⟩ (hlen k1) hd fun H1 locs1 hP1 hD1 hS1 => ?_
      have hlg : lng (tg w a) (f : Int) = true := by
        unfold lng
        rw [show ((f : Int)).toNat = f by omega, k2, show Nat.ble (tg w a) 17 = true from Nat.ble_eq_true_of_le (by omega)]
        simp
      have hF' := fr_up (a := a) (i := f) (v := x) hF h50 hn (by omega) hxx (fun q => by rw [hlg] at q; cases q) (fun q => by omega) (fun q => by omega) (ety_put (tl := w.2.2.1 a) (d := w.1 a) (r := w.2.1 a) (Nat.le_trans r1 g1) (Nat.le_trans g2 r3) k2 (by unfold fvl; simp only [up_at, ↓reduceIte]) (fun j hj => ⟨by rw [up_at, if_neg (by omega)], rfl⟩)) hP1 hD1 hS1
      exact G _ _ _ _ _ _ _ _ _ _ _ he hF' hl (ok_t (ok_t hs)) (fun _ _ => rfl) (Nat.le_refl _)
    · obtain ⟨x, st1, rfl, he1⟩ := oA_e he
      obtain ⟨a, st2, rfl, he2⟩ := oA_e he1
      obtain ⟨hg, he⟩ := gd_e he2
      obtain ⟨h50, hn, g1, g2, hw⟩ := cell_c hF r1 r3 hg
      obtain ⟨k1, k2⟩ := hkn g1 g2
      have hxx : 1 ≤ x ∧ x < nx w := ok_h hs
      have hz : x ≠ 0 := by omega
      · refine pf p l e R s mid args below meth c H locs cells slots Q pc lsJ (st2.map (vlv θ)) (dC, dI) (tysf tc) (wsf θ fe tc w) (θ a) (a - 50) (tg w a - 1) _ (.ref (θ x)) A s.heap hx hts hown hF.1 hF.2.1 hF.2.2.1 hF.2.2.2.1 hw (by omega) (by omega) hini ⟨_, rfl⟩ (hlen k1) hd fun H1 locs1 hP1 hD1 hS1 => ?_
        have hF' := fr_urf (a := a) (f := f) (v := x) hF h50 hn hxx.2 (ety_put (tl := w.2.2.1 a) (d := w.1 a) (r := w.2.1 a) (Nat.le_trans r1 g1) (Nat.le_trans g2 r3) k2 (by unfold fvl; rw [urf_at, if_pos rfl, nbeq hz]; rfl) (fun j hj => ⟨rfl, by rw [urf_at, if_neg hj]⟩)) hP1 hD1 hS1
        exact G _ _ _ _ _ _ _ _ _ _ _ he hF' hl (ok_t (ok_t hs)) (fun _ _ => rfl) (Nat.le_refl _)
    · next n0 n1 n2 =>
      obtain ⟨x, st1, rfl, he1⟩ := o1_e he
      obtain ⟨a, st2, rfl, he2⟩ := oA_e he1
      obtain ⟨hg, hb, he3⟩ := gd_e he2
      obtain ⟨h50, hn, g1, g2, hw⟩ := cell_c hF r1 r3 hg
      obtain ⟨k1, k2⟩ := hkn g1 g2
      have hxx : r32 x := ok_h hs
      have ht3 : t = 3 := by
        have : t ≠ 0 := n0
        have : t ≠ 1 := n1
        have : t ≠ 2 := n2
        omega
      subst ht3
      have hvk : vok 3 (.int (Int32.ofInt x)) := by
        rcases (show x = 0 ∨ x = 1 by omega) with rfl | rfl
        · exact Or.inl rfl
        · exact Or.inr rfl
      refine pf p l e R s mid args below meth c H locs cells slots Q pc lsJ (st2.map (vlv θ)) (dC, dI) (tysf tc) (wsf θ fe tc w) (θ a) (a - 50) (tg w a - 1) _ (.int (Int32.ofInt x)) A s.heap hx hts hown hF.1 hF.2.1 hF.2.2.1 hF.2.2.2.1 hw (by omega) (by omega) hini hvk (hlen k1) hd fun H1 locs1 hP1 hD1 hS1 => ?_
      have hF' := fr_up (a := a) (i := f) (v := x) hF h50 hn (by omega) (r64_32 hxx) (fun _ => hxx) (fun q => by omega) (fun q => by omega) (ety_put (tl := w.2.2.1 a) (d := w.1 a) (r := w.2.1 a) (Nat.le_trans r1 g1) (Nat.le_trans g2 r3) k2 (by unfold fvl; simp only [up_at, ↓reduceIte]) (fun j hj => ⟨by rw [up_at, if_neg (by omega)], rfl⟩)) hP1 hD1 hS1
      exact G _ _ _ _ _ _ _ _ _ _ _ he3 hF' hl (ok_t (ok_t hs)) (fun _ _ => rfl) (Nat.le_refl _)
  · exact he.elim
end Sim2
