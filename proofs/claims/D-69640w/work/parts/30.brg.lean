/-! the bridge, over what is left: the library's methods 601, 602, and the places where a few instructions are one step -/
/-- by which instruction the library's methods are called -/
def invK (m2 : Nat) : Nat := bif Nat.beq m2 604 then 1 else 2
/-- a call of a library's method, as one step -/
def PrimOK (n : Nat) : Prop := Brg n → ∀ (p : Program) (l : Launch) (e : Env) (R : Room) (s : State) (mid : MethodId) (args : Array Value) (below : List Frame) (meth : Method) (c : Code) (dC : Nat → ClassId) (dI : Nat → Nat → Nat) (tc : Nat → ClassId) (A : Nat → Prop) (w0 : Wd) (θ0 θ : Nat → Nat) (fe : Nat → List Value) (w : Wd) (H : Heap) (locs : List Loc) (cells slots : Nat) (ls st : List Vl) (lsJ : Array Slot) (m pc : Nat) (Qm : Out → Wd → Prop), p.tables.exec = Jvm.exec → e.platform.stackTraces = false → Stc A s → (∀ w ∈ lw_all, w.before args s = true) → (∀ w ∈ nws, va_Nw w s) → (∀ q, s.heap.size ≤ q → A q) → Mth m s mid meth c → (inf m).2.2.1 ≤ R.frames → 45 * (inf m).2.2.1 ≤ R.locals → Fr dC dI tc A s R w0 θ fe w H locs cells slots → Ls θ (nx w) ls lsJ (inf m).2.1 → Stb m w0 θ0 θ → ∀ (m2 q j np : Nat) (as rest : List Vl), 601 ≤ m2 → (q = (inf m).1 * 1000 + j ∧ j ≤ 999) → rclC q (invK m2, np, m2, 0, 0) = true → as.length = np → st = as.reverse ++ rest → (∀ v ∈ st, okv (nx w) v) → decode c.code pc = .ok (invI (invK m2) j, 3) → pdep m2 + 1 ≤ (inf m).2.2.1 → wt rest ≤ 8 → (∀ v ∈ ls, stb w m2 v = true) → (∀ v ∈ rest, stb w m2 v = true) → prP m2 as w (aft (wpn n) m pc ls rest Qm) → W p l e R s mid args below meth c H locs cells slots (Fin below s R dC dI tc A w0 θ0 m Qm) (F0 mid pc lsJ (st.map (vlv θ)))
/-- a place where a few instructions are one step -/
def MacOK (n : Nat) : Prop := Brg n → ∀ (p : Program) (l : Launch) (e : Env) (R : Room) (s : State) (mid : MethodId) (args : Array Value) (below : List Frame) (meth : Method) (c : Code) (dC : Nat → ClassId) (dI : Nat → Nat → Nat) (tc : Nat → ClassId) (A : Nat → Prop) (w0 : Wd) (θ0 θ : Nat → Nat) (fe : Nat → List Value) (w : Wd) (H : Heap) (locs : List Loc) (cells slots : Nat) (ls st : List Vl) (lsJ : Array Slot) (m pc : Nat) (Qm : Out → Wd → Prop), p.tables.exec = Jvm.exec → e.platform.stackTraces = false → Stc A s → (∀ w ∈ lw_all, w.before args s = true) → (∀ w ∈ nws, va_Nw w s) → (∀ q, s.heap.size ≤ q → A q) → Mth m s mid meth c → (inf m).2.2.1 ≤ R.frames → 45 * (inf m).2.2.1 ≤ R.locals → Fr dC dI tc A s R w0 θ fe w H locs cells slots → Ls θ (nx w) ls lsJ (inf m).2.1 → Stb m w0 θ0 θ → st = [] → mac m pc ≠ 0 → stp (wpn n) (wpn n) m pc ls st w Qm → W p l e R s mid args below meth c H locs cells slots (Fin below s R dC dI tc A w0 θ0 m Qm) (F0 mid pc lsJ (st.map (vlv θ)))
theorem wt_app : ∀ a b : List Vl, wt (a ++ b) = wt a + wt b
  | [], b => by simp [wt]
  | .inl x :: t, b => by have := wt_app t b; simp only [List.cons_append, wt, this]; omega
  | .inr (.inl x) :: t, b => by have := wt_app t b; simp only [List.cons_append, wt, this]; omega
  | .inr (.inr (.inl x)) :: t, b => by have := wt_app t b; simp only [List.cons_append, wt, this]; omega
  | .inr (.inr (.inr ())) :: t, b => by have := wt_app t b; simp only [List.cons_append, wt, this]; omega
theorem wt_rev : ∀ a : List Vl, wt a.reverse = wt a
  | [] => rfl
  | x :: t => by
    have h1 := wt_rev t
    have h2 : wt (x :: t) = wt [x] + wt t := wt_app [x] t
    rw [List.reverse_cons, wt_app, h1, h2, Nat.add_comm]
theorem inv_len {pc kd j len : Nat} (h : okI pc (invI kd j) len = true) : len = 3 := match kd, h with
  | 0, h => lenK (K := 3) h
  | 1, h => lenK (K := 3) h
  | _ + 2, h => lenK (K := 3) h
theorem inv_sm {own kd j : Nat} (h : smI own (invI kd j) = true) : j ≤ 999 := match kd, h with
  | 0, h => Nat.le_of_ble_eq_true h
  | 1, h => Nat.le_of_ble_eq_true h
  | _ + 2, h => Nat.le_of_ble_eq_true h
section Bridge
variable {p : Program} {l : Launch} {e : Env} {R : Room} {s : State} {mid : MethodId} {args : Array Value} {below : List Frame} {meth : Method} {c : Code} {dC : Nat → ClassId} {dI : Nat → Nat → Nat} {tc : Nat → ClassId} {A : Nat → Prop} {w0 : Wd} {θ0 : Nat → Nat} {θ : Nat → Nat} {fe : Nat → List Value} {w : Wd} {H : Heap} {locs : List Loc} {cells slots : Nat} {ls st : List Vl} {lsJ : Array Slot} {m pc len n : Nat} {Qm : Out → Wd → Prop}
theorem call_go {kd np m2 lo hi j : Nat} {as rest : List Vl} (hP : PrimOK n) (hB : Brg n) (hx : p.tables.exec = Jvm.exec) (htr : e.platform.stackTraces = false) (hZ : Stc A s) (hts : ∀ w ∈ lw_all, w.before args s = true) (hnw : ∀ w ∈ nws, va_Nw w s) (hA : ∀ q, s.heap.size ≤ q → A q) (hM : Mth m s mid meth c) (hf1 : (inf m).2.2.1 ≤ R.frames) (hf2 : 45 * (inf m).2.2.1 ≤ R.locals) (hF : Fr dC dI tc A s R w0 θ fe w H locs cells slots) (hl : Ls θ (nx w) ls lsJ (inf m).2.1) (hsb : Stb m w0 θ0 θ) (hs : ∀ v ∈ st, okv (nx w) v) (hr : rcl ((inf m).1 * 1000 + j) = some (kd, np, m2, lo, hi)) (hj : j ≤ 999) (hdg : decode c.code pc = .ok (invI kd j, 3)) (hst : st = as.reverse ++ rest) (hnp : as.length = np)
    (hdep : pdep m2 + 1 ≤ (inf m).2.2.1) (hwt : wt rest ≤ 8) (hwa : 600 ≤ m2 ∨ wt as ≤ (inf m2).2.1) (hstl : ∀ v ∈ ls, stb w m2 v = true) (hstr : ∀ v ∈ rest, stb w m2 v = true) (hrv : 1 ≤ kd → ∃ a as', as = vr a :: as' ∧ (Nat.ble lo (tg w a) && Nat.ble (tg w a) hi) = true) (hc : cK (wpn n) m2 as w (aft (wpn n) m pc ls rest Qm)) : W p l e R s mid args below meth c H locs cells slots (Fin below s R dC dI tc A w0 θ0 m Qm) (F0 mid pc lsJ (st.map (vlv θ))) := by
  obtain ⟨hrc, hoi⟩ := rc_all hr
  obtain ⟨c1, c2, c3⟩ := clr_all hr
  have eq1 : ((inf m).1 * 1000 + j) / 1000 = (inf m).1 := by omega
  have eq2 : ((inf m).1 * 1000 + j) % 1000 = j := by omega
  unfold cK at hc
  cases hb : Nat.ble 600 m2 with
  | false =>
    rw [hb] at hc
    have hlt : m2 < 600 := by
      rcases Nat.lt_or_ge m2 600 with h | h
      · exact h
      · rw [Nat.ble_eq_true_of_le h] at hb; cases hb
    have hm2 : m2 < 399 := by
      rcases c2 with h | h
      · exact h
      · have h : 600 ≤ m2 := h
        omega
    have hpd : pdep m2 = (inf m2).2.2.1 := by
      unfold pdep
      rw [Nat.ble_eq_true_of_le (show m2 ≤ 599 by omega)]
      rfl
    have hcl := cl_all hr hlt
    rw [eq1, eq2] at hcl
    refine call_sim (ig := invI kd j) hB hx htr hZ hts hnw hA hM hf1 hf2 hF hl (fun v hv => hs v (by rw [hst]; exact List.mem_append_left _ (List.mem_reverse.mpr hv))) (fun v hv => hs v (by rw [hst]; exact List.mem_append_right _ hv)) hsb hdg hm2 (by rw [← hpd]; exact hdep) hwt (hwa.resolve_left (by omega)) hstl hstr (fun h4 => ?_) (fun T hT X => ?_) hc
    · unfold rclC at hrc
      simp only [Bool.and_eq_true, Bool.or_eq_true, Bool.not_eq_true'] at hrc
      have := hrc.1.1.1.1.2
      rw [eq1] at this
      rcases this with h | h
      · rcases h4 with rfl | rfl <;> cases h
      · exact Nat.eq_of_beq_eq_true h
    · refine hcl p l e R s mid args below meth c T locs cells slots X hx hts hnw hM.2.2.2.2.2.1 (F0 mid pc lsJ (st.map (vlv θ))) (as.map (vlv θ)) (rest.map (vlv θ)) rfl (by rw [List.length_map]; exact hnp) (by rw [hst, List.map_append, List.map_reverse]) hdg ?_
      match kd, hrv, c3 with
      | 0, _, _ => exact trivial
      | kd + 1, hrv, c3 =>
        obtain ⟨a, as', ha, hg⟩ := hrv (by omega)
        obtain ⟨b1, b2, -⟩ := c3 (Nat.succ_le_succ (Nat.zero_le _)) hlt
        obtain ⟨k50, kn, k1, k2, kat⟩ := cell_c hF b1 b2 hg
        have k1 : lo ≤ tg w a := k1
        have k2 : tg w a ≤ hi := k2
        have b1 : 1 ≤ lo := b1
        have b2 : hi ≤ 17 := b2
        have hex : ∃ q, cls[tg w a - 1]? = some q := by
          have : tg w a - 1 < cls.length := by show _ < 18; omega
          exact ⟨_, List.getElem?_eq_getElem this⟩
        obtain ⟨q, hq⟩ := hex
        obtain ⟨cell, hce, hob, hfc⟩ := va_recv hF.1 hF.2.1 hq kat
        refine ⟨θ a, as'.map (vlv θ), tg w a - 1, cell, by rw [ha]; rfl, by omega, by omega, by rw [hT]; exact hce, hob, fun q' hq' => ?_⟩
        cases hq.symm.trans hq'
        exact hfc
  | true =>
    rw [hb] at hc
    have h600 := Nat.le_of_ble_eq_true hb
    by_cases h0 : m2 = 600
    · subst h0
      have hk : kd = 1 ∧ np = 1 := by
        unfold rclC at hrc
        simp only [Bool.and_eq_true, Bool.or_eq_true, Bool.not_eq_true'] at hrc
        have := hrc.1.1.1.2
        rcases this with h | h
        · cases h
        · exact ⟨Nat.eq_of_beq_eq_true h.1, Nat.eq_of_beq_eq_true h.2⟩
      obtain ⟨rfl, rfl⟩ := hk
      obtain ⟨a, as', rfl, -⟩ := hrv (by omega)
      obtain rfl : as' = [] := List.eq_nil_of_length_eq_zero (by simpa using hnp)
      subst hst
      have hl0 := hoi rfl
      rw [eq1, eq2] at hl0
      exact prim_600 hB hx htr hZ hts hnw hA hM hf1 hf2 hF hl hsb (fun v hv => hs v (List.mem_append_right _ hv)) hl0 hdg hdep hwt hc
    · have hkd : kd = invK m2 := by
        unfold rclC at hrc
        simp only [Bool.and_eq_true, Bool.or_eq_true, Bool.not_eq_true'] at hrc
        obtain ⟨⟨⟨-, h1⟩, h2⟩, h4⟩ := hrc
        unfold prP at hc
        rw [nbeq h0] at hc
        by_cases e1 : m2 = 601
        · subst e1
          rcases h1 with h | h
          · cases h
          · exact Nat.eq_of_beq_eq_true h.1.1
        · rw [nbeq e1] at hc
          by_cases e2 : m2 = 602
          · subst e2
            rcases h2 with h | h
            · cases h
            · exact Nat.eq_of_beq_eq_true h.1.1
          · rw [nbeq e2] at hc
            exact hc.elim
      subst hkd
      have hrc' : rclC ((inf m).1 * 1000 + j) (invK m2, np, m2, 0, 0) = true := hrc
      exact hP hB p l e R s mid args below meth c dC dI tc A w0 θ0 θ fe w H locs cells slots ls st lsJ m pc Qm hx htr hZ hts hnw hA hM hf1 hf2 hF hl hsb m2 _ j np as rest (by omega) ⟨rfl, hj⟩ hrc' hnp hst hs hdg hdep hwt hstl hstr hc
theorem brg_step (hP : PrimOK n) (hC : MacOK n) (hB : Brg n) : Brg (n + 1) := by
  intro p l e R s mid args below meth c dC dI tc A w0 θ0 θ fe w H locs cells slots ls st lsJ m pc Qm hx htr hZ hts hnw hA hM hf1 hf2 hw hF hl hs hsb
  have hw : stp (wpn n) (wpn n) m pc ls st w Qm := hw
  by_cases hmac : mac m pc = 0
  · unfold stp at hw
    rw [hmac, show Nat.beq 0 0 = true from rfl, cond_true] at hw
    split at hw
    · exact hw.elim
    · next i len hlk =>
      obtain ⟨ho, hd⟩ := hM.2.1 pc i len hlk
      have hm4 : m < 400 := by have := hM.1; omega
      have hsm := sm_all hm4 hlk
      have htb := tbI_all hm4 hlk
      unfold tbI at htb
      simp only [Bool.and_eq_true] at htb
      obtain ⟨⟨hst, hrw⟩, hth⟩ := htb
      generalize hk : kin i = kk at hw
      obtain ⟨k, kd, j⟩ := kk
      match k, hk, hw with
      | 0, hk, hw =>
        exact ex_sim hx hts hM.2.2.2.2.2.1 hA hM.2.2.2.2.2.2.1 hF hl hs (fun pc' ls' st' w' θ' fe' H' locs' cells' slots' lsJ' hk' hF' hl' hs' hθ hn => hB p l e R s mid args below meth c dC dI tc A w0 θ0 θ' fe' w' H' locs' cells' slots' ls' st' lsJ' m pc' Qm hx htr hZ hts hnw hA hM hf1 hf2 hk' hF' hl' hs' (fun a ha hmv => (hθ a (Nat.lt_of_lt_of_le ha hF.2.2.2.2.2.1.2.2.1)).trans (hsb a ha hmv))) i hd ho hsm hst (fun hr t ht => by
          subst ht
          unfold rwI at hrw
          rw [hr] at hrw
          cases t <;> first | rfl | cases hrw) hw
      | 1, hk, hw =>
        obtain rfl := kin_1 hk
        obtain rfl := inv_len ho
        have hj := inv_sm hsm
        have hw : exC m kd j ls st w (fun m2 as rest => cK (wpn n) m2 as w (aft (wpn n) m pc ls rest Qm)) := hw
        unfold exC at hw
        split at hw
        · next kd' np m2 lo hi hr =>
          obtain ⟨hg, hw⟩ := gd_e hw
          simp only [Bool.and_eq_true, Bool.or_eq_true] at hg
          obtain ⟨⟨⟨⟨⟨g1, g2⟩, g3⟩, g4⟩, g5⟩, g6, g7⟩ := hg
          obtain rfl := Nat.eq_of_beq_eq_true g1
          have g2 := Nat.le_of_ble_eq_true g2
          have hsp : st = (st.take np).reverse.reverse ++ st.drop np := by rw [List.reverse_reverse, List.take_append_drop]
          have hln : (st.take np).reverse.length = np := by rw [List.length_reverse, List.length_take]; omega
          have hwa : 600 ≤ m2 ∨ wt (st.take np).reverse ≤ (inf m2).2.1 := by
            rw [wt_rev]
            exact g5.imp Nat.le_of_ble_eq_true Nat.le_of_ble_eq_true
          have g6 := List.all_eq_true.mp g6
          have g7 := List.all_eq_true.mp g7
          match kd', hr, hd, hw with
          | 0, hr, hd, hw => exact call_go (as := (st.take np).reverse) hP hB hx htr hZ hts hnw hA hM hf1 hf2 hF hl hsb hs hr hj hd hsp hln (Nat.le_of_ble_eq_true g3) (Nat.le_of_ble_eq_true g4) hwa g6 g7 (fun h => absurd h (by decide)) hw
          | kd + 1, hr, hd, hw =>
            generalize hE : (st.take np).reverse = E at hw hsp hln hwa
            match E, hw, hsp, hln, hwa with
            | .inr (.inr (.inl a)) :: as, hw, hsp, hln, hwa =>
              obtain ⟨hg, hw⟩ := gd_e hw
              exact call_go (as := vr a :: as) hP hB hx htr hZ hts hnw hA hM hf1 hf2 hF hl hsb hs hr hj hd hsp hln (Nat.le_of_ble_eq_true g3) (Nat.le_of_ble_eq_true g4) hwa g6 g7 (fun _ => ⟨a, as, rfl, hg⟩) hw
        · exact hw.elim
      | 2, hk, hw => exact ret_sim i hx hM hd ho hw hF hs hsb
      | k + 3, hk, hw =>
        obtain rfl := kin_3 hk
        obtain rfl := lenK (K := 1) ho
        have hw : oA st fun x _ => gd (Nat.beq (tg w x) 18) (thr m pc (fun h => wpn n m h ls [vr x] w Qm) (Qm (.inr x) w)) := hw
        have hm : m ≠ 4 := fun q => by
          subst q
          cases hth
        match st, hw with
        | .inr (.inr (.inl x)) :: st', hw =>
          obtain ⟨hg, hw⟩ := gd_e hw
          unfold thr at hw
          rw [nbeq hm] at hw
          exact thr_sim hx hM (fun y hy => by rw [hM.2.2.2.2.2.2.2.1 hm] at hy; cases hy) hd (Nat.eq_of_beq_eq_true hg) hw hF hsb
  · have hst : st = [] := by
      unfold stp at hw
      rw [nbeq hmac, cond_false] at hw
      match st, hw with
      | [], _ => rfl
    exact hC hB p l e R s mid args below meth c dC dI tc A w0 θ0 θ fe w H locs cells slots ls st lsJ m pc Qm hx htr hZ hts hnw hA hM hf1 hf2 hF hl hsb hst hmac hw
/-- the bridge, over what is left -/
theorem brg_all (hP : ∀ n, PrimOK n) (hC : ∀ n, MacOK n) : ∀ n, Brg n
  | 0 => fun p l e R s mid args below meth c dC dI tc A w0 θ0 θ fe w H locs cells slots ls st lsJ m pc Qm hx htr hZ hts hnw hA hM hf1 hf2 hw hF hl hs hsb => hw.elim
  | n + 1 => brg_step (hP n) (hC n) (brg_all hP hC n)
end Bridge
