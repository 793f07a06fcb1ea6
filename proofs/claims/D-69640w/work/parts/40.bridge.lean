/-! the making of the exception, as one step -/
set_option maxRecDepth 100000
theorem exn_ok (n : Nat) : ExnOK n := by
  intro hB p l e R s mid args below meth c dC dI tc A w0 θ0 θ fe w H locs cells slots ls lsJ Qm hx htr hZ hts hnw hA hM hf1 hf2 hF hl hsb hw
  unfold exN at hw
  split at hw
  · next a =>
    obtain ⟨hg, hw⟩ := gd_e hw
    rw [Bool.and_eq_true] at hg
    have ht : tg w a = 2 := Nat.eq_of_beq_eq_true hg.1
    have hrm := hg.2
    have hW := hF.2.2.2.2.1
    have hown : s.vm.findClass "SafeCode$Fault" = some mid.cls := hM.2.2.2.2.2.1
    have hsz : lsJ.size = c.maxLocals := by rw [hM.2.2.2.2.1]; exact hl.2.1.1
    have hfr : 7 ≤ R.frames := hf1
    have hlo : 315 ≤ R.locals := hf2
    obtain ⟨hla, ha1, ha2⟩ := hl.a (j := 0) (x := a) rfl
    obtain ⟨a50, anx⟩ := (hW.2.1 a).mp (by rw [ht]; rfl)
    have hcw := hW.cw
    have hfb := hF.2.2.2.2.2.1
    have hfc := hF.2.2.2.2.2.2.1
    have hrm' := hrm
    unfold roomy at hrm'
    rw [Bool.and_eq_true] at hrm'
    have m2 := Nat.le_of_ble_eq_true hrm'.2
    have hrs0 := hW.rs
    have hce : cells + 1 ≤ R.cells := by have := hfb.1; have := hfc.1; have := hcw.1; omega
    have hsl : slots + 6 ≤ R.slots := by have := hfb.2.1; have := hfc.2; have := hcw.2; omega
    refine lv_aload_n hx rfl (hM.2.1 4 (.aload_n 0) 1 rfl).2 rfl hla ?_
    refine W.newc hx rfl hown (hts _ q289) (hts _ q290) (hts _ q252) rfl (hM.2.1 5 (.new 7) 3 rfl).2 hce hsl fun cC kC hfC hkC hord hn6 => ?_
    have hKn := hF.1.1 17 (RJ3, TJ3, 6) rfl
    obtain rfl : dC 17 = cC := Option.some.inj (hKn.2.1.symm.trans hfC)
    have hpush : (H.push (blank (dC 17) kC))[H.size]? = some (blank (dC 17) kC) := by simp
    have hborn := u_born (o := H.size) (H := H.push (blank (dC 17) kC)) tyJ3 hts in_J3 hKn hkC hpush tyJ3_ok
    have hidx : ∀ k, k < 6 → dI 17 k < (blank (dC 17) kC).slots.size := fun k hk => by
      obtain ⟨cell, z1, -, -, z2⟩ := hborn
      cases Option.some.inj (z1.symm.trans hpush)
      exact (Array.getElem?_eq_some_iff.mp (z2 k hk)).1
    show W p l e R s mid args below meth c (H.push (blank (dC 17) kC)) locs (cells + 1) (slots + 6) _ (F0 mid 8 lsJ [.ref H.size, .ref (θ a)])
    refine lv_dup hx rfl (hM.2.1 8 .dup 1 rfl).2 rfl ?_
    intro T hT X
    have hTc : T.heap[H.size]? = some (freshCell (dC 17) kC) := by rw [hT]; exact hpush
    obtain ⟨vm', cell', k1, k2, k3, X', hst⟩ := mk_ise X hx htr hts hZ hF.2.2.2.1.2.2 hown hfC hkC hTc hF.2.2.2.1.1 (g := F0 mid 9 lsJ [.ref H.size, .ref H.size, .ref (θ a)]) rfl hsz (rest := [.ref H.size, .ref (θ a)]) rfl (hM.2.1 9 (.invokespecial 9) 3 rfl).2 (by omega) (by
      show 0 + 2 + 80 ≤ R.locals
      omega)
    have hlt : H.size < (T.setVm vm').heap.size := by
      show H.size < T.heap.size
      exact (Array.getElem?_eq_some_iff.mp hTc).1
    have hself : ((T.setVm vm').setCell H.size cell').heap[H.size]? = some cell' := heapAt_setCell_self cell' hlt
    have hoth : ∀ q : Nat, q < H.size → ((T.setVm vm').setCell H.size cell').heap[q]? = H[q]? := fun q hq => by
      rw [heapAt_setCell_ne cell' (show H.size ≠ q by omega)]
      show T.heap[q]? = _
      rw [hT]
      simp [Array.getElem?_push, Nat.ne_of_lt hq]
    have hsize2 : H.size ≤ ((T.setVm vm').setCell H.size cell').heap.size := Nat.le_of_lt (Array.getElem?_eq_some_iff.mp hself).1
    have hob : t_OB H.size (dC 17) 6 (dI 17) ((T.setVm vm').setCell H.size cell').heap (vp_V ((List.range 6).map fun k => (cell'.slots[dI 17 k]?).getD .null)) := by
      refine ⟨cell', hself, k1, k2, fun k hk => ?_⟩
      have hlt2 : dI 17 k < cell'.slots.size := by rw [k3]; exact hidx k hk
      unfold vp_V
      rw [List.getD_eq_getElem?_getD, List.getElem?_map, List.getElem?_range hk, Option.map_some, Option.getD_some, Array.getElem?_eq_getElem hlt2, Option.getD_some]
    have hP' : va_P (dC, dI) cls (wsf θ fe tc w ++ ([(H.size, .inr (17, (List.range 6).map fun k => (cell'.slots[dI 17 k]?).getD .null))] : va_W)) ((T.setVm vm').setCell H.size cell').heap := fun k x hx => by
      rcases Nat.lt_or_ge k (wsf θ fe tc w).length with z | z
      · rw [List.getElem?_append_left z] at hx
        have := hF.2.1 k x hx
        exact this.kept (hoth _ this.lt)
      · rw [List.getElem?_append_right z] at hx
        have h1 := (List.getElem?_eq_some_iff.mp hx).1
        simp only [List.length_cons, List.length_nil] at h1
        rw [show k - (wsf θ fe tc w).length = 0 by omega] at hx
        cases hx
        exact ⟨(RJ3, TJ3, 6), rfl, hob⟩
    have hD' : va_D A (wsf θ fe tc w ++ ([(H.size, .inr (17, (List.range 6).map fun k => (cell'.slots[dI 17 k]?).getD .null))] : va_W)) := hF.2.2.1.push hF.2.1 rfl (hA _ hF.2.2.2.1.1)
    have hS' : va_S A s.heap ((T.setVm vm').setCell H.size cell').heap locs := ⟨Nat.le_trans hF.2.2.2.1.1 hsize2, fun q h1 h2 => by rw [hoth q (Nat.lt_of_lt_of_le h1 hF.2.2.2.1.1)]; exact hF.2.2.2.1.2.1 q h1 h2, hF.2.2.2.1.2.2⟩
    obtain ⟨hW', hrs⟩ := hW.mc_ (t := 18) (n := 0) (sl := 6) rfl (by decide) (by decide) hrm
    have hF1 := fr_new (w' := mkc w 18 0 6) (q := H.size) (sl := 6) (fe' := fun x => if x = nx w then (List.range 6).map (fun k => (cell'.slots[dI 17 k]?).getD .null) else fe x) hF rfl rfl hW' (by rw [hrs]; exact Nat.le_refl _) (fun b hb => if_neg hb) (by
      show _ = ety _ _ tc (nx w) (zr w.1 (nx w) (nx w)) (zrf w.2.1 (nx w) (nx w)) (utg w.2.2.1 (nx w) (18, 0) (nx w))
      rw [utg_at]
      show (.inr (17, (List.range 6).map fun k => (cell'.slots[dI 17 k]?).getD .null) : va_E) = .inr (17, if nx w = nx w then _ else _)
      rw [if_pos rfl]) (fun b hb => ⟨zr_ne (Nat.ne_of_lt hb), zrf_ne (Nat.ne_of_lt hb), utg_ne (Nat.ne_of_lt hb)⟩) (fun b hb => by
      by_cases q : b = nx w
      · subst q
        have : tg (mkc w 18 0 6) (nx w) = 18 := by show (utg w.2.2.1 (nx w) (18, 0) (nx w)).1 = _; rw [utg_at]
        omega
      · have : tg (mkc w 18 0 6) b = tg w b := by show (utg w.2.2.1 (nx w) (18, 0) b).1 = _; rw [utg_ne q]
        rw [this] at hb; exact hb) hP' hD' hS'
    have hl1 : Ls (ext θ (nx w) H.size) (nx (mkc w 18 0 6)) [vr a] lsJ (inf 26).2.1 := hl.ext (Nat.le_succ _) fun x hx => ext_ne (by have := ok_ref hl.2.2 hx; omega)
    have hsb1 : Stb 26 w0 θ0 (ext θ (nx w) H.size) := fun x hx hmv => by
      rw [ext_ne (by have := hfb.2.2.1; omega)]
      exact hsb x hx hmv
    have hta : tg (mkc w 18 0 6) a = 2 := by
      show (utg w.2.2.1 (nx w) (18, 0) a).1 = 2
      rw [utg_ne (Nat.ne_of_lt anx)]
      exact ht
    have hk12 : Ks p l e R s mid args below meth c dC dI tc A w0 θ0 26 (Fin below s R dC dI tc A w0 θ0 26 Qm) 12 [vr a] [vr (nx w), vr a] (mkc w 18 0 6) := by
      refine ks_step hx htr hZ hts hnw hA hM hf1 hf2 (i := .putfield 10) (len := 3) rfl ?_
      show gd true (gd (Nat.ble 2 (tg (mkc w 18 0 6) a) && Nat.ble (tg (mkc w 18 0 6) a) 2) (Ks p l e R s mid args below meth c dC dI tc A w0 θ0 26 (Fin below s R dC dI tc A w0 θ0 26 Qm) 15 [vr a] [] ((mkc w 18 0 6).1, urf (mkc w 18 0 6).2.1 a 0 (nx w), (mkc w 18 0 6).2.2)))
      refine gd_i rfl (gd_i (by rw [hta]; rfl) ?_)
      intro θ' fe' H' locs' cells' slots' lsJ' hF' hl' hs' hsb'
      exact hB p l e R s mid args below meth c dC dI tc A w0 θ0 θ' fe' _ H' locs' cells' slots' [vr a] [] lsJ' 26 15 Qm hx htr hZ hts hnw hA hM hf1 hf2 hw hF' hl' hs' hsb'
    have hgo := hk12 (ext θ (nx w) H.size) _ _ locs (cells + 1) (slots + 6) lsJ hF1 hl1 (fun v hv => by
      simp only [List.mem_cons, List.not_mem_nil, or_false] at hv
      rcases hv with rfl | rfl
      · exact ⟨by have := hW.1.1; omega, Nat.lt_succ_self _⟩
      · exact ⟨ha1, Nat.lt_succ_of_lt ha2⟩) hsb1
    have e1 : [vr (nx w), vr a].map (vlv (ext θ (nx w) H.size)) = [.ref H.size, .ref (θ a)] := by
      show [Value.ref (ext θ (nx w) H.size (nx w)), Value.ref (ext θ (nx w) H.size a)] = _
      rw [ext_at, ext_ne (Nat.ne_of_lt anx)]
    rw [e1] at hgo
    obtain ⟨t, h1, h2⟩ := hgo ((T.setVm vm').setCell H.size cell') rfl X'
    exact ⟨t, hst t h1, h2⟩
  · exact hw.elim
/-- THE BRIDGE: whatever the small machine shows, the model does -/
theorem bridge : ∀ n, Brg n := brg exn_ok
