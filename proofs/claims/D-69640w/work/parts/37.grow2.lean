/-! a few instructions as one step: a row grows, the walk -/
set_option maxRecDepth 100000
def hd0 (ls : List Vl) : Nat := match ls with
  | .inr (.inr (.inl a)) :: _ => a
  | _ => 0
section Grow2
variable {p : Program} {l : Launch} {e : Env} {R : Room} {s : State} {mid : MethodId} {args : Array Value} {below : List Frame} {meth : Method} {c : Code} {dC : Nat → ClassId} {dI : Nat → Nat → Nat} {tc : Nat → ClassId} {A : Nat → Prop} {w0 : Wd} {θ0 : Nat → Nat} {w : Wd} {ls : List Vl} {n : Nat} {Qm : Out → Wd → Prop}
theorem mac_1 (hB : Brg n) (hx : p.tables.exec = Jvm.exec) (htr : e.platform.stackTraces = false) (hZ : Stc A s) (hts : ∀ w ∈ lw_all, w.before args s = true) (hnw : ∀ w ∈ nws, va_Nw w s) (hA : ∀ q, s.heap.size ≤ q → A q) (hM : Mth 58 s mid meth c) (hf1 : (inf 58).2.2.1 ≤ R.frames) (hf2 : 45 * (inf 58).2.2.1 ≤ R.locals) {Q : State → Prop} (hQ : Q = Fin below s R dC dI tc A w0 θ0 58 Qm)
    (hnx : 50 ≤ gr w (hd0 ls) 0) (hw : exG 4 ls w (fun w' => wpn n 58 29 ls [] w' Qm)) : Ks p l e R s mid args below meth c dC dI tc A w0 θ0 58 Q 12 ls [] w := by
  unfold exG at hw
  split at hw
  · next a t =>
    obtain ⟨hg, ⟨n1, n2, hlen, hun⟩, hw⟩ := gd_e hw
    rw [Bool.and_eq_true, Bool.and_eq_true] at hg
    obtain ⟨⟨ga, gb⟩, gl⟩ := hg
    have ht : tg w a = 4 := Nat.eq_of_beq_eq_true ga
    have h55 : tg w (gr w a 0) = 55 := Nat.eq_of_beq_eq_true gb
    have gl := List.all_eq_true.mp gl
    have hnx : 50 ≤ gr w a 0 := hnx
    have hb1 : 1 ≤ gr w a 0 := by omega
    obtain ⟨nn, hnn⟩ : ∃ nn : Nat, w.1 a 1 = nn := ⟨(w.1 a 1).toNat, by omega⟩
    rw [hnn] at n1 n2 hlen
    have hw32 : w32 (2 * w.1 a 1) = ((2 * nn : Nat) : Int) := by rw [hnn]; unfold w32; omega
    refine ks_step hx htr hZ hts hnw hA hM hf1 hf2 (i := .aload_n 0) (len := 1) rfl ?_
    show Ks p l e R s mid args below meth c dC dI tc A w0 θ0 58 Q 13 (vr a :: t) [vr a] w
    refine ks_step hx htr hZ hts hnw hA hM hf1 hf2 (i := .aload_n 0) (len := 1) rfl ?_
    show Ks p l e R s mid args below meth c dC dI tc A w0 θ0 58 Q 14 (vr a :: t) [vr a, vr a] w
    refine ks_step hx htr hZ hts hnw hA hM hf1 hf2 (i := .getfield 7) (len := 3) rfl ?_
    show gd (Nat.ble 4 (tg w a) && Nat.ble (tg w a) 4) (gd (Nat.ble 1 (gr w a 0)) (Ks p l e R s mid args below meth c dC dI tc A w0 θ0 58 Q 17 (vr a :: t) [vr (gr w a 0), vr a] w))
    refine gd_i (by rw [ht]; rfl) (gd_i (Nat.ble_eq_true_of_le hb1) ?_)
    refine ks_step hx htr hZ hts hnw hA hM hf1 hf2 (i := .iconst 2) (len := 1) rfl ?_
    show Ks p l e R s mid args below meth c dC dI tc A w0 θ0 58 Q 18 (vr a :: t) [vi 2, vr (gr w a 0), vr a] w
    refine ks_step hx htr hZ hts hnw hA hM hf1 hf2 (i := .aload_n 0) (len := 1) rfl ?_
    show Ks p l e R s mid args below meth c dC dI tc A w0 θ0 58 Q 19 (vr a :: t) [vr a, vi 2, vr (gr w a 0), vr a] w
    refine ks_step hx htr hZ hts hnw hA hM hf1 hf2 (i := .getfield 13) (len := 3) rfl ?_
    show gd (Nat.ble 4 (tg w a) && Nat.ble (tg w a) 4) (Ks p l e R s mid args below meth c dC dI tc A w0 θ0 58 Q 22 (vr a :: t) [vi (w.1 a 1), vi 2, vr (gr w a 0), vr a] w)
    refine gd_i (by rw [ht]; rfl) ?_
    refine ks_step hx htr hZ hts hnw hA hM hf1 hf2 (i := .imul) (len := 1) rfl ?_
    show Ks p l e R s mid args below meth c dC dI tc A w0 θ0 58 Q 23 (vr a :: t) [vi (w32 (2 * w.1 a 1)), vr (gr w a 0), vr a] w
    rw [hw32]
    intro θ fe H locs cells slots lsJ hF hl hs hsb
    subst hQ
    have hfr : 3 ≤ R.frames := hf1
    have hlo : 135 ≤ R.locals := hf2
    have hW := hF.2.2.2.2.1
    obtain ⟨a50, anx⟩ := (hW.2.1 a).mp (by rw [ht]; rfl)
    obtain ⟨b50, bnx⟩ := (hW.2.1 (gr w a 0)).mp (by rw [h55]; rfl)
    obtain ⟨-, -, hcb⟩ := cell_r hF h55
    rw [hlen] at hcb
    have hcb : (wsf θ fe tc w)[gr w a 0 - 50]? = some (θ (gr w a 0), .inl (tc 50, nn, .inl fun j => Int32.ofInt (w.1 (gr w a 0) j))) := hcb
    obtain ⟨-, -, -, -, hca⟩ := cell_c hF (lo := 4) (hi := 4) (by decide) (by decide) (a := a) (by rw [ht]; rfl)
    have hcw := hW.cw
    have hrs := hW.rs
    have hfb := hF.2.2.2.2.2.1
    have hfc := hF.2.2.2.2.2.2.1
    have hce : cells + 1 ≤ R.cells := by have := hfb.1; have := hfc.1; have := hcw.1; omega
    have hsl : slots + 2 * nn ≤ R.slots := by have := hfb.2.1; have := hfc.2; have := hcw.2; omega
    refine pcall (ig := .invokestatic 17) (y := ⟨"java/util/Arrays", "copyOf", "([II)[I"⟩) (kc := 1) (ks := 2 * nn) (K := 60) (as := [.ref (θ (gr w a 0)), .int (Int32.ofInt (2 * nn : Nat))]) (rest := [.ref (θ a)]) (P := fun v' H' => ∃ q, v' = some (.ref q) ∧ H.size ≤ q ∧ H'[q]? = some (vp_cell (tc 50) (2 * nn, .inl fun k => if k < nn then Int32.ofInt (w.1 (gr w a 0) k) else 0)) ∧ ∀ q' : Nat, q' < H.size → H'[q']? = H[q']?) (B := fun q => q = θ (gr w a 0) ∨ H.size ≤ q) hts q1111 (by decide +kernel) (by rw [hM.2.2.2.2.1]; exact hl.2.1.1) (hM.2.1 23 (.invokestatic 17) 3 rfl).2 (fun T hT X => into_S X hx hM.2.2.2.2.2.1 (hts _ q1109) (hts _ q1110) (hts _ q268) (hts _ q1111) ⟨by decide, by decide⟩ rfl (argsL := [.ref (θ (gr w a 0)), .int (Int32.ofInt (2 * nn : Nat))]) (n := 2) rfl (by decide +kernel) rfl (hM.2.1 23 (.invokestatic 17) 3 rfl).2) (by omega) (by
      show 0 + 1 + (3 + 11) + 60 ≤ R.locals
      omega) hce hsl (fun s' mk methk ck below' hv hh hts' hown' hr' hlk' hb' hml' => ?_) (fun v' H' L hP hL => ?_)
    · subst hh
      exact run_copy hx hts' (va_K.moved hv.alike hF.1) (hF.2.1 _ _ hcb) hlk' hown' hr' hb' hml' (by show 1 ≤ R.frames - 1; omega) (Nat.le_refl _) (by omega) (by omega) (Nat.le_refl _) (Nat.le_refl _)
    · obtain ⟨q, rfl, hq, hcell, hsame⟩ := hP
      have pf : pfOK (owS 4) 7 4 4 0 2 0 := pf_all (q := 4 * 1000 + 7) (x := (4, 4, 0, 2, 0)) rfl rfl
      have hin : ∀ (k : Nat) (x : Nat × va_E), (wsf θ fe tc w)[k]? = some x → x.1 < H.size := fun k x hx => (hF.2.1 k x hx).lt
      have hwl : (wsf θ fe tc w).length = nx w - 50 := by unfold wsf; rw [List.length_map, List.length_range]
      have hspl : ∀ (k : Nat) (x : Nat × va_E), (wsf θ fe tc w ++ ([(q, .inl (tc 50, 2 * nn, .inl fun k => if k < nn then Int32.ofInt (w.1 (gr w a 0) k) else 0))] : va_W))[k]? = some x → (k < nx w - 50 ∧ (wsf θ fe tc w)[k]? = some x) ∨ (k = nx w - 50 ∧ x = (q, .inl (tc 50, 2 * nn, .inl fun k => if k < nn then Int32.ofInt (w.1 (gr w a 0) k) else 0))) := fun k x hx => by
        rcases Nat.lt_or_ge k (nx w - 50) with z | z
        · rw [List.getElem?_append_left (by rw [hwl]; exact z)] at hx
          exact Or.inl ⟨z, hx⟩
        · rw [List.getElem?_append_right (by rw [hwl]; exact z)] at hx
          have h1 := (List.getElem?_eq_some_iff.mp hx).1
          simp only [List.length_cons, List.length_nil] at h1
          have hk : k = nx w - 50 := by omega
          rw [show k - (wsf θ fe tc w).length = 0 by omega] at hx
          exact Or.inr ⟨hk, (Option.some.inj hx).symm⟩
      have hP' : va_P (dC, dI) cls (wsf θ fe tc w ++ ([(q, .inl (tc 50, 2 * nn, .inl fun k => if k < nn then Int32.ofInt (w.1 (gr w a 0) k) else 0))] : va_W)) H' := fun k x hx => by
        rcases hspl k x hx with ⟨-, z⟩ | ⟨-, rfl⟩
        · exact (hF.2.1 k x z).kept (hsame _ (hin k x z))
        · exact hcell
      have hD' : va_D A (wsf θ fe tc w ++ ([(q, .inl (tc 50, 2 * nn, .inl fun k => if k < nn then Int32.ofInt (w.1 (gr w a 0) k) else 0))] : va_W)) := by
        refine ⟨fun i j x y hi hj hxy => ?_, fun k x hx => ?_⟩
        · rcases hspl i x hi with ⟨z1, z2⟩ | ⟨z1, rfl⟩ <;> rcases hspl j y hj with ⟨z3, z4⟩ | ⟨z3, rfl⟩
          · exact hF.2.2.1.1 i j x y z2 z4 hxy
          · have := hin i x z2
            rw [hxy] at this
            exact absurd this (by show ¬ q < H.size; omega)
          · have := hin j y z4
            rw [← hxy] at this
            exact absurd this (by show ¬ q < H.size; omega)
          · omega
        · rcases hspl k x hx with ⟨-, z⟩ | ⟨-, rfl⟩
          · exact hF.2.2.1.2 k x z
          · exact hA q (Nat.le_trans hF.2.2.2.1.1 hq)
      have hq2 : q < H'.size := (Array.getElem?_eq_some_iff.mp hcell).1
      have hS' : va_S A s.heap H' (locs ++ L) := ⟨Nat.le_trans hF.2.2.2.1.1 (Nat.le_trans hq (Nat.le_of_lt hq2)), fun q' h1 h2 => by rw [hsame q' (Nat.lt_of_lt_of_le h1 hF.2.2.2.1.1)]; exact hF.2.2.2.1.2.1 q' h1 h2, fun x hx => by
        rcases List.mem_append.mp hx with z | z
        · exact hF.2.2.2.1.2.2 x z
        · rcases hL x z with z | z
          · rw [z]; exact hF.2.2.1.2 _ _ hcb
          · exact hA _ (Nat.le_trans hF.2.2.2.1.1 z)⟩
      refine pf p l e R s mid args below meth c H' (locs ++ L) (cells + 1) (slots + 2 * nn) _ 26 lsJ [] (dC, dI) (tysf tc) _ (θ a) (a - 50) (tg w a - 1) _ (.ref q) A s.heap hx hts hM.2.2.2.2.2.1 hF.1 hP' hD' hS' (by rw [List.getElem?_append_left (by rw [hwl]; omega)]; exact hca) (by omega) (by omega) (fun z => absurd z (by decide)) ⟨_, rfl⟩ (by rw [ht]; exact Nat.le_of_ble_eq_true rfl) (hM.2.1 26 (.putfield 7) 3 rfl).2 fun H1 locs1 hP1 hD1 hS1 => ?_
      have hF1 := fr_grow (q := q) (nn := nn) hF (Or.inl ht) rfl h55 (by omega) (by omega) hnn hlen hun hP1 hD1 hS1
      have hnb : ∀ x, vr x ∈ (vr a :: t) → x ≠ gr w a 0 := fun x hx z => by
        have := gl _ hx
        unfold stb at this
        rw [z] at this
        have this : (!(Nat.beq (tg w (gr w a 0)) 55) && _) = true := this
        rw [h55] at this
        cases this
      refine hB p l e R s mid args below meth c dC dI tc A w0 θ0 (ext θ (gr w a 0) q) fe (grw w.1 (gr w a 0) (2 * w.1 a 1), w.2) H1 locs1 (cells + 1) (slots + 2 * nn) (vr a :: t) [] lsJ 58 29 Qm hx htr hZ hts hnw hA hM hf1 hf2 hw hF1 (hl.ext (Nat.le_refl _) fun x hx => ext_ne (hnb x hx)) (fun v hv => by cases hv) (fun x hx hmv => ?_)
      have hxb : x ≠ gr w a 0 := fun z => by
        unfold mvb at hmv
        rw [Bool.or_eq_false_iff] at hmv
        have e1 : tg w x = tg w0 x := by show (w.2.2.1 x).1 = _; rw [hfb.2.2.2 x hx]
        rw [← e1, z, h55] at hmv
        cases hmv.1
      rw [ext_ne hxb]
      exact hsb x hx hmv
  · exact hw.elim
theorem mac_2 (hB : Brg n) (hx : p.tables.exec = Jvm.exec) (htr : e.platform.stackTraces = false) (hZ : Stc A s) (hts : ∀ w ∈ lw_all, w.before args s = true) (hnw : ∀ w ∈ nws, va_Nw w s) (hA : ∀ q, s.heap.size ≤ q → A q) (hM : Mth 162 s mid meth c) (hf1 : (inf 162).2.2.1 ≤ R.frames) (hf2 : 45 * (inf 162).2.2.1 ≤ R.locals) {Q : State → Prop} (hQ : Q = Fin below s R dC dI tc A w0 θ0 162 Qm)
    (hnx : 50 ≤ gr w (hd0 ls) 0) (hw : exG 9 ls w (fun w' => wpn n 162 75 ls [] w' Qm)) : Ks p l e R s mid args below meth c dC dI tc A w0 θ0 162 Q 58 ls [] w := by
  unfold exG at hw
  split at hw
  · next a t =>
    obtain ⟨hg, ⟨n1, n2, hlen, hun⟩, hw⟩ := gd_e hw
    rw [Bool.and_eq_true, Bool.and_eq_true] at hg
    obtain ⟨⟨ga, gb⟩, gl⟩ := hg
    have ht : tg w a = 9 := Nat.eq_of_beq_eq_true ga
    have h55 : tg w (gr w a 0) = 55 := Nat.eq_of_beq_eq_true gb
    have gl := List.all_eq_true.mp gl
    have hnx : 50 ≤ gr w a 0 := hnx
    have hb1 : 1 ≤ gr w a 0 := by omega
    obtain ⟨nn, hnn⟩ : ∃ nn : Nat, w.1 a 1 = nn := ⟨(w.1 a 1).toNat, by omega⟩
    rw [hnn] at n1 n2 hlen
    have hw32 : w32 (2 * w.1 a 1) = ((2 * nn : Nat) : Int) := by rw [hnn]; unfold w32; omega
    refine ks_step hx htr hZ hts hnw hA hM hf1 hf2 (i := .aload_n 0) (len := 1) rfl ?_
    show Ks p l e R s mid args below meth c dC dI tc A w0 θ0 162 Q 59 (vr a :: t) [vr a] w
    refine ks_step hx htr hZ hts hnw hA hM hf1 hf2 (i := .aload_n 0) (len := 1) rfl ?_
    show Ks p l e R s mid args below meth c dC dI tc A w0 θ0 162 Q 60 (vr a :: t) [vr a, vr a] w
    refine ks_step hx htr hZ hts hnw hA hM hf1 hf2 (i := .getfield 9) (len := 3) rfl ?_
    show gd (Nat.ble 9 (tg w a) && Nat.ble (tg w a) 9) (gd (Nat.ble 1 (gr w a 0)) (Ks p l e R s mid args below meth c dC dI tc A w0 θ0 162 Q 63 (vr a :: t) [vr (gr w a 0), vr a] w))
    refine gd_i (by rw [ht]; rfl) (gd_i (Nat.ble_eq_true_of_le hb1) ?_)
    refine ks_step hx htr hZ hts hnw hA hM hf1 hf2 (i := .iconst 2) (len := 1) rfl ?_
    show Ks p l e R s mid args below meth c dC dI tc A w0 θ0 162 Q 64 (vr a :: t) [vi 2, vr (gr w a 0), vr a] w
    refine ks_step hx htr hZ hts hnw hA hM hf1 hf2 (i := .aload_n 0) (len := 1) rfl ?_
    show Ks p l e R s mid args below meth c dC dI tc A w0 θ0 162 Q 65 (vr a :: t) [vr a, vi 2, vr (gr w a 0), vr a] w
    refine ks_step hx htr hZ hts hnw hA hM hf1 hf2 (i := .getfield 15) (len := 3) rfl ?_
    show gd (Nat.ble 9 (tg w a) && Nat.ble (tg w a) 9) (Ks p l e R s mid args below meth c dC dI tc A w0 θ0 162 Q 68 (vr a :: t) [vi (w.1 a 1), vi 2, vr (gr w a 0), vr a] w)
    refine gd_i (by rw [ht]; rfl) ?_
    refine ks_step hx htr hZ hts hnw hA hM hf1 hf2 (i := .imul) (len := 1) rfl ?_
    show Ks p l e R s mid args below meth c dC dI tc A w0 θ0 162 Q 69 (vr a :: t) [vi (w32 (2 * w.1 a 1)), vr (gr w a 0), vr a] w
    rw [hw32]
    intro θ fe H locs cells slots lsJ hF hl hs hsb
    subst hQ
    have hfr : 3 ≤ R.frames := hf1
    have hlo : 135 ≤ R.locals := hf2
    have hW := hF.2.2.2.2.1
    obtain ⟨a50, anx⟩ := (hW.2.1 a).mp (by rw [ht]; rfl)
    obtain ⟨b50, bnx⟩ := (hW.2.1 (gr w a 0)).mp (by rw [h55]; rfl)
    obtain ⟨-, -, hcb⟩ := cell_r hF h55
    rw [hlen] at hcb
    have hcb : (wsf θ fe tc w)[gr w a 0 - 50]? = some (θ (gr w a 0), .inl (tc 50, nn, .inl fun j => Int32.ofInt (w.1 (gr w a 0) j))) := hcb
    obtain ⟨-, -, -, -, hca⟩ := cell_c hF (lo := 9) (hi := 9) (by decide) (by decide) (a := a) (by rw [ht]; rfl)
    have hcw := hW.cw
    have hrs := hW.rs
    have hfb := hF.2.2.2.2.2.1
    have hfc := hF.2.2.2.2.2.2.1
    have hce : cells + 1 ≤ R.cells := by have := hfb.1; have := hfc.1; have := hcw.1; omega
    have hsl : slots + 2 * nn ≤ R.slots := by have := hfb.2.1; have := hfc.2; have := hcw.2; omega
    refine pcall (ig := .invokestatic 27) (y := ⟨"java/util/Arrays", "copyOf", "([II)[I"⟩) (kc := 1) (ks := 2 * nn) (K := 60) (as := [.ref (θ (gr w a 0)), .int (Int32.ofInt (2 * nn : Nat))]) (rest := [.ref (θ a)]) (P := fun v' H' => ∃ q, v' = some (.ref q) ∧ H.size ≤ q ∧ H'[q]? = some (vp_cell (tc 50) (2 * nn, .inl fun k => if k < nn then Int32.ofInt (w.1 (gr w a 0) k) else 0)) ∧ ∀ q' : Nat, q' < H.size → H'[q']? = H[q']?) (B := fun q => q = θ (gr w a 0) ∨ H.size ≤ q) hts q1111 (by decide +kernel) (by rw [hM.2.2.2.2.1]; exact hl.2.1.1) (hM.2.1 69 (.invokestatic 27) 3 rfl).2 (fun T hT X => into_S X hx hM.2.2.2.2.2.1 (hts _ q1551) (hts _ q1110) (hts _ q268) (hts _ q1111) ⟨by decide, by decide⟩ rfl (argsL := [.ref (θ (gr w a 0)), .int (Int32.ofInt (2 * nn : Nat))]) (n := 2) rfl (by decide +kernel) rfl (hM.2.1 69 (.invokestatic 27) 3 rfl).2) (by omega) (by
      show 0 + 1 + (3 + 11) + 60 ≤ R.locals
      omega) hce hsl (fun s' mk methk ck below' hv hh hts' hown' hr' hlk' hb' hml' => ?_) (fun v' H' L hP hL => ?_)
    · subst hh
      exact run_copy hx hts' (va_K.moved hv.alike hF.1) (hF.2.1 _ _ hcb) hlk' hown' hr' hb' hml' (by show 1 ≤ R.frames - 1; omega) (Nat.le_refl _) (by omega) (by omega) (Nat.le_refl _) (Nat.le_refl _)
    · obtain ⟨q, rfl, hq, hcell, hsame⟩ := hP
      have pf : pfOK (owS 9) 9 9 9 0 2 0 := pf_all (q := 9 * 1000 + 9) (x := (9, 9, 0, 2, 0)) rfl rfl
      have hin : ∀ (k : Nat) (x : Nat × va_E), (wsf θ fe tc w)[k]? = some x → x.1 < H.size := fun k x hx => (hF.2.1 k x hx).lt
      have hwl : (wsf θ fe tc w).length = nx w - 50 := by unfold wsf; rw [List.length_map, List.length_range]
      have hspl : ∀ (k : Nat) (x : Nat × va_E), (wsf θ fe tc w ++ ([(q, .inl (tc 50, 2 * nn, .inl fun k => if k < nn then Int32.ofInt (w.1 (gr w a 0) k) else 0))] : va_W))[k]? = some x → (k < nx w - 50 ∧ (wsf θ fe tc w)[k]? = some x) ∨ (k = nx w - 50 ∧ x = (q, .inl (tc 50, 2 * nn, .inl fun k => if k < nn then Int32.ofInt (w.1 (gr w a 0) k) else 0))) := fun k x hx => by
        rcases Nat.lt_or_ge k (nx w - 50) with z | z
        · rw [List.getElem?_append_left (by rw [hwl]; exact z)] at hx
          exact Or.inl ⟨z, hx⟩
        · rw [List.getElem?_append_right (by rw [hwl]; exact z)] at hx
          have h1 := (List.getElem?_eq_some_iff.mp hx).1
          simp only [List.length_cons, List.length_nil] at h1
          have hk : k = nx w - 50 := by omega
          rw [show k - (wsf θ fe tc w).length = 0 by omega] at hx
          exact Or.inr ⟨hk, (Option.some.inj hx).symm⟩
      have hP' : va_P (dC, dI) cls (wsf θ fe tc w ++ ([(q, .inl (tc 50, 2 * nn, .inl fun k => if k < nn then Int32.ofInt (w.1 (gr w a 0) k) else 0))] : va_W)) H' := fun k x hx => by
        rcases hspl k x hx with ⟨-, z⟩ | ⟨-, rfl⟩
        · exact (hF.2.1 k x z).kept (hsame _ (hin k x z))
        · exact hcell
      have hD' : va_D A (wsf θ fe tc w ++ ([(q, .inl (tc 50, 2 * nn, .inl fun k => if k < nn then Int32.ofInt (w.1 (gr w a 0) k) else 0))] : va_W)) := by
        refine ⟨fun i j x y hi hj hxy => ?_, fun k x hx => ?_⟩
        · rcases hspl i x hi with ⟨z1, z2⟩ | ⟨z1, rfl⟩ <;> rcases hspl j y hj with ⟨z3, z4⟩ | ⟨z3, rfl⟩
          · exact hF.2.2.1.1 i j x y z2 z4 hxy
          · have := hin i x z2
            rw [hxy] at this
            exact absurd this (by show ¬ q < H.size; omega)
          · have := hin j y z4
            rw [← hxy] at this
            exact absurd this (by show ¬ q < H.size; omega)
          · omega
        · rcases hspl k x hx with ⟨-, z⟩ | ⟨-, rfl⟩
          · exact hF.2.2.1.2 k x z
          · exact hA q (Nat.le_trans hF.2.2.2.1.1 hq)
      have hq2 : q < H'.size := (Array.getElem?_eq_some_iff.mp hcell).1
      have hS' : va_S A s.heap H' (locs ++ L) := ⟨Nat.le_trans hF.2.2.2.1.1 (Nat.le_trans hq (Nat.le_of_lt hq2)), fun q' h1 h2 => by rw [hsame q' (Nat.lt_of_lt_of_le h1 hF.2.2.2.1.1)]; exact hF.2.2.2.1.2.1 q' h1 h2, fun x hx => by
        rcases List.mem_append.mp hx with z | z
        · exact hF.2.2.2.1.2.2 x z
        · rcases hL x z with z | z
          · rw [z]; exact hF.2.2.1.2 _ _ hcb
          · exact hA _ (Nat.le_trans hF.2.2.2.1.1 z)⟩
      refine pf p l e R s mid args below meth c H' (locs ++ L) (cells + 1) (slots + 2 * nn) _ 72 lsJ [] (dC, dI) (tysf tc) _ (θ a) (a - 50) (tg w a - 1) _ (.ref q) A s.heap hx hts hM.2.2.2.2.2.1 hF.1 hP' hD' hS' (by rw [List.getElem?_append_left (by rw [hwl]; omega)]; exact hca) (by omega) (by omega) (fun z => absurd z (by decide)) ⟨_, rfl⟩ (by rw [ht]; exact Nat.le_of_ble_eq_true rfl) (hM.2.1 72 (.putfield 9) 3 rfl).2 fun H1 locs1 hP1 hD1 hS1 => ?_
      have hF1 := fr_grow (q := q) (nn := nn) hF (Or.inr ht) rfl h55 (by omega) (by omega) hnn hlen hun hP1 hD1 hS1
      have hnb : ∀ x, vr x ∈ (vr a :: t) → x ≠ gr w a 0 := fun x hx z => by
        have := gl _ hx
        unfold stb at this
        rw [z] at this
        have this : (!(Nat.beq (tg w (gr w a 0)) 55) && _) = true := this
        rw [h55] at this
        cases this
      refine hB p l e R s mid args below meth c dC dI tc A w0 θ0 (ext θ (gr w a 0) q) fe (grw w.1 (gr w a 0) (2 * w.1 a 1), w.2) H1 locs1 (cells + 1) (slots + 2 * nn) (vr a :: t) [] lsJ 162 75 Qm hx htr hZ hts hnw hA hM hf1 hf2 hw hF1 (hl.ext (Nat.le_refl _) fun x hx => ext_ne (hnb x hx)) (fun v hv => by cases hv) (fun x hx hmv => ?_)
      have hxb : x ≠ gr w a 0 := fun z => by
        unfold mvb at hmv
        rw [Bool.or_eq_false_iff] at hmv
        have e1 : tg w x = tg w0 x := by show (w.2.2.1 x).1 = _; rw [hfb.2.2.2 x hx]
        rw [← e1, z, h55] at hmv
        cases hmv.1
      rw [ext_ne hxb]
      exact hsb x hx hmv
  · exact hw.elim
end Grow2
