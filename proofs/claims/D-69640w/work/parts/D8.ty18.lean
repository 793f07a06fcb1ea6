/-! what loading and checking give; the model's fault -/
set_option maxRecDepth 100000
theorem mF1_0 {K : TK} {ns ab : List Int} {c : Int} : ∀ (l : List Int) (m : Int) (X : XB), (mF1 K ns ab c l m X).1 = true → (mF1 K ns ab c l m X).2.1 = 0
  | [], _, _, _ => rfl
  | t :: l, m, X, h => by
    have h : (cit ((mst K ns ab X c t m).1 = true) (mF1 K ns ab c l (m + 1) (mst K ns ab X c t m).2.2) (mst K ns ab X c t m)).1 = true := h
    show (cit ((mst K ns ab X c t m).1 = true) (mF1 K ns ab c l (m + 1) (mst K ns ab X c t m).2.2) (mst K ns ab X c t m)).2.1 = 0
    rcases Classical.em ((mst K ns ab X c t m).1 = true) with g | g
    · rw [cit_t g] at h ⊢
      exact mF1_0 l _ _ h
    · rw [cit_f g] at h; exact absurd h g
theorem mF2_0 {K : TK} {ns ab : List Int} : ∀ (l : List Int) (c m : Int) (X : XB), (mF2 K ns ab l c m X).1 = true → (mF2 K ns ab l c m X).2.1 = 0
  | [], _, _, _, _ => rfl
  | a :: l, c, m, X, h => by
    have h : (cit ((mF1 K ns ab c (lmems K (a + 5)) m X).1 = true) (mF2 K ns ab l (c + 1) (m + (lmems K (a + 5)).length) (mF1 K ns ab c (lmems K (a + 5)) m X).2.2) (mF1 K ns ab c (lmems K (a + 5)) m X)).1 = true := h
    show (cit ((mF1 K ns ab c (lmems K (a + 5)) m X).1 = true) (mF2 K ns ab l (c + 1) (m + (lmems K (a + 5)).length) (mF1 K ns ab c (lmems K (a + 5)) m X).2.2) (mF1 K ns ab c (lmems K (a + 5)) m X)).2.1 = 0
    rcases Classical.em ((mF1 K ns ab c (lmems K (a + 5)) m X).1 = true) with g | g
    · rw [cit_t g] at h ⊢
      exact mF2_0 l _ _ _ h
    · rw [cit_f g] at h; exact absurd h g
/-- the tokens of a text, apart from places -/
def KT (tx : Int → Int) (r : List (Int × Int)) : TK := (tx, fun j => (r.reverse[j.toNat]?.getD (0, 0)).1, fun j => (r.reverse[j.toNat]?.getD (0, 0)).2, (r.length : Int))
theorem kt_v {f t : Int → Int} : ∀ (r : List (Int × Int)), TRep f t r → ∀ j : Nat, j < r.length → f j = (r.reverse[j]?.getD (0, 0)).1 ∧ t j = (r.reverse[j]?.getD (0, 0)).2 ∧ r.reverse[j]?.getD (0, 0) ∈ r
  | [], _, j, h => by cases h
  | x :: r, h, j, hj => by
    rw [List.reverse_cons]
    by_cases e : j < r.length
    · have := kt_v r h.2.2 j e
      rw [List.getElem?_append_left (by rw [List.length_reverse]; exact e)]
      exact ⟨this.1, this.2.1, List.mem_cons_of_mem _ this.2.2⟩
    · have ej : j = r.length := by rw [List.length_cons] at hj; omega
      rw [ej, List.getElem?_append_right (by rw [List.length_reverse]; exact Nat.le_refl _), List.length_reverse, Nat.sub_self]
      exact ⟨h.1, h.2.1, List.mem_cons_self⟩
theorem tks_in {tx : Int → Int} {n : Int} (h : 0 ≤ n) : TIn n (tks tx n).2 ∧ (((tks tx n).2.length : Nat) : Int) ≤ n := by
  have h1 := trun_in (tx := tx) n.toNat 0 ([], 0, 0) (Int.le_refl _) (fun x hx => by cases hx)
  have h2 := trun_len (tx := tx) n.toNat 0 ([], 0, 0)
  have e0 : (([], 0, 0) : TS).1.length = 0 := rfl
  refine ⟨fun x hx => ?_, ?_⟩
  · have := h1 x hx; omega
  · show (((trun tx n.toNat 0 ([], 0, 0)).2.1.length : Nat) : Int) ≤ n
    omega
theorem kt_m {tx f t : Int → Int} {n : Int} (h0 : 0 ≤ n) (hn : n ≤ 16000) (hr : TRep f t (tks tx n).2) : MKp (KT tx (tks tx n).2) (tks tx n).2.length f t tx := by
  have hi := tks_in (tx := tx) h0
  refine ⟨⟨?_, ?_, fun j j0 j1 => ?_⟩, rfl, rfl, fun j j0 j1 => ?_⟩
  · show (0 : Int) ≤ (tks tx n).2.length; omega
  · show (((tks tx n).2.length : Nat) : Int) ≤ 16000; omega
  · have j1 : j < (tks tx n).2.length := j1
    have := kt_v _ hr j.toNat (by omega)
    rw [show ((j.toNat : Nat) : Int) = j by omega] at this
    have h2 := hi.1 _ this.2.2
    rw [this.1, this.2.1]
    omega
  · have j1 : j < (tks tx n).2.length := j1
    have := kt_v _ hr j.toNat (by omega)
    rw [show ((j.toNat : Nat) : Int) = j by omega] at this
    exact ⟨this.1, this.2.1⟩
theorem kt_s {tx z f zt t : Int → Int} {n : Int} (h0 : 0 ≤ n) (hn : n ≤ 16000) (hr : CutOK z f zt t (tks tx n).2) : SKp (KT tx (tks tx n).2) z f zt t tx := by
  have hm := kt_m h0 hn hr.1
  obtain ⟨h1, h2, h3, h4, h5⟩ := hr
  have q4 : z 1 ≤ f (-1) ∧ zt 1 ≤ t (-1) := ⟨h4.2.1, h5.2.1⟩
  refine ⟨⟨by omega, q4.1, by omega, q4.2, ?_, ?_⟩, rfl, h2, hm.2.2.2⟩
  · rw [h2]; exact hm.1.2.1
  · rw [h2]; exact hm.1.2.2
/-- the fault of a text: its kind and its token; 0 if there is none -/
noncomputable def ocR (K : TK) : Int × Int := cit ((pprog K).1 = true) (cit ((ldR K).1.1 = true) (cit ((chR (ldR K).2.2.1 (ldR K).2.2.2.1 (ldR K).2.2.2.2 ((ldR K).2.2.2.1 4).length 0).1 = true) (0, -1) (4, (chR (ldR K).2.2.1 (ldR K).2.2.2.1 (ldR K).2.2.2.2 ((ldR K).2.2.2.1 4).length 0).2)) (3, (ldR K).1.2)) (2, (pprog K).2)
noncomputable def ocF (tx : Int → Int) (n : Int) : Int × Int := cit ((tks tx n).1 = true) (ocR (KT tx (tks tx n).2)) (1, (tks tx n).2.length)
def FrMl (D E : Dt) : Prop := (∀ b, ¬ b = 226 → ¬ (273 ≤ b ∧ b ≤ 318) → ¬ (321 ≤ b ∧ b ≤ 333) → E b = D b) ∧ ∀ i, ¬ (10 ≤ i ∧ i ≤ 12) → ¬ i = 19 → ¬ i = 25 → E 226 i = D 226 i
theorem FrMl.r (D : Dt) : FrMl D D := ⟨fun _ _ _ _ => rfl, fun _ _ _ _ => rfl⟩
theorem FrMl.t {D E F : Dt} (h : FrMl D E) (h2 : FrMl E F) : FrMl D F := ⟨fun b x y z => (h2.1 b x y z).trans (h.1 b x y z), fun i x y z => (h2.2 i x y z).trans (h.2 i x y z)⟩
theorem FrN.g {D E : Dt} (h : FrN D E) : FrMl D E := ⟨fun b x y z => h.1 b x y (by omega), fun i x y z => h.2 i (by omega) y z⟩
theorem FrR.g {D E : Dt} (h : FrR D E) : FrMl D E := ⟨fun b x y z => h.1 b x (by omega) (by omega), fun i x y z => h.2 i (by omega) z⟩
theorem FrU.rr {D E : Dt} (h : FrU D E) : FrR D E := ⟨fun b x y z => h.1 b x (by omega), fun i x y => h.2 i y⟩
theorem FrMl.u {D E : Dt} (h : FrMl D E) {a : Nat} {i v : Int} (ha : (273 ≤ a ∧ a ≤ 318) ∨ (321 ≤ a ∧ a ≤ 333) ∨ (a = 226 ∧ 10 ≤ i ∧ i ≤ 12)) : FrMl D (up E a i v) := by
  refine ⟨fun b x y z => ?_, fun j x y z => ?_⟩
  · rw [ub_a (by omega)]; exact h.1 b x y z
  · by_cases e : a = 226
    · subst e
      rw [ub_n (by omega)]; exact h.2 j x y z
    · rw [ub_a (by omega)]; exact h.2 j x y z
theorem FrMl.s {D E : Dt} (h : FrMl D E) {a : Nat} {z : Int → Int} (ha : 321 ≤ a ∧ a ≤ 333) : FrMl D (sp E a z) := by
  refine ⟨fun b x y z => ?_, fun j x y z => ?_⟩
  · rw [sp_a (by omega)]; exact h.1 b x y z
  · rw [sp_a (by omega)]; exact h.2 j x y z
theorem PMo.r {K : TK} {ns ab : List Int} {X Y : XB} {D E : Dt} (h : PMo K ns ab X Y D) (f : ∀ b, ¬ b = 226 ∧ ¬ b = 292 ∧ ¬ (330 ≤ b ∧ b ≤ 333) → E b = D b) : PMo K ns ab X Y E := by
  unfold PMo FdM BM CdN FeM
  rw [f 273 (by decide), f 323 (by decide), f 274 (by decide), f 276 (by decide), f 324 (by decide), f 277 (by decide), f 279 (by decide), f 325 (by decide), f 280 (by decide), f 281 (by decide), f 283 (by decide), f 284 (by decide), f 326 (by decide), f 282 (by decide), f 288 (by decide), f 289 (by decide), f 290 (by decide), f 329 (by decide), f 291 (by decide), f 293 (by decide), f 295 (by decide), f 296 (by decide), f 297 (by decide), f 298 (by decide), f 294 (by decide), f 285 (by decide), f 286 (by decide), f 275 (by decide), f 278 (by decide), f 287 (by decide), f 299 (by decide)]
  exact h
/-- all that is known of a checked program, and its heights in a row f -/
def COk (ab : List Int) (X Y : XB) (f : Int → Int) : Prop := ∀ b : Int, 0 ≤ b → b < (X 4).length → BOk ab X Y b ∧ ∀ i : Int, lf (Y 11) b ≤ i → i < lf (Y 12) b → f i = htF X Y b i
theorem r232_0 {L c2 c3 c4 c5 c6 : Nat} {D : Dt} {Q : Out → Wd → Prop} (H : (0 ≤ D 226 7 ∧ D 226 7 ≤ 16000) ∧ ((∀ (mf2 : Int → Int) (mt3 : Int → Int) (rs4 : List (Int × Int)) (ok5 : Bool), (tks (D 320) (D 226 7) = (ok5, rs4) ∧ TRep mf2 mt3 rs4) → ((ok5 = true → (wp 232 17 [vr 226, vr 273, vu] [] (sp (sp (up D 226 10 rs4.length) 321 mf2) 322 mt3, SS L 1 c2 c3 c4 c5 c6) Q)) ∧ (¬ (ok5 = true) → (Q (.inl [vi 1]) (up (sp (sp (up D 226 10 rs4.length) 321 mf2) 322 mt3) 226 12 rs4.length, SS L 1 c2 c3 c4 c5 c6))))))) : wp 232 0 [vr 226, vr 273, vu] [] (D, SS L 1 c2 c3 c4 c5 c6) Q := vc_wp [] 200 _ _ _ _ _ _ (show wp 233 0 [vr 226, vu, vu, vu, vu, vu, vu] [] (D, SS L 1 c2 c3 c4 c5 c6) (aft wp 232 1 [vr 226, vr 273, vu] [] Q) from s233 ⟨H.1, (fun mf2 mt3 rs4 ok5 q6 => (show wp 232 4 [vr 226, vr 273, vu] [vi (ib (ok5 = true))] (sp (sp (up D 226 10 rs4.length) 321 mf2) 322 mt3, SS L 1 c2 c3 c4 c5 c6) Q from vc_wp [15, 17] 200 _ _ _ _ _ _ (show ((ib (ok5 = true) = 0 → (wp 232 15 [vr 226, vr 273, vu] [] (up (sp (sp (up D 226 10 rs4.length) 321 mf2) 322 mt3) 226 12 rs4.length, SS L 1 c2 c3 c4 c5 c6) Q)) ∧ (¬ (ib (ok5 = true) = 0) → (wp 232 17 [vr 226, vr 273, vu] [] (sp (sp (up D 226 10 rs4.length) 321 mf2) 322 mt3, SS L 1 c2 c3 c4 c5 c6) Q))) from ⟨fun h7 => vc_wp [] 200 _ _ _ _ _ _ (show Q (.inl [vi 1]) (up (sp (sp (up D 226 10 rs4.length) 321 mf2) 322 mt3) 226 12 rs4.length, SS L 1 c2 c3 c4 c5 c6) from ((H.2 mf2 mt3 rs4 ok5 q6).2 ((ib_z).mp h7))), fun h8 => ((H.2 mf2 mt3 rs4 ok5 q6).1 (Classical.not_not.mp (mt (ib_z).mpr h8)))⟩)))⟩)
theorem r232_17 {L c2 c3 c4 c5 c6 : Nat} {K : TK} {D : Dt} {Q : Out → Wd → Prop} (H : (MKp K (D 226 10) (D 321) (D 322) (D 320)) ∧ (((((pprog K).1 = true → (wp 232 34 [vr 226, vr 273, vu] [] (up D 226 11 ((pprog K).2), SS L 1 c2 c3 c4 c5 c6) Q)) ∧ (¬ ((pprog K).1 = true) → (Q (.inl [vi 2]) (up (up D 226 11 ((pprog K).2)) 226 12 ((pprog K).2), SS L 1 c2 c3 c4 c5 c6))))))) : wp 232 17 [vr 226, vr 273, vu] [] (D, SS L 1 c2 c3 c4 c5 c6) Q := vc_wp [] 200 _ _ _ _ _ _ (show wp 234 0 [vr 226] [] (D, SS L 1 c2 c3 c4 c5 c6) (aft wp 232 18 [vr 226, vr 273, vu] [] Q) from s234 ⟨H.1, (show wp 232 21 [vr 226, vr 273, vu] [vi (ib ((pprog K).1 = true))] (up D 226 11 ((pprog K).2), SS L 1 c2 c3 c4 c5 c6) Q from vc_wp [32, 34] 200 _ _ _ _ _ _ (show ((ib ((pprog K).1 = true) = 0 → (wp 232 32 [vr 226, vr 273, vu] [] (up (up D 226 11 ((pprog K).2)) 226 12 ((pprog K).2), SS L 1 c2 c3 c4 c5 c6) Q)) ∧ (¬ (ib ((pprog K).1 = true) = 0) → (wp 232 34 [vr 226, vr 273, vu] [] (up D 226 11 ((pprog K).2), SS L 1 c2 c3 c4 c5 c6) Q))) from ⟨fun h3 => vc_wp [] 200 _ _ _ _ _ _ (show Q (.inl [vi 2]) (up (up D 226 11 ((pprog K).2)) 226 12 ((pprog K).2), SS L 1 c2 c3 c4 c5 c6) from (H.2.2 ((ib_z).mp h3))), fun h4 => (H.2.1 (Classical.not_not.mp (mt (ib_z).mpr h4)))⟩))⟩)
theorem r232_34 {L c2 c3 c4 c5 c6 : Nat} {K : TK} {D : Dt} {Q : Out → Wd → Prop} (H : (MKp K (D 226 10) (D 321) (D 322) (D 320) ∧ (pprog K).1 = true) ∧ ((∀ (E2 : Dt), (FrN D E2 ∧ E2 226 12 = D 226 12 ∧ (pcn K (lcls K) [] []).1 = true ∧ CM K (pcn K (lcls K) [] []).2.2.1 (E2 273 0) (E2 323) ∧ ABp (E2 274) (pcn K (lcls K) [] []).2.2.2 ∧ (pcn K (lcls K) [] []).2.2.1.length = (pcn K (lcls K) [] []).2.2.2.length) → (∃ (xn4 : List Int × List Int), (MKp K (E2 226 10) (E2 321) (E2 322) (E2 320) ∧ CM K xn4.1 (E2 273 0) (E2 323) ∧ (ABp (E2 274) xn4.2 ∧ ABw xn4.2 ∧ xn4.2.length ≤ 24) ∧ (pprog K).1 = true ∧ xn4.1 = (lcls K).map (fun a => a + 1) ∧ xn4.1.length = xn4.2.length) ∧ ((∀ (E6 : Dt), ((mF2 K xn4.1 xn4.2 (lcls K) 8 0 X0).1 = true ∧ FrMm E2 E6 ∧ GI K xn4.1 xn4.2 (mF2 K xn4.1 xn4.2 (lcls K) 8 0 X0).2.2 (8 + xn4.2.length) ∧ FdM K (mF2 K xn4.1 xn4.2 (lcls K) 8 0 X0).2.2 E6 ∧ BM K (mF2 K xn4.1 xn4.2 (lcls K) 8 0 X0).2.2 E6) → (∃ (xl8 : List Int × List Int × XB), (MW K xl8.1 xl8.2.1 xl8.2.2 E6) ∧ ((∀ (E10 : Dt), ((bsR K xl8.1 xl8.2.1 xl8.2.2 (xl8.2.2 4).length 0 Y0).1.1 = true ∧ FrN E6 E10 ∧ MW K xl8.1 xl8.2.1 xl8.2.2 E10 ∧ YLn (bsR K xl8.1 xl8.2.1 xl8.2.2 (xl8.2.2 4).length 0 Y0).2 ∧ ((((bsR K xl8.1 xl8.2.1 xl8.2.2 (xl8.2.2 4).length 0 Y0).2 11).length = (xl8.2.2 4).length) ∧ (((bsR K xl8.1 xl8.2.1 xl8.2.2 (xl8.2.2 4).length 0 Y0).2 12).length = (xl8.2.2 4).length)) ∧ CdM (bsR K xl8.1 xl8.2.1 xl8.2.2 (xl8.2.2 4).length 0 Y0).2 E10 ∧ FeM (bsR K xl8.1 xl8.2.1 xl8.2.2 (xl8.2.2 4).length 0 Y0).2 E10) → (∃ (xs12 : List Int × List Int × XB × XB), (MW K xs12.1 xs12.2.1 xs12.2.2.1 E10 ∧ SB xs12.2.2.1 (8 + xs12.1.length) ∧ GI K xs12.1 xs12.2.1 xs12.2.2.1 (8 + xs12.2.1.length) ∧ CdM xs12.2.2.2 E10 ∧ YLn xs12.2.2.2 ∧ FeM xs12.2.2.2 E10) ∧ ((∀ (E14 : Dt), (0 ≤ (mnL K xs12.1 xs12.2.2.1 (xs12.2.2.1 4).length) ∧ FrN E10 E14 ∧ PMo K xs12.1 xs12.2.1 xs12.2.2.1 xs12.2.2.2 E14) → (wp 232 70 [vr 226, vr 273, vi 0] [] (E14, SS L 1 c2 c3 c4 c5 c6) Q)) ∧ (∀ (E18 : Dt), ((mnL K xs12.1 xs12.2.2.1 (xs12.2.2.1 4).length) < 0 ∧ FrN E10 E18 ∧ E18 226 12 = K.n) → (wp 232 66 [vr 226, vr 273, vu] [] (E18, SS L 1 c2 c3 c4 c5 c6) Q))))) ∧ (∀ (E24 : Dt), (¬ (bsR K xl8.1 xl8.2.1 xl8.2.2 (xl8.2.2 4).length 0 Y0).1.1 = true ∧ FrN E6 E24 ∧ E24 226 12 = (bsR K xl8.1 xl8.2.1 xl8.2.2 (xl8.2.2 4).length 0 Y0).1.2) → (wp 232 66 [vr 226, vr 273, vu] [] (E24, SS L 1 c2 c3 c4 c5 c6) Q))))) ∧ (∀ (E40 : Dt), (FrN E2 E40 ∧ (mF2 K xn4.1 xn4.2 (lcls K) 8 0 X0).1 = false ∧ E40 226 12 = (mF2 K xn4.1 xn4.2 (lcls K) 8 0 X0).2.1) → (wp 232 66 [vr 226, vr 273, vu] [] (E40, SS L 1 c2 c3 c4 c5 c6) Q))))) ∧ (∀ (E76 : Dt), (FrN D E76 ∧ (pcn K (lcls K) [] []).1 = false ∧ E76 226 12 = (pcn K (lcls K) [] []).2.1) → (wp 232 66 [vr 226, vr 273, vu] [] (E76, SS L 1 c2 c3 c4 c5 c6) Q)))) : wp 232 34 [vr 226, vr 273, vu] [] (D, SS L 1 c2 c3 c4 c5 c6) Q := vc_wp [] 200 _ _ _ _ _ _ (show wp 251 0 [vr 226, vr 273, vu, vu] [] (D, SS L 1 c2 c3 c4 c5 c6) (aft wp 232 36 [vr 226, vr 273, vu] [] Q) from s251 ⟨H.1, (fun E2 q3 => (show wp 232 39 [vr 226, vr 273, vu] [vi 1] (E2, SS L 1 c2 c3 c4 c5 c6) Q from vc_wp [66] 200 _ _ _ _ _ _ (show (((1 : Int) = 0 → (wp 232 66 [vr 226, vr 273, vu] [] (E2, SS L 1 c2 c3 c4 c5 c6) Q)) ∧ (¬ ((1 : Int) = 0) → (wp 258 0 [vr 226, vr 273, vu, vu] [] (E2, SS L 1 c2 c3 c4 c5 c6) (aft wp 232 44 [vr 226, vr 273, vu] [] Q)))) from ⟨fun h74 => absurd h74 (by decide), fun _ => Exists.elim ((H.2.1 E2 q3)) fun xn4 x5 => s258 ⟨xn4, x5.1, (fun E6 q7 => (show wp 232 47 [vr 226, vr 273, vu] [vi 1] (E6, SS L 1 c2 c3 c4 c5 c6) Q from vc_wp [66] 200 _ _ _ _ _ _ (show (((1 : Int) = 0 → (wp 232 66 [vr 226, vr 273, vu] [] (E6, SS L 1 c2 c3 c4 c5 c6) Q)) ∧ (¬ ((1 : Int) = 0) → (wp 268 0 [vr 226, vr 273, vu] [] (E6, SS L 1 c2 c3 c4 c5 c6) (aft wp 232 52 [vr 226, vr 273, vu] [] Q)))) from ⟨fun h38 => absurd h38 (by decide), fun _ => Exists.elim ((x5.2.1 E6 q7)) fun xl8 x9 => s268 ⟨xl8, x9.1, (fun E10 q11 => (show wp 232 55 [vr 226, vr 273, vu] [vi 1] (E10, SS L 1 c2 c3 c4 c5 c6) Q from vc_wp [66] 200 _ _ _ _ _ _ (show (((1 : Int) = 0 → (wp 232 66 [vr 226, vr 273, vu] [] (E10, SS L 1 c2 c3 c4 c5 c6) Q)) ∧ (¬ ((1 : Int) = 0) → (wp 280 0 [vr 226, vr 273, vu, vu, vu] [] (E10, SS L 1 c2 c3 c4 c5 c6) (aft wp 232 60 [vr 226, vr 273, vu] [] Q)))) from ⟨fun h22 => absurd h22 (by decide), fun _ => Exists.elim ((x9.2.1 E10 q11)) fun xs12 x13 => s280 ⟨xs12, x13.1, (fun E14 q15 => (show wp 232 63 [vr 226, vr 273, vu] [vi 1] (E14, SS L 1 c2 c3 c4 c5 c6) Q from vc_wp [66, 70] 200 _ _ _ _ _ _ (show (((1 : Int) = 0 → (wp 232 66 [vr 226, vr 273, vu] [] (E14, SS L 1 c2 c3 c4 c5 c6) Q)) ∧ (¬ ((1 : Int) = 0) → (wp 232 70 [vr 226, vr 273, vi 0] [] (E14, SS L 1 c2 c3 c4 c5 c6) Q))) from ⟨fun h16 => absurd h16 (by decide), fun _ => (x13.2.1 E14 q15)⟩))), (fun E18 q19 => (show wp 232 63 [vr 226, vr 273, vu] [vi 0] (E18, SS L 1 c2 c3 c4 c5 c6) Q from vc_wp [66, 70] 200 _ _ _ _ _ _ (show (((0 : Int) = 0 → (wp 232 66 [vr 226, vr 273, vu] [] (E18, SS L 1 c2 c3 c4 c5 c6) Q)) ∧ (¬ ((0 : Int) = 0) → (wp 232 70 [vr 226, vr 273, vi 0] [] (E18, SS L 1 c2 c3 c4 c5 c6) Q))) from ⟨fun _ => (x13.2.2 E18 q19), fun h21 => absurd (by decide) h21⟩)))⟩⟩))), (fun E24 q25 => (show wp 232 55 [vr 226, vr 273, vu] [vi 0] (E24, SS L 1 c2 c3 c4 c5 c6) Q from vc_wp [66] 200 _ _ _ _ _ _ (show (((0 : Int) = 0 → (wp 232 66 [vr 226, vr 273, vu] [] (E24, SS L 1 c2 c3 c4 c5 c6) Q)) ∧ (¬ ((0 : Int) = 0) → (wp 280 0 [vr 226, vr 273, vu, vu, vu] [] (E24, SS L 1 c2 c3 c4 c5 c6) (aft wp 232 60 [vr 226, vr 273, vu] [] Q)))) from ⟨fun _ => (x9.2.2 E24 q25), fun h37 => absurd (by decide) h37⟩)))⟩⟩))), (fun E40 q41 => (show wp 232 47 [vr 226, vr 273, vu] [vi 0] (E40, SS L 1 c2 c3 c4 c5 c6) Q from vc_wp [66] 200 _ _ _ _ _ _ (show (((0 : Int) = 0 → (wp 232 66 [vr 226, vr 273, vu] [] (E40, SS L 1 c2 c3 c4 c5 c6) Q)) ∧ (¬ ((0 : Int) = 0) → (wp 268 0 [vr 226, vr 273, vu] [] (E40, SS L 1 c2 c3 c4 c5 c6) (aft wp 232 52 [vr 226, vr 273, vu] [] Q)))) from ⟨fun _ => (x5.2.2 E40 q41), fun h73 => absurd (by decide) h73⟩)))⟩⟩))), (fun E76 q77 => (show wp 232 39 [vr 226, vr 273, vu] [vi 0] (E76, SS L 1 c2 c3 c4 c5 c6) Q from vc_wp [66] 200 _ _ _ _ _ _ (show (((0 : Int) = 0 → (wp 232 66 [vr 226, vr 273, vu] [] (E76, SS L 1 c2 c3 c4 c5 c6) Q)) ∧ (¬ ((0 : Int) = 0) → (wp 258 0 [vr 226, vr 273, vu, vu] [] (E76, SS L 1 c2 c3 c4 c5 c6) (aft wp 232 44 [vr 226, vr 273, vu] [] Q)))) from ⟨fun _ => (H.2.2 E76 q77), fun h149 => absurd (by decide) h149⟩)))⟩)
theorem r232_70 {L c2 c3 c4 c5 c6 : Nat} {D : Dt} {Q : Out → Wd → Prop} {b : Int} (H : ((b < D 273 2 → (∃ (xk1 : List Int × List Int × XB × XB), (MCk xk1.2.2.1 xk1.2.2.2 D ∧ PH xk1.1 xk1.2.1 xk1.2.2.1 xk1.2.2.2 ∧ (0 ≤ b ∧ b < (xk1.2.2.1 4).length)) ∧ ((∀ (E3 : Dt), ((fsF (htB xk1.2.2.1 xk1.2.2.2 b) (lf (xk1.2.2.2 11) b) (lf (xk1.2.2.2 12) b)) < 0 ∧ (∀ a, ¬ a = 330 → ¬ a = 292 → E3 a = D a) ∧ (∀ i : Int, lf (xk1.2.2.2 11) b ≤ i → i < lf (xk1.2.2.2 12) b → E3 292 i = htF xk1.2.2.1 xk1.2.2.2 b i) ∧ (∀ i : Int, ¬ (lf (xk1.2.2.2 11) b ≤ i ∧ i < lf (xk1.2.2.2 12) b) → E3 292 i = D 292 i)) → (∃ (xk5 : List Int × List Int × XB × XB), (MCt xk5.2.1 xk5.2.2.1 xk5.2.2.2 E3 ∧ TC xk5.1 xk5.2.1 xk5.2.2.1 xk5.2.2.2 b ∧ (∀ i : Int, lf (xk5.2.2.2 11) b ≤ i → i < lf (xk5.2.2.2 12) b → E3 292 i = htF xk5.2.2.1 xk5.2.2.2 b i)) ∧ ((∀ (E7 : Dt), ((fsF (tyB xk5.2.1 xk5.2.2.1 xk5.2.2.2 b) (lf (xk5.2.2.2 11) b) (lf (xk5.2.2.2 12) b)) < 0 ∧ FrU E3 E7 ∧ tyFin xk5.2.1 xk5.2.2.1 xk5.2.2.2 b (tyL xk5.2.1 xk5.2.2.1 xk5.2.2.2 b)) → (((-2147483648) ≤ b + 1 ∧ b + 1 ≤ 2147483647) ∧ (wp 232 70 [vr 226, vr 273, vi (b + 1)] [] (E7, SS L 1 c2 c3 c4 c5 c6) Q))) ∧ (∀ (E12 : Dt), (¬ (fsF (tyB xk5.2.1 xk5.2.2.1 xk5.2.2.2 b) (lf (xk5.2.2.2 11) b) (lf (xk5.2.2.2 12) b)) < 0 ∧ FrU E3 E12) → (Q (.inl [vi 4]) (up E12 226 12 (lf (xk5.2.2.2 3) (fsF (tyB xk5.2.1 xk5.2.2.1 xk5.2.2.2 b) (lf (xk5.2.2.2 11) b) (lf (xk5.2.2.2 12) b))), SS L 1 c2 c3 c4 c5 c6)))))) ∧ (∀ (E19 : Dt), (¬ (fsF (htB xk1.2.2.1 xk1.2.2.2 b) (lf (xk1.2.2.2 11) b) (lf (xk1.2.2.2 12) b)) < 0 ∧ FrR D E19 ∧ E19 226 12 = lf (xk1.2.2.2 3) (fsF (htB xk1.2.2.1 xk1.2.2.2 b) (lf (xk1.2.2.2 11) b) (lf (xk1.2.2.2 12) b))) → (Q (.inl [vi 4]) (E19, SS L 1 c2 c3 c4 c5 c6)))))) ∧ (¬ (b < D 273 2) → (Q (.inl [vi 0]) (up D 226 12 (-1), SS L 1 c2 c3 c4 c5 c6))))) : wp 232 70 [vr 226, vr 273, vi b] [] (D, SS L 1 c2 c3 c4 c5 c6) Q := vc_wp [109] 200 _ _ _ _ _ _ (show ((b < D 273 2 → (wp 281 0 [vr 226, vr 273, vi b, vu, vu, vu, vu] [] (D, SS L 1 c2 c3 c4 c5 c6) (aft wp 232 81 [vr 226, vr 273, vi b] [] Q))) ∧ (¬ (b < D 273 2) → (wp 232 109 [vr 226, vr 273, vi b] [] (up D 226 12 (-1), SS L 1 c2 c3 c4 c5 c6) Q))) from ⟨fun h35 => Exists.elim ((H.1 h35)) fun xk1 x2 => s281 ⟨xk1, x2.1, (fun E3 q4 => (show wp 232 84 [vr 226, vr 273, vi b] [vi 1] (E3, SS L 1 c2 c3 c4 c5 c6) Q from vc_wp [] 200 _ _ _ _ _ _ (show (((1 : Int) = 0 → (Q (.inl [vi 4]) (E3, SS L 1 c2 c3 c4 c5 c6))) ∧ (¬ ((1 : Int) = 0) → (wp 289 0 [vr 226, vr 273, vi b, vu, vu, vu] [] (E3, SS L 1 c2 c3 c4 c5 c6) (aft wp 232 90 [vr 226, vr 273, vi b] [] Q)))) from ⟨fun h17 => absurd h17 (by decide), fun _ => Exists.elim ((x2.2.1 E3 q4)) fun xk5 x6 => s289 ⟨xk5, x6.1, (fun E7 q8 => (show wp 232 93 [vr 226, vr 273, vi b] [vi 1] (E7, SS L 1 c2 c3 c4 c5 c6) Q from vc_wp [101] 200 _ _ _ _ _ _ (show (((1 : Int) = 0 → (Q (.inl [vi 4]) (E7, SS L 1 c2 c3 c4 c5 c6))) ∧ (¬ ((1 : Int) = 0) → (wp 232 101 [vr 226, vr 273, vi (w32 (b + 1))] [] (E7, SS L 1 c2 c3 c4 c5 c6) Q))) from ⟨fun h10 => absurd h10 (by decide), fun _ => w32_i (fun z9 : Int => wp 232 101 [vr 226, vr 273, vi z9] [] (E7, SS L 1 c2 c3 c4 c5 c6) Q) ((x6.2.1 E7 q8)).1 (vc_wp [70] 200 _ _ _ _ _ _ (show wp 232 70 [vr 226, vr 273, vi (b + 1)] [] (E7, SS L 1 c2 c3 c4 c5 c6) Q from ((x6.2.1 E7 q8)).2))⟩))), (fun E12 q13 => (show wp 232 93 [vr 226, vr 273, vi b] [vi 0] (up E12 226 12 (lf (xk5.2.2.2 3) (fsF (tyB xk5.2.1 xk5.2.2.1 xk5.2.2.2 b) (lf (xk5.2.2.2 11) b) (lf (xk5.2.2.2 12) b))), SS L 1 c2 c3 c4 c5 c6) Q from vc_wp [101] 200 _ _ _ _ _ _ (show (((0 : Int) = 0 → (Q (.inl [vi 4]) (up E12 226 12 (lf (xk5.2.2.2 3) (fsF (tyB xk5.2.1 xk5.2.2.1 xk5.2.2.2 b) (lf (xk5.2.2.2 11) b) (lf (xk5.2.2.2 12) b))), SS L 1 c2 c3 c4 c5 c6))) ∧ (¬ ((0 : Int) = 0) → (wp 232 101 [vr 226, vr 273, vi (w32 (b + 1))] [] (up E12 226 12 (lf (xk5.2.2.2 3) (fsF (tyB xk5.2.1 xk5.2.2.1 xk5.2.2.2 b) (lf (xk5.2.2.2 11) b) (lf (xk5.2.2.2 12) b))), SS L 1 c2 c3 c4 c5 c6) Q))) from ⟨fun _ => (x6.2.2 E12 q13), fun h16 => absurd (by decide) h16⟩)))⟩⟩))), (fun E19 q20 => (show wp 232 84 [vr 226, vr 273, vi b] [vi 0] (E19, SS L 1 c2 c3 c4 c5 c6) Q from vc_wp [] 200 _ _ _ _ _ _ (show (((0 : Int) = 0 → (Q (.inl [vi 4]) (E19, SS L 1 c2 c3 c4 c5 c6))) ∧ (¬ ((0 : Int) = 0) → (wp 289 0 [vr 226, vr 273, vi b, vu, vu, vu] [] (E19, SS L 1 c2 c3 c4 c5 c6) (aft wp 232 90 [vr 226, vr 273, vi b] [] Q)))) from ⟨fun _ => (x2.2.2 E19 q20), fun h34 => absurd (by decide) h34⟩)))⟩, fun h36 => vc_wp [] 200 _ _ _ _ _ _ (show Q (.inl [vi 0]) (up D 226 12 (-1), SS L 1 c2 c3 c4 c5 c6) from (H.2 h36))⟩)
theorem r232_66 {L c2 c3 c4 c5 c6 : Nat} {D : Dt} {Q : Out → Wd → Prop} (H : Q (.inl [vi 3]) (D, SS L 1 c2 c3 c4 c5 c6)) : wp 232 66 [vr 226, vr 273, vu] [] (D, SS L 1 c2 c3 c4 c5 c6) Q := vc_wp [] 200 _ _ _ _ _ _ (show Q (.inl [vi 3]) (D, SS L 1 c2 c3 c4 c5 c6) from H)
/-- the bodies, one after the other -/
theorem l232 {L c2 c3 c4 c5 c6 : Nat} {D : Dt} {Q : Out → Wd → Prop} {K : TK} {ns ab : List Int} {X Y : XB} (hX : PX K ns ab X Y) (hM : PMo K ns ab X Y D) (Hz : ∀ E, ¬ (chR ab X Y (X 4).length 0).1 = true → FrR D E → E 226 12 = (chR ab X Y (X 4).length 0).2 → Q (.inl [vi 4]) (E, SS L 1 c2 c3 c4 c5 c6)) (Hk : ∀ E, (chR ab X Y (X 4).length 0).1 = true → FrR D E → COk ab X Y (E 292) → Q (.inl [vi 0]) (up E 226 12 (-1), SS L 1 c2 c3 c4 c5 c6)) : wp 232 70 [vr 226, vr 273, vi 0] [] (D, SS L 1 c2 c3 c4 c5 c6) Q := by
  have hP := px_t hX
  have h48 := hP.1.2.2.1
  have hB : ∀ (M : Nat) (b : Nat) (E : Dt), (X 4).length - b = M → b ≤ (X 4).length → FrR D E → (∀ q : Int, 0 ≤ q → q < b → BOk ab X Y q ∧ ∀ i : Int, lf (Y 11) q ≤ i → i < lf (Y 12) q → E 292 i = htF X Y q i) → chR ab X Y (X 4).length 0 = chR ab X Y M b → wp 232 70 [vr 226, vr 273, vi b] [] (E, SS L 1 c2 c3 c4 c5 c6) Q := by
    intro M
    induction M with
    | zero =>
      intro b E e hb f hq er
      have h2 : E 273 2 = (X 4).length := by rw [f.1 273 (by decide) (by decide) (by decide)]; exact hM.2.2.2.1.1.1
      refine r232_70 ⟨fun g => by omega, fun _ => Hk E (by rw [er]; rfl) f (fun q q0 q1 => hq q q0 (by omega))⟩
    | succ M ih =>
      intro b E e hb f hq er
      have h2 : E 273 2 = (X 4).length := by rw [f.1 273 (by decide) (by decide) (by decide)]; exact hM.2.2.2.1.1.1
      have hbb : (0 : Int) ≤ b ∧ (b : Int) < (X 4).length := by omega
      have hrg := hP.1.rg hbb.1 hbb.2
      have hME : PMo K ns ab X Y E := hM.r (fun a x => f.1 a x.1 x.2.1 x.2.2)
      have hS := pm_m hME
      have er : chR ab X Y (X 4).length 0 = cit ((bfa ab X Y b).1 = true) (chR ab X Y M ((b : Int) + 1)) (bfa ab X Y b) := er
      refine r232_70 ⟨fun _ => ⟨(ns, ab, X, Y), ⟨hS.1, hP.1, hbb⟩, fun E2 x => ?_, fun E2 x => ?_⟩, fun g => by omega⟩
      · dsimp only at x
        obtain ⟨x1, x2, x3, x4⟩ := x
        have hC : TC ns ab X Y b := ⟨hP, hbb, ht_no hrg.1 x1⟩
        have f2 : FrR D E2 := f.t ⟨fun a y1 y2 y3 => x2 a (by omega) y2, fun i _ _ => congrFun (x2 226 (by decide) (by decide)) i⟩
        have hM2 : PMo K ns ab X Y E2 := hM.r (fun a x => f2.1 a x.1 x.2.1 x.2.2)
        refine ⟨(ns, ab, X, Y), ⟨pm_m hM2, hC, x3⟩, fun E3 y => ⟨by omega, ?_⟩, fun E3 y => ?_⟩
        · dsimp only at y
          rw [show bfa ab X Y b = (true, 0) from (cit_t x1).trans (cit_t y.1), cit_t rfl] at er
          have := ih (b + 1) E3 (by omega) (by omega) (f2.t y.2.1.rr) (fun q q0 q1 => ?_) (by rw [show ((b + 1 : Nat) : Int) = (b : Int) + 1 by omega]; exact er)
          · rw [show ((b + 1 : Nat) : Int) = (b : Int) + 1 by omega] at this
            exact this
          · have e3 : ∀ i, E3 292 i = E2 292 i := fun i => congrFun (y.2.1.1 292 (by decide) (by decide)) i
            by_cases eq : q = b
            · rw [eq]
              exact ⟨⟨x1, y.1, y.2.2⟩, fun i i0 i1 => (e3 i).trans (x3 i i0 i1)⟩
            · have hqq := hq q q0 (by omega)
              refine ⟨hqq.1, fun i i0 i1 => (e3 i).trans ((x4 i ?_).trans (hqq.2 i i0 i1))⟩
              intro hin
              have h1 := (hP.1.1.2.2.2.2.2 q q0 (by omega)).2.2 i i0 i1
              have h2 := (hP.1.1.2.2.2.2.2 b hbb.1 hbb.2).2.2 i hin.1 hin.2
              omega
        · dsimp only at y
          rw [show bfa ab X Y b = _ from (cit_t x1).trans (cit_f y.1), cit_f (fun h => by cases h)] at er
          refine Hz _ (by rw [er]; exact (fun h => by cases h)) ?_ (by rw [er, ub_s])
          refine f2.t (y.2.rr.t ⟨fun a y1 y2 y3 => ?_, fun i y1 y2 => ?_⟩)
          · rw [ub_a y1]
          · rw [ub_n y1]
      · dsimp only at x
        rw [show bfa ab X Y b = _ from cit_f x.1, cit_f (fun h => by cases h)] at er
        exact Hz _ (by rw [er]; exact (fun h => by cases h)) (f.t x.2.1) (by rw [er]; exact x.2.2)
  exact hB _ 0 D rfl (by omega) (FrR.r D) (fun q q0 q1 => by
    have q1 : q < ((0 : Nat) : Int) := q1
    omega) rfl
theorem s232 {L c2 c3 c4 c5 c6 : Nat} {D : Dt} {Q : Out → Wd → Prop} (H : (0 ≤ D 226 7 ∧ D 226 7 ≤ 16000) ∧ (∀ E, (¬ (ocF (D 320) (D 226 7)).1 = 0 ∧ FrMl D E ∧ E 226 12 = (ocF (D 320) (D 226 7)).2) → Q (.inl [vi (ocF (D 320) (D 226 7)).1]) (E, SS L 1 c2 c3 c4 c5 c6)) ∧ (∀ E ns ab X Y, (ocF (D 320) (D 226 7) = (0, -1) ∧ (pprog (KT (D 320) (tks (D 320) (D 226 7)).2)).1 = true ∧ ldR (KT (D 320) (tks (D 320) (D 226 7)).2) = ((true, 0), ns, ab, X, Y) ∧ PX (KT (D 320) (tks (D 320) (D 226 7)).2) ns ab X Y ∧ FrMl D E ∧ E 226 12 = -1 ∧ PMo (KT (D 320) (tks (D 320) (D 226 7)).2) ns ab X Y E ∧ COk ab X Y (E 292)) → Q (.inl [vi 0]) (E, SS L 1 c2 c3 c4 c5 c6))) : wp 232 0 [vr 226, vr 273, vu] [] (D, SS L 1 c2 c3 c4 c5 c6) Q := by
  obtain ⟨hn, Hz, Hk⟩ := H
  generalize eo : ocF (D 320) (D 226 7) = o at *
  refine r232_0 ⟨hn, fun mf mt rs ok x => ?_⟩
  obtain ⟨et, hr⟩ := x
  have er : (tks (D 320) (D 226 7)).2 = rs := by rw [et]
  have hr' : TRep mf mt (tks (D 320) (D 226 7)).2 := by rw [er]; exact hr
  have f0 : FrMl D (sp (sp (up D 226 10 rs.length) 321 mf) 322 mt) := (((FrMl.r D).u (Or.inr (Or.inr ⟨rfl, by decide, by decide⟩))).s ⟨by decide, by decide⟩).s ⟨by decide, by decide⟩
  refine ⟨fun g => ?_, fun g => ?_⟩
  · have hk := kt_m (tx := D 320) hn.1 hn.2 hr'
    generalize eK : KT (D 320) (tks (D 320) (D 226 7)).2 = K at *
    have eo1 : ocR K = o := by
      rw [← eo]
      unfold ocF
      rw [et, cit_t g, ← er, eK]
    rw [er] at hk
    have hM0 : MKp K ((sp (sp (up D 226 10 rs.length) 321 mf) 322 mt) 226 10) ((sp (sp (up D 226 10 rs.length) 321 mf) 322 mt) 321) ((sp (sp (up D 226 10 rs.length) 321 mf) 322 mt) 322) ((sp (sp (up D 226 10 rs.length) 321 mf) 322 mt) 320) := by
      rw [sp_a (by decide), sp_a (by decide), ub_s, sp_a (a := 322) (b := 321) (by decide), sp_s, sp_s, sp_a (by decide), sp_a (by decide), ub_a (by decide)]
      exact hk
    generalize eD1 : sp (sp (up D 226 10 rs.length) 321 mf) 322 mt = D1 at *
    unfold ocR at eo1
    refine r232_17 (K := K) ⟨hM0, fun g1 => ?_, fun g1 => ?_⟩
    · rw [cit_t g1] at eo1
      have f2 : FrMl D (up D1 226 11 (pprog K).2) := f0.u (Or.inr (Or.inr ⟨rfl, by decide, by decide⟩))
      have h3 : ∀ E : Dt, FrMl D E → o = (3, (ldR K).1.2) → E 226 12 = (ldR K).1.2 → wp 232 66 [vr 226, vr 273, vu] [] (E, SS L 1 c2 c3 c4 c5 c6) Q := fun E f e e2 => by
        subst e
        exact r232_66 (Hz E ⟨(by decide : ¬ (3 : Int) = 0), f, e2⟩)
      have hM2 : MKp K ((up D1 226 11 (pprog K).2) 226 10) ((up D1 226 11 (pprog K).2) 321) ((up D1 226 11 (pprog K).2) 322) ((up D1 226 11 (pprog K).2) 320) := by
        rw [ub_n (by decide), ub_a (by decide), ub_a (by decide), ub_a (by decide)]; exact hM0
      refine r232_34 (K := K) ⟨⟨hM2, g1⟩, fun E2 x => ?_, fun E2 x => ?_⟩
      · obtain ⟨x1, x2, x3, x4, x5, x6⟩ := x
        have ha := pcn_all x3
        generalize e1 : (pcn K (lcls K) [] []).2.2.1 = ns at *
        generalize e2 : (pcn K (lcls K) [] []).2.2.2 = ab at *
        have hME2 := mk_f hM2 x1
        refine ⟨(ns, ab), ⟨hME2, x4, ⟨x5, ha.2.2.1, by dsimp only; omega⟩, g1, ha.1, x6⟩, fun E6 y => ?_, fun E6 y => ?_⟩
        · dsimp only at y
          obtain ⟨y1, y2, y3, y4, y5⟩ := y
          have y0 := mF2_0 _ _ _ _ y1
          have h4 : mF2 K ns ab (lcls K) 8 0 X0 = (true, 0, (mF2 K ns ab (lcls K) 8 0 X0).2.2) := by
            generalize mF2 K ns ab (lcls K) 8 0 X0 = u at y1 y0 ⊢
            obtain ⟨a, b, c⟩ := u
            dsimp only at y1 y0 ⊢
            rw [y1, y0]
          generalize e4 : (mF2 K ns ab (lcls K) 8 0 X0).2.2 = X at *
          have hsb : SB X (8 + ns.length) := by
            have := sb_2 (K := K) (ns := ns) (ab := ab) (lcls K) 8 0 X0 sb_0 y1
            rw [e4] at this
            rw [ha.1, List.length_map]
            exact this
          have hW : MW K ns ab X E6 := by
            refine ⟨mk_f hME2 y2.n, ?_, ⟨?_, ha.2.2.1, by omega, x6⟩, y4, y5, y3.1.2.1, y3.1.2.2.1, y3.1.2.2.2.1⟩
            · rw [y2.2 0 (by decide) (by decide), y2.1 323 (by decide) (by decide) (by decide)]; exact x4
            · rw [y2.1 274 (by decide) (by decide) (by decide)]; exact x5
          have f6 : FrMl D E6 := (f2.t x1.g).t y2.n.g
          refine ⟨(ns, ab, X), hW, fun E10 z => ?_, fun E10 z => ?_⟩
          · dsimp only at z
            obtain ⟨z1, z2, z3, z4, z5, z6, z7⟩ := z
            refine ⟨(ns, ab, X, (bsR K ns ab X (X 4).length 0 Y0).2), ⟨z3, hsb, y3, z6, z4, z7⟩, fun E14 v => ?_, fun E14 v => ?_⟩
            · dsimp only at v
              obtain ⟨v1, v2, v3⟩ := v
              have e5 := ld_5 x3 e1 e2 h4 z1 v1
              have hX : PX K ns ab X (bsR K ns ab X (X 4).length 0 Y0).2 := ⟨y3, hsb, ⟨ha.2.2.1, by omega, x6⟩, z4, z5, ⟨z1, rfl⟩, v1⟩
              have f14 : FrMl D E14 := (f6.t z2.g).t v2.g
              generalize eY : (bsR K ns ab X (X 4).length 0 Y0).2 = Y at *
              rw [e5, cit_t rfl] at eo1
              dsimp only at eo1
              refine l232 hX v3 (fun E c1 c2 c3 => ?_) (fun E c1 c2 c3 => ?_)
              · rw [cit_f c1] at eo1
                subst eo1
                exact Hz E ⟨(by decide : ¬ (4 : Int) = 0), f14.t c2.g, c3⟩
              · rw [cit_t c1] at eo1
                refine Hk _ ns ab X Y ⟨eo1.symm, g1, e5, hX, (f14.t c2.g).u (Or.inr (Or.inr ⟨rfl, by decide, by decide⟩)), by rw [ub_s], ?_, ?_⟩
                · refine v3.r (fun b hb => ?_)
                  rw [ub_a hb.1]; exact c2.1 b hb.1 hb.2.1 hb.2.2
                · rw [ub_a (by decide)]; exact c3
            · dsimp only at v
              have e5 := ld_4 x3 e1 e2 h4 z1 v.1
              rw [e5, cit_f (fun h => by cases h)] at eo1
              exact h3 E14 ((f6.t z2.g).t v.2.1.g) (by rw [e5]; exact eo1.symm) (by rw [e5]; exact v.2.2)
          · dsimp only at z
            have e5 := ld_3 x3 e1 e2 h4 z.1
            rw [e5, cit_f (fun h => by cases h)] at eo1
            exact h3 E10 (f6.t z.2.1.g) (by rw [e5]; exact eo1.symm) (by rw [e5]; exact z.2.2)
        · dsimp only at y
          have e5 := ld_2 x3 e1 e2 y.2.1
          rw [e5, cit_f (fun h => by cases h)] at eo1
          exact h3 E6 ((f2.t x1.g).t y.1.g) (by rw [e5]; exact eo1.symm) (by rw [e5]; exact y.2.2)
      · have e5 := ld_1 x.2.1
        rw [e5, cit_f (fun h => by cases h)] at eo1
        exact h3 E2 (f2.t x.1.g) (by rw [e5]; exact eo1.symm) (by rw [e5]; exact x.2.2)
    · rw [cit_f g1] at eo1
      subst eo1
      refine Hz _ ⟨(by decide : ¬ (2 : Int) = 0), (f0.u (Or.inr (Or.inr ⟨rfl, by decide, by decide⟩))).u (Or.inr (Or.inr ⟨rfl, by decide, by decide⟩)), by rw [ub_s]⟩
  · have eo1 : (1, (rs.length : Int)) = o := by
      rw [← eo]
      unfold ocF
      rw [et, cit_f g]
    subst eo1
    exact Hz _ ⟨(by decide : ¬ (1 : Int) = 0), f0.u (Or.inr (Or.inr ⟨rfl, by decide, by decide⟩)), by rw [ub_s]⟩
