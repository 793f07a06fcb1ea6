/-! names: the model's load, the whole -/
set_option maxRecDepth 100000
theorem tk_s : ∀ (l : List Int) (n : Nat), n < l.length → l.take (n + 1) = l.take n ++ [lf l n]
  | [], n, h => by cases h
  | a :: l, 0, _ => rfl
  | a :: l, n + 1, h => by
    have h1 : n < l.length := by rw [List.length_cons] at h; omega
    show a :: l.take (n + 1) = a :: (l.take n ++ [lf (a :: l) ((n + 1 : Nat) : Int)])
    rw [tk_s l n h1]
    have : lf (a :: l) ((n + 1 : Nat) : Int) = lf l n := by
      unfold lf
      rw [Int.toNat_natCast, Int.toNat_natCast]
      rfl
    rw [this]
theorem fab_app {ab : List Int} {c : Int} : ∀ (l m : List Int), fab ab (l ++ m) c = fab ab l c + fab ab m c
  | [], m => by show fab ab m c = 0 + fab ab m c; omega
  | k :: l, m => by
    show ib (cbl ab c k) + fab ab (l ++ m) c = (ib (cbl ab c k) + fab ab l c) + _
    rw [fab_app l m]; omega
theorem fab_t {ab l : List Int} {c : Int} {n : Nat} (h : n < l.length) : fab ab (l.take (n + 1)) c = fab ab (l.take n) c + ib (cbl ab c (lf l n)) := by
  rw [tk_s l n h, fab_app]
  show _ + (ib _ + 0) = _
  omega
theorem fab_d {ab l : List Int} {c : Int} : ∀ (M n : Nat), l.length - n = M → n ≤ l.length → (∀ j : Int, n ≤ j → j < l.length → ¬ cbl ab c (lf l j)) → fab ab (l.drop n) c = 0
  | 0, n, e, h, _ => by rw [drop_z (by omega)]; rfl
  | M + 1, n, e, h, hj => by
    rw [lf_dc (by omega)]
    show ib _ + fab ab (l.drop (n + 1)) c = 0
    rw [ib_f (hj n (by omega) (by omega)), fab_d M (n + 1) (by omega) (by omega) (fun j j0 j1 => hj j (by omega) j1)]
    rfl
/-- how many of the first n are c -/
noncomputable def cnN (l : List Int) (c : Int) : Nat → Int
  | 0 => 0
  | n + 1 => cnN l c n + ib (lf l n = c)
theorem cnN_b {l : List Int} {c : Int} : ∀ n : Nat, 0 ≤ cnN l c n ∧ cnN l c n ≤ n
  | 0 => ⟨Int.le_refl _, Int.le_refl _⟩
  | n + 1 => by
    have := cnN_b (l := l) (c := c) n
    have := ib_01 (lf l n = c)
    show 0 ≤ cnN l c n + ib _ ∧ cnN l c n + ib _ ≤ _
    omega
theorem fab_c {ab l : List Int} (hw : ABw ab) {c : Int} (h0 : 0 ≤ c) (h1 : c < 8 + ab.length) : ∀ n : Nat, n ≤ l.length → fab ab (l.take n) c = fab ab (l.take n) (abF ab c) + cnN l c n
  | 0, _ => rfl
  | n + 1, h => by
    rw [fab_t (by omega), fab_t (by omega), fab_c hw h0 h1 n (by omega)]
    show _ = _ + (cnN l c n + ib (lf l n = c))
    by_cases e : lf l n = c
    · have h2 := abF_w hw h0 h1
      have h3 : ¬ cbl ab (abF ab c) (lf l n) := fun x => by
        by_cases hz : abF ab c < 0
        · exact cbl_n hz x
        · have := cbl_le hw _ (abF ab c) (Nat.lt_succ_self _) (by omega) x
          omega
      rw [ib_f h3, ib_t e, ib_t (by rw [e]; exact cbl_e h0)]
      omega
    · rw [ib_f e, ib_c (cbl_s hw h0 h1 (fun x => e x.symm))]
      omega
theorem tk_all {l : List Int} : l.take l.length = l := List.take_length
/-- with classes that go up, the place of a field -/
theorem fab_p {ab : List Int} {X : XB} {k : Int} (hw : ABw ab) (hs : SB X k) {f : Int} (f0 : 0 ≤ f) (f1 : f < (X 0).length) (hc0 : 0 ≤ lf (X 0) f) (hc : lf (X 0) f < 8 + ab.length) : fab ab ((X 0).take f.toNat) (lf (X 0) f) = fab ab (X 0) (abF ab (lf (X 0) f)) + cnN (X 0) (lf (X 0) f) f.toNat := by
  rw [fab_c hw hc0 hc _ (by omega)]
  have h2 := abF_w hw hc0 hc
  have h3 : fab ab ((X 0).drop f.toNat) (abF ab (lf (X 0) f)) = 0 := fab_d _ _ rfl (by omega) (fun j j0 j1 x => by
    by_cases hz : abF ab (lf (X 0) f) < 0
    · exact cbl_n hz x
    · have h4 := cbl_le hw _ (abF ab (lf (X 0) f)) (Nat.lt_succ_self _) (by omega) x
      by_cases e : j = f
      · rw [e] at h4; omega
      · have := hs.2.1 f j f0 (by omega) j1
        omega)
  have h4 : fab ab (X 0) (abF ab (lf (X 0) f)) = fab ab ((X 0).take f.toNat) (abF ab (lf (X 0) f)) + fab ab ((X 0).drop f.toNat) (abF ab (lf (X 0) f)) := by
    rw [← fab_app, List.take_append_drop]
  omega
/-- the thresholds of a program -/
def thQ (Y : XB) (v : Int) : Prop := thP Y v ∨ (-1 ≤ v ∧ v ≤ 1) ∨ v = -2147483648 ∨ v = -2147483647 ∨ v = 2147483646 ∨ v = 2147483647
def CdN (Y : XB) (D : Dt) : Prop := (D 273 3 = (Y 0).length ∧ D 273 4 = (Y 5).length ∧ D 273 5 = (Y 6).length) ∧ L1 (D 288) (Y 0) ∧ (∀ i : Int, 0 ≤ i → i < (Y 0).length → D 289 i = mA (lf (Y 0) i) (lf (Y 1) i) (lf (Y 2) i) ∧ D 290 i = mB (lf (Y 0) i) (lf (Y 2) i)) ∧ L1 (D 329) (Y 3) ∧ L1 (D 291) (Y 4) ∧ L1 (D 293) ((Y 5).map mT) ∧ (L1 (D 295) (Y 6) ∧ L1 (D 296) (Y 7) ∧ L1 (D 297) (Y 8) ∧ L1 (D 298) (Y 9) ∧ L1 (D 294) (Y 10))
theorem CdM.n {Y : XB} {D : Dt} (h : CdM Y D) : CdN Y D := ⟨h.1, h.2.1, h.2.2.1, h.2.2.2.1, h.2.2.2.2.1, h.2.2.2.2.2.1, h.2.2.2.2.2.2.1⟩
/-- which body is meant -/
noncomputable def mean (K : TK) (ab : List Int) (X : XB) (c b : Int) : Int := nea K ab (X 4) (X 5) c (K.tf (lf (X 5) b)) (K.tt (lf (X 5) b))
/-- what a loaded program is, in the model's places -/
def PMo (K : TK) (ns ab : List Int) (X Y : XB) (D : Dt) : Prop := CM K ns (D 273 0) (D 323) ∧ ABp (D 274) ab ∧ FdM K X D ∧ BM K X D ∧ CdN Y D ∧ FeM Y D ∧ D 273 6 = mnL K ns X (X 4).length ∧ (∀ c : Int, 0 ≤ c → c < 8 + ns.length → D 275 c = fab ab (X 0) c) ∧ L1 (D 278) (X 3) ∧ (∀ c b : Int, 0 ≤ c → c < 8 + ns.length → 0 ≤ b → b < (X 4).length → D 287 (c * 48 + b) = mean K ab X c b) ∧ (∀ s : Int, 48 ≤ s → s < 54 → D 293 s = s - 38) ∧ SL (D 299) (D 273 7) (thQ Y) ∧ D 273 7 ≤ 3079
def FrO (D E : Dt) : Prop := (∀ b, ¬ b = 273 → ¬ b = 275 → ¬ b = 278 → ¬ b = 287 → ¬ b = 293 → ¬ b = 299 → E b = D b) ∧ ∀ i, ¬ i = 6 → ¬ i = 7 → E 273 i = D 273 i
theorem FrO.r (D : Dt) : FrO D D := ⟨fun _ _ _ _ _ _ _ => rfl, fun _ _ _ => rfl⟩
theorem FrO.t {D E F : Dt} (h : FrO D E) (h2 : FrO E F) : FrO D F := ⟨fun b x y z w u v => (h2.1 b x y z w u v).trans (h.1 b x y z w u v), fun i x y => (h2.2 i x y).trans (h.2 i x y)⟩
theorem FrT.o {D E : Dt} (h : FrT D E) : FrO D E := ⟨fun b x _ _ _ _ v => h.1 b x v, fun i _ y => h.2 i y⟩
theorem FrO.u {D E : Dt} (h : FrO D E) {a : Nat} {i v : Int} (ha : a = 275 ∨ a = 278 ∨ a = 287 ∨ a = 293 ∨ (a = 273 ∧ i = 6)) : FrO D (up E a i v) := by
  refine ⟨fun b x y z w u v => ?_, fun j x y => ?_⟩
  · rw [ub_a (by omega)]; exact h.1 b x y z w u v
  · by_cases e : a = 273
    · subst e
      rw [ub_n (by omega)]; exact h.2 j x y
    · rw [ub_a (by omega)]; exact h.2 j x y
theorem FrO.n {D E : Dt} (h : FrO D E) : FrN D E := ⟨fun b _ y _ => h.1 b (by omega) (by omega) (by omega) (by omega) (by omega) (by omega), fun i _ _ _ => congrFun (h.1 226 (by decide) (by decide) (by decide) (by decide) (by decide) (by decide)) i⟩
theorem MW.o {K : TK} {ns ab : List Int} {X : XB} {D E : Dt} (h : MW K ns ab X D) (f : FrO D E) : MW K ns ab X E := by
  obtain ⟨h1, h2, h3, h4, h5, h6, h7⟩ := h
  have g : ∀ b, ¬ b = 273 ∧ ¬ b = 275 ∧ ¬ b = 278 ∧ ¬ b = 287 ∧ ¬ b = 293 ∧ ¬ b = 299 → E b = D b := fun b x => f.1 b x.1 x.2.1 x.2.2.1 x.2.2.2.1 x.2.2.2.2.1 x.2.2.2.2.2
  refine ⟨mk_f h1 f.n, ?_, ?_, ?_, ?_, h6, h7⟩
  · rw [f.2 0 (by decide) (by decide), g 323 (by decide)]; exact h2
  · rw [g 274 (by decide)]; exact h3
  · unfold FdM
    rw [f.2 1 (by decide) (by decide), g 276 (by decide), g 324 (by decide), g 277 (by decide)]; exact h4
  · unfold BM
    rw [f.2 2 (by decide) (by decide), g 279 (by decide), g 325 (by decide), g 280 (by decide), g 281 (by decide), g 283 (by decide), g 284 (by decide), g 326 (by decide), g 282 (by decide)]; exact h5
theorem r280_0 {L c2 c3 c4 c5 c6 : Nat} {K : TK} {D : Dt} {Q : Out → Wd → Prop} (H : wp 280 2 [vr 226, vr 273, vi (-1), vu, vu] [] (D, SS L 1 c2 c3 c4 c5 c6) Q) : wp 280 0 [vr 226, vr 273, vu, vu, vu] [] (D, SS L 1 c2 c3 c4 c5 c6) Q := vc_wp [2] 200 _ _ _ _ _ _ (show wp 280 2 [vr 226, vr 273, vi (-1), vu, vu] [] (D, SS L 1 c2 c3 c4 c5 c6) Q from H)
theorem r280_2 {L c2 c3 c4 c5 c6 : Nat} {K : TK} {D : Dt} {Q : Out → Wd → Prop} {v : Int} (H : ((v < 2 → (∃ (P1 : Int → Prop), (SL (D 299) (D 273 7) P1 ∧ D 273 7 < 3079) ∧ ((∀ (E3 : Dt), (FrT D E3 ∧ SL (E3 299) (E3 273 7) (fun x => P1 x ∨ (x = v ∧ (-2147483648 ≤ x ∧ x ≤ 2147483647))) ∧ E3 273 7 ≤ D 273 7 + 1) → (((-2147483648) ≤ v + 1 ∧ v + 1 ≤ 2147483647) ∧ (wp 280 2 [vr 226, vr 273, vi (v + 1), vu, vu] [] (E3, SS L 1 c2 c3 c4 c5 c6) Q)))))) ∧ (¬ (v < 2) → (∃ (P6 : Int → Prop), (SL (D 299) (D 273 7) P6 ∧ D 273 7 < 3079) ∧ ((∀ (E8 : Dt), (FrT D E8 ∧ SL (E8 299) (E8 273 7) (fun x => P6 x ∨ (x = ((-2147483648) : Int) ∧ (-2147483648 ≤ x ∧ x ≤ 2147483647))) ∧ E8 273 7 ≤ D 273 7 + 1) → (∃ (P10 : Int → Prop), (SL (E8 299) (E8 273 7) P10 ∧ E8 273 7 < 3079) ∧ ((∀ (E12 : Dt), (FrT E8 E12 ∧ SL (E12 299) (E12 273 7) (fun x => P10 x ∨ (x = ((-2147483647) : Int) ∧ (-2147483648 ≤ x ∧ x ≤ 2147483647))) ∧ E12 273 7 ≤ E8 273 7 + 1) → (∃ (P14 : Int → Prop), (SL (E12 299) (E12 273 7) P14 ∧ E12 273 7 < 3079) ∧ ((∀ (E16 : Dt), (FrT E12 E16 ∧ SL (E16 299) (E16 273 7) (fun x => P14 x ∨ (x = (2147483646 : Int) ∧ (-2147483648 ≤ x ∧ x ≤ 2147483647))) ∧ E16 273 7 ≤ E12 273 7 + 1) → (∃ (P18 : Int → Prop), (SL (E16 299) (E16 273 7) P18 ∧ E16 273 7 < 3079) ∧ ((∀ (E20 : Dt), (FrT E16 E20 ∧ SL (E20 299) (E20 273 7) (fun x => P18 x ∨ (x = (2147483647 : Int) ∧ (-2147483648 ≤ x ∧ x ≤ 2147483647))) ∧ E20 273 7 ≤ E16 273 7 + 1) → (wp 280 54 [vr 226, vr 273, vi 0, vu, vu] [] (E20, SS L 1 c2 c3 c4 c5 c6) Q)))))))))))))))) : wp 280 2 [vr 226, vr 273, vi v, vu, vu] [] (D, SS L 1 c2 c3 c4 c5 c6) Q := vc_wp [] 200 _ _ _ _ _ _ (show ((v < 2 → (wp 276 0 [vr 226, vr 273, vl v, vu, vu, vu] [] (D, SS L 1 c2 c3 c4 c5 c6) (aft wp 280 11 [vr 226, vr 273, vi v, vu, vu] [] Q))) ∧ (¬ (v < 2) → (wp 276 0 [vr 226, vr 273, vl (-2147483648), vu, vu, vu] [] (D, SS L 1 c2 c3 c4 c5 c6) (aft wp 280 25 [vr 226, vr 273, vi v, vu, vu] [] Q)))) from ⟨fun h22 => Exists.elim ((H.1 h22)) fun P1 x2 => s276 ⟨P1, x2.1, (fun E3 q4 => (show wp 280 14 [vr 226, vr 273, vi v, vu, vu] [] (E3, SS L 1 c2 c3 c4 c5 c6) Q from vc_wp [17] 200 _ _ _ _ _ _ (show wp 280 17 [vr 226, vr 273, vi (w32 (v + 1)), vu, vu] [] (E3, SS L 1 c2 c3 c4 c5 c6) Q from w32_i (fun z5 : Int => wp 280 17 [vr 226, vr 273, vi z5, vu, vu] [] (E3, SS L 1 c2 c3 c4 c5 c6) Q) ((x2.2 E3 q4)).1 (vc_wp [2] 200 _ _ _ _ _ _ (show wp 280 2 [vr 226, vr 273, vi (v + 1), vu, vu] [] (E3, SS L 1 c2 c3 c4 c5 c6) Q from ((x2.2 E3 q4)).2)))))⟩, fun h23 => Exists.elim ((H.2 h23)) fun P6 x7 => s276 ⟨P6, x7.1, (fun E8 q9 => (show wp 280 28 [vr 226, vr 273, vi v, vu, vu] [] (E8, SS L 1 c2 c3 c4 c5 c6) Q from vc_wp [] 200 _ _ _ _ _ _ (show wp 276 0 [vr 226, vr 273, vl (-2147483647), vu, vu, vu] [] (E8, SS L 1 c2 c3 c4 c5 c6) (aft wp 280 33 [vr 226, vr 273, vi v, vu, vu] [] Q) from Exists.elim ((x7.2 E8 q9)) fun P10 x11 => s276 ⟨P10, x11.1, (fun E12 q13 => (show wp 280 36 [vr 226, vr 273, vi v, vu, vu] [] (E12, SS L 1 c2 c3 c4 c5 c6) Q from vc_wp [] 200 _ _ _ _ _ _ (show wp 276 0 [vr 226, vr 273, vl 2147483646, vu, vu, vu] [] (E12, SS L 1 c2 c3 c4 c5 c6) (aft wp 280 41 [vr 226, vr 273, vi v, vu, vu] [] Q) from Exists.elim ((x11.2 E12 q13)) fun P14 x15 => s276 ⟨P14, x15.1, (fun E16 q17 => (show wp 280 44 [vr 226, vr 273, vi v, vu, vu] [] (E16, SS L 1 c2 c3 c4 c5 c6) Q from vc_wp [] 200 _ _ _ _ _ _ (show wp 276 0 [vr 226, vr 273, vl 2147483647, vu, vu, vu] [] (E16, SS L 1 c2 c3 c4 c5 c6) (aft wp 280 49 [vr 226, vr 273, vi v, vu, vu] [] Q) from Exists.elim ((x15.2 E16 q17)) fun P18 x19 => s276 ⟨P18, x19.1, (fun E20 q21 => (show wp 280 52 [vr 226, vr 273, vi v, vu, vu] [] (E20, SS L 1 c2 c3 c4 c5 c6) Q from vc_wp [54] 200 _ _ _ _ _ _ (show wp 280 54 [vr 226, vr 273, vi 0, vu, vu] [] (E20, SS L 1 c2 c3 c4 c5 c6) Q from (x19.2 E20 q21))))⟩)))⟩)))⟩)))⟩⟩)
theorem r280_54 {L c2 c3 c4 c5 c6 : Nat} {K : TK} {D : Dt} {Q : Out → Wd → Prop} {v : Int} (H : ((v < 6 → (((-2147483648) ≤ 48 + v ∧ 48 + v ≤ 2147483647) ∧ (((-2147483648) ≤ 10 + v ∧ 10 + v ≤ 2147483647) ∧ ((0 ≤ 48 + v ∧ 48 + v < 54) ∧ (((-2147483648) ≤ v + 1 ∧ v + 1 ≤ 2147483647) ∧ (wp 280 54 [vr 226, vr 273, vi (v + 1), vu, vu] [] (up D 293 (48 + v) (10 + v), SS L 1 c2 c3 c4 c5 c6) Q)))))) ∧ (¬ (v < 6) → (wp 280 81 [vr 226, vr 273, vi 0, vu, vu] [] (D, SS L 1 c2 c3 c4 c5 c6) Q)))) : wp 280 54 [vr 226, vr 273, vi v, vu, vu] [] (D, SS L 1 c2 c3 c4 c5 c6) Q := vc_wp [64, 81] 200 _ _ _ _ _ _ (show ((v < 6 → (wp 280 64 [vr 226, vr 273, vi v, vu, vu] [vr 293] (D, SS L 1 c2 c3 c4 c5 c6) Q)) ∧ (¬ (v < 6) → (wp 280 81 [vr 226, vr 273, vi 0, vu, vu] [] (D, SS L 1 c2 c3 c4 c5 c6) Q))) from ⟨fun h4 => vc_wp [68] 200 _ _ _ _ _ _ (show wp 280 68 [vr 226, vr 273, vi v, vu, vu] [vi (w32 (48 + v)), vr 293] (D, SS L 1 c2 c3 c4 c5 c6) Q from w32_i (fun z3 : Int => wp 280 68 [vr 226, vr 273, vi v, vu, vu] [vi z3, vr 293] (D, SS L 1 c2 c3 c4 c5 c6) Q) ((H.1 h4)).1 (vc_wp [72] 200 _ _ _ _ _ _ (show wp 280 72 [vr 226, vr 273, vi v, vu, vu] [vi (w32 (10 + v)), vi (48 + v), vr 293] (D, SS L 1 c2 c3 c4 c5 c6) Q from w32_i (fun z2 : Int => wp 280 72 [vr 226, vr 273, vi v, vu, vu] [vi z2, vi (48 + v), vr 293] (D, SS L 1 c2 c3 c4 c5 c6) Q) (((H.1 h4)).2).1 (vc_wp [76] 200 _ _ _ _ _ _ (show (0 ≤ 48 + v ∧ 48 + v < 54) ∧ (wp 280 76 [vr 226, vr 273, vi (w32 (v + 1)), vu, vu] [] (up D 293 (48 + v) (10 + v), SS L 1 c2 c3 c4 c5 c6) Q) from ⟨(((H.1 h4)).2).2.1, w32_i (fun z1 : Int => wp 280 76 [vr 226, vr 273, vi z1, vu, vu] [] (up D 293 (48 + v) (10 + v), SS L 1 c2 c3 c4 c5 c6) Q) ((((H.1 h4)).2).2.2).1 (vc_wp [54] 200 _ _ _ _ _ _ (show wp 280 54 [vr 226, vr 273, vi (v + 1), vu, vu] [] (up D 293 (48 + v) (10 + v), SS L 1 c2 c3 c4 c5 c6) Q from ((((H.1 h4)).2).2.2).2))⟩))))), fun h5 => (H.2 h5)⟩)
theorem r280_81 {L c2 c3 c4 c5 c6 : Nat} {K : TK} {D : Dt} {Q : Out → Wd → Prop} {v : Int} (H : (0 ≤ D 273 0 ∧ D 273 0 ≤ 24) ∧ ((((v < 8 + D 273 0 → ((0 ≤ v ∧ v < 32) ∧ ((D 274 v < 0 → (wp 280 118 [vr 226, vr 273, vi v, vi 0, vi 0] [] (D, SS L 1 c2 c3 c4 c5 c6) Q)) ∧ (¬ (D 274 v < 0) → ((0 ≤ v ∧ v < 32) ∧ ((0 ≤ D 274 v ∧ D 274 v < 32) ∧ (wp 280 118 [vr 226, vr 273, vi v, vi (D 275 (D 274 v)), vi 0] [] (D, SS L 1 c2 c3 c4 c5 c6) Q))))))) ∧ (¬ (v < 8 + D 273 0) → (wp 280 235 [vr 226, vr 273, vi 0, vu, vu] [] (up D 273 6 (-1), SS L 1 c2 c3 c4 c5 c6) Q)))))) : wp 280 81 [vr 226, vr 273, vi v, vu, vu] [] (D, SS L 1 c2 c3 c4 c5 c6) Q := vc_wp [] 200 _ _ _ _ _ _ (show wp 254 0 [vr 226, vr 273] [] (D, SS L 1 c2 c3 c4 c5 c6) (aft wp 280 84 [vr 226, vr 273, vi v, vu, vu] [vi v] Q) from s254 ⟨H.1, (show wp 280 87 [vr 226, vr 273, vi v, vu, vu] [vi (8 + D 273 0), vi v] (D, SS L 1 c2 c3 c4 c5 c6) Q from vc_wp [94, 233] 200 _ _ _ _ _ _ (show ((v < 8 + D 273 0 → (wp 280 94 [vr 226, vr 273, vi v, vu, vu] [vr 274] (D, SS L 1 c2 c3 c4 c5 c6) Q)) ∧ (¬ (v < 8 + D 273 0) → (wp 280 233 [vr 226, vr 273, vi v, vu, vu] [] (up D 273 6 (-1), SS L 1 c2 c3 c4 c5 c6) Q))) from ⟨fun h5 => vc_wp [107, 118] 200 _ _ _ _ _ _ (show (0 ≤ v ∧ v < 32) ∧ ((D 274 v < 0 → (wp 280 118 [vr 226, vr 273, vi v, vi 0, vi 0] [] (D, SS L 1 c2 c3 c4 c5 c6) Q)) ∧ (¬ (D 274 v < 0) → (wp 280 107 [vr 226, vr 273, vi v, vu, vu] [vr 275] (D, SS L 1 c2 c3 c4 c5 c6) Q))) from ⟨(H.2.1 h5).1, ⟨fun h3 => ((H.2.1 h5).2.1 h3), fun h4 => vc_wp [111] 200 _ _ _ _ _ _ (show wp 280 111 [vr 226, vr 273, vi v, vu, vu] [vr 274, vr 275] (D, SS L 1 c2 c3 c4 c5 c6) Q from vc_wp [118] 200 _ _ _ _ _ _ (show (0 ≤ v ∧ v < 32) ∧ ((0 ≤ D 274 v ∧ D 274 v < 32) ∧ (wp 280 118 [vr 226, vr 273, vi v, vi (D 275 (D 274 v)), vi 0] [] (D, SS L 1 c2 c3 c4 c5 c6) Q)) from ⟨((H.2.1 h5).2.2 h4).1, ⟨((H.2.1 h5).2.2 h4).2.1, ((H.2.1 h5).2.2 h4).2.2⟩⟩))⟩⟩), fun h6 => vc_wp [235] 200 _ _ _ _ _ _ (show wp 280 235 [vr 226, vr 273, vi 0, vu, vu] [] (up D 273 6 (-1), SS L 1 c2 c3 c4 c5 c6) Q from (H.2.2 h6))⟩))⟩)
theorem r280_118 {L c2 c3 c4 c5 c6 : Nat} {K : TK} {D : Dt} {Q : Out → Wd → Prop} {v n f : Int} (H : ((f < D 273 1 → ((0 ≤ f ∧ f < 48) ∧ ((D 276 f = v → ((0 ≤ f ∧ f < 48) ∧ (((-2147483648) ≤ n + 1 ∧ n + 1 ≤ 2147483647) ∧ (((-2147483648) ≤ f + 1 ∧ f + 1 ≤ 2147483647) ∧ (wp 280 118 [vr 226, vr 273, vi v, vi (n + 1), vi (f + 1)] [] (up D 278 f n, SS L 1 c2 c3 c4 c5 c6) Q))))) ∧ (¬ (D 276 f = v) → (((-2147483648) ≤ f + 1 ∧ f + 1 ≤ 2147483647) ∧ (wp 280 118 [vr 226, vr 273, vi v, vi n, vi (f + 1)] [] (D, SS L 1 c2 c3 c4 c5 c6) Q)))))) ∧ (¬ (f < D 273 1) → ((0 ≤ v ∧ v < 32) ∧ (wp 280 165 [vr 226, vr 273, vi v, vu, vi 0] [] (up D 275 v n, SS L 1 c2 c3 c4 c5 c6) Q))))) : wp 280 118 [vr 226, vr 273, vi v, vi n, vi f] [] (D, SS L 1 c2 c3 c4 c5 c6) Q := vc_wp [131, 159] 200 _ _ _ _ _ _ (show ((f < D 273 1 → (wp 280 131 [vr 226, vr 273, vi v, vi n, vi f] [vr 276] (D, SS L 1 c2 c3 c4 c5 c6) Q)) ∧ (¬ (f < D 273 1) → (wp 280 159 [vr 226, vr 273, vi v, vi n, vi f] [vr 275] (D, SS L 1 c2 c3 c4 c5 c6) Q))) from ⟨fun h6 => vc_wp [142, 149] 200 _ _ _ _ _ _ (show (0 ≤ f ∧ f < 48) ∧ ((D 276 f = v → (wp 280 142 [vr 226, vr 273, vi v, vi n, vi f] [vr 278] (D, SS L 1 c2 c3 c4 c5 c6) Q)) ∧ (¬ (D 276 f = v) → (wp 280 149 [vr 226, vr 273, vi v, vi n, vi f] [] (D, SS L 1 c2 c3 c4 c5 c6) Q))) from ⟨(H.1 h6).1, ⟨fun h4 => vc_wp [149] 200 _ _ _ _ _ _ (show (0 ≤ f ∧ f < 48) ∧ (wp 280 149 [vr 226, vr 273, vi v, vi (w32 (n + 1)), vi f] [] (up D 278 f n, SS L 1 c2 c3 c4 c5 c6) Q) from ⟨((H.1 h6).2.1 h4).1, w32_i (fun z2 : Int => wp 280 149 [vr 226, vr 273, vi v, vi z2, vi f] [] (up D 278 f n, SS L 1 c2 c3 c4 c5 c6) Q) (((H.1 h6).2.1 h4).2).1 (vc_wp [152] 200 _ _ _ _ _ _ (show wp 280 152 [vr 226, vr 273, vi v, vi (n + 1), vi (w32 (f + 1))] [] (up D 278 f n, SS L 1 c2 c3 c4 c5 c6) Q from w32_i (fun z1 : Int => wp 280 152 [vr 226, vr 273, vi v, vi (n + 1), vi z1] [] (up D 278 f n, SS L 1 c2 c3 c4 c5 c6) Q) ((((H.1 h6).2.1 h4).2).2).1 (vc_wp [118] 200 _ _ _ _ _ _ (show wp 280 118 [vr 226, vr 273, vi v, vi (n + 1), vi (f + 1)] [] (up D 278 f n, SS L 1 c2 c3 c4 c5 c6) Q from ((((H.1 h6).2.1 h4).2).2).2))))⟩), fun h5 => vc_wp [152] 200 _ _ _ _ _ _ (show wp 280 152 [vr 226, vr 273, vi v, vi n, vi (w32 (f + 1))] [] (D, SS L 1 c2 c3 c4 c5 c6) Q from w32_i (fun z3 : Int => wp 280 152 [vr 226, vr 273, vi v, vi n, vi z3] [] (D, SS L 1 c2 c3 c4 c5 c6) Q) (((H.1 h6).2.2 h5)).1 (vc_wp [118] 200 _ _ _ _ _ _ (show wp 280 118 [vr 226, vr 273, vi v, vi n, vi (f + 1)] [] (D, SS L 1 c2 c3 c4 c5 c6) Q from (((H.1 h6).2.2 h5)).2)))⟩⟩), fun h7 => vc_wp [165] 200 _ _ _ _ _ _ (show (0 ≤ v ∧ v < 32) ∧ (wp 280 165 [vr 226, vr 273, vi v, vi n, vi 0] [] (up D 275 v n, SS L 1 c2 c3 c4 c5 c6) Q) from ⟨(H.2 h7).1, wp_d (Lle.k rfl (Lle.k rfl (Lle.k rfl (Lle.v rfl (Lle.k rfl (Lle.nil)))))) ((H.2 h7).2)⟩)⟩)
theorem r280_165 {L c2 c3 c4 c5 c6 : Nat} {K : TK} {D : Dt} {Q : Out → Wd → Prop} {v f : Int} (H : ((f < D 273 2 → (((-2147483648) ≤ v * 48 ∧ v * 48 ≤ 2147483647) ∧ (((-2147483648) ≤ (v * 48) + f ∧ (v * 48) + f ≤ 2147483647) ∧ ((0 ≤ f ∧ f < 48) ∧ ((0 ≤ D 325 f ∧ D 325 f < 16002) ∧ ((0 ≤ f ∧ f < 48) ∧ ((0 ≤ D 325 f ∧ D 325 f < 16002) ∧ (∃ (xl1 : List Int × List Int × List Int), (MKp K (D 226 10) (D 321) (D 322) (D 320) ∧ L2p K (D 273 2) (D 279) (D 325) xl1.2.1 xl1.2.2 ∧ (ABp (D 274) xl1.1 ∧ ABw xl1.1 ∧ xl1.1.length ≤ 24) ∧ v < 8 + xl1.1.length ∧ 0 ≤ (D 321 (D 325 f)) ∧ (D 321 (D 325 f)) ≤ 16000 ∧ 0 ≤ (D 322 (D 325 f)) ∧ (D 322 (D 325 f)) ≤ 16000) ∧ (((0 ≤ (v * 48) + f ∧ (v * 48) + f < 1536) ∧ (((-2147483648) ≤ f + 1 ∧ f + 1 ≤ 2147483647) ∧ (wp 280 165 [vr 226, vr 273, vi v, vu, vi (f + 1)] [] (up D 287 ((v * 48) + f) (nea K xl1.1 xl1.2.1 xl1.2.2 v (D 321 (D 325 f)) (D 322 (D 325 f))), SS L 1 c2 c3 c4 c5 c6) Q)))))))))))) ∧ (¬ (f < D 273 2) → (((-2147483648) ≤ v + 1 ∧ v + 1 ≤ 2147483647) ∧ (wp 280 81 [vr 226, vr 273, vi (v + 1), vu, vu] [] (D, SS L 1 c2 c3 c4 c5 c6) Q))))) : wp 280 165 [vr 226, vr 273, vi v, vu, vi f] [] (D, SS L 1 c2 c3 c4 c5 c6) Q := vc_wp [178, 225] 200 _ _ _ _ _ _ (show ((f < D 273 2 → (wp 280 178 [vr 226, vr 273, vi v, vu, vi f] [vr 287] (D, SS L 1 c2 c3 c4 c5 c6) Q)) ∧ (¬ (f < D 273 2) → (wp 280 225 [vr 226, vr 273, vi (w32 (v + 1)), vu, vi f] [] (D, SS L 1 c2 c3 c4 c5 c6) Q))) from ⟨fun h8 => vc_wp [182] 200 _ _ _ _ _ _ (show wp 280 182 [vr 226, vr 273, vi v, vu, vi f] [vi (w32 (v * 48)), vr 287] (D, SS L 1 c2 c3 c4 c5 c6) Q from w32_i (fun z6 : Int => wp 280 182 [vr 226, vr 273, vi v, vu, vi f] [vi z6, vr 287] (D, SS L 1 c2 c3 c4 c5 c6) Q) ((H.1 h8)).1 (vc_wp [185] 200 _ _ _ _ _ _ (show wp 280 185 [vr 226, vr 273, vi v, vu, vi f] [vi (w32 ((v * 48) + f)), vr 287] (D, SS L 1 c2 c3 c4 c5 c6) Q from w32_i (fun z5 : Int => wp 280 185 [vr 226, vr 273, vi v, vu, vi f] [vi z5, vr 287] (D, SS L 1 c2 c3 c4 c5 c6) Q) (((H.1 h8)).2).1 (vc_wp [192] 200 _ _ _ _ _ _ (show wp 280 192 [vr 226, vr 273, vi v, vu, vi f] [vr 321, vi v, vr 273, vr 226, vi ((v * 48) + f), vr 287] (D, SS L 1 c2 c3 c4 c5 c6) Q from vc_wp [196] 200 _ _ _ _ _ _ (show wp 280 196 [vr 226, vr 273, vi v, vu, vi f] [vr 325, vr 321, vi v, vr 273, vr 226, vi ((v * 48) + f), vr 287] (D, SS L 1 c2 c3 c4 c5 c6) Q from vc_wp [204] 200 _ _ _ _ _ _ (show (0 ≤ f ∧ f < 48) ∧ ((0 ≤ D 325 f ∧ D 325 f < 16002) ∧ (wp 280 204 [vr 226, vr 273, vi v, vu, vi f] [vr 322, vi (D 321 (D 325 f)), vi v, vr 273, vr 226, vi ((v * 48) + f), vr 287] (D, SS L 1 c2 c3 c4 c5 c6) Q)) from ⟨(((H.1 h8)).2).2.1, ⟨(((H.1 h8)).2).2.2.1, vc_wp [208] 200 _ _ _ _ _ _ (show wp 280 208 [vr 226, vr 273, vi v, vu, vi f] [vr 325, vr 322, vi (D 321 (D 325 f)), vi v, vr 273, vr 226, vi ((v * 48) + f), vr 287] (D, SS L 1 c2 c3 c4 c5 c6) Q from vc_wp [] 200 _ _ _ _ _ _ (show (0 ≤ f ∧ f < 48) ∧ ((0 ≤ D 325 f ∧ D 325 f < 16002) ∧ (wp 264 0 [vr 226, vr 273, vi v, vi (D 321 (D 325 f)), vi (D 322 (D 325 f)), vu, vu] [] (D, SS L 1 c2 c3 c4 c5 c6) (aft wp 280 212 [vr 226, vr 273, vi v, vu, vi f] [vi ((v * 48) + f), vr 287] Q))) from ⟨(((H.1 h8)).2).2.2.2.1, ⟨(((H.1 h8)).2).2.2.2.2.1, Exists.elim ((((H.1 h8)).2).2.2.2.2.2) fun xl1 x2 => s264 ⟨xl1, x2.1, (show wp 280 215 [vr 226, vr 273, vi v, vu, vi f] [vi (nea K xl1.1 xl1.2.1 xl1.2.2 v (D 321 (D 325 f)) (D 322 (D 325 f))), vi ((v * 48) + f), vr 287] (D, SS L 1 c2 c3 c4 c5 c6) Q from vc_wp [219] 200 _ _ _ _ _ _ (show (0 ≤ (v * 48) + f ∧ (v * 48) + f < 1536) ∧ (wp 280 219 [vr 226, vr 273, vi v, vu, vi (w32 (f + 1))] [] (up D 287 ((v * 48) + f) (nea K xl1.1 xl1.2.1 xl1.2.2 v (D 321 (D 325 f)) (D 322 (D 325 f))), SS L 1 c2 c3 c4 c5 c6) Q) from ⟨x2.2.1, w32_i (fun z4 : Int => wp 280 219 [vr 226, vr 273, vi v, vu, vi z4] [] (up D 287 ((v * 48) + f) (nea K xl1.1 xl1.2.1 xl1.2.2 v (D 321 (D 325 f)) (D 322 (D 325 f))), SS L 1 c2 c3 c4 c5 c6) Q) (x2.2.2).1 (vc_wp [165] 200 _ _ _ _ _ _ (show wp 280 165 [vr 226, vr 273, vi v, vu, vi (f + 1)] [] (up D 287 ((v * 48) + f) (nea K xl1.1 xl1.2.1 xl1.2.2 v (D 321 (D 325 f)) (D 322 (D 325 f))), SS L 1 c2 c3 c4 c5 c6) Q from (x2.2.2).2))⟩))⟩⟩⟩))⟩⟩))))))), fun h9 => w32_i (fun z7 : Int => wp 280 225 [vr 226, vr 273, vi z7, vu, vi f] [] (D, SS L 1 c2 c3 c4 c5 c6) Q) ((H.2 h9)).1 (vc_wp [81] 200 _ _ _ _ _ _ (show wp 280 81 [vr 226, vr 273, vi (v + 1), vu, vi f] [] (D, SS L 1 c2 c3 c4 c5 c6) Q from wp_d (Lle.k rfl (Lle.k rfl (Lle.k rfl (Lle.k rfl (Lle.v rfl (Lle.nil)))))) (((H.2 h9)).2)))⟩)
theorem r280_235 {L c2 c3 c4 c5 c6 : Nat} {K : TK} {D : Dt} {Q : Out → Wd → Prop} {v : Int} (H : ((v < D 273 2 → ((0 ≤ v ∧ v < 48) ∧ ((0 ≤ D 279 v ∧ D 279 v < 32) ∧ ((MKp K (D 226 10) (D 321) (D 322) (D 320) ∧ 0 ≤ (D 323 (D 279 v))) ∧ ((((K.w (D 323 (D 279 v)) 3 → ((0 ≤ v ∧ v < 48) ∧ ((MKp K (D 226 10) (D 321) (D 322) (D 320) ∧ 0 ≤ (D 325 v)) ∧ ((((K.w (D 325 v) 4 → ((0 ≤ v ∧ v < 48) ∧ ((D 280 v = 0 → ((0 ≤ v ∧ v < 48) ∧ ((D 281 v = 0 → ((0 ≤ v ∧ v < 48) ∧ ((D 283 v = (-1) → (wp 280 313 [vr 226, vr 273, vi v, vu, vu] [] (up D 273 6 v, SS L 1 c2 c3 c4 c5 c6) Q)) ∧ (¬ (D 283 v = (-1)) → (wp 280 313 [vr 226, vr 273, vi v, vu, vu] [] (D, SS L 1 c2 c3 c4 c5 c6) Q))))) ∧ (¬ (D 281 v = 0) → (wp 280 313 [vr 226, vr 273, vi v, vu, vu] [] (D, SS L 1 c2 c3 c4 c5 c6) Q))))) ∧ (¬ (D 280 v = 0) → (wp 280 313 [vr 226, vr 273, vi v, vu, vu] [] (D, SS L 1 c2 c3 c4 c5 c6) Q))))) ∧ (¬ (K.w (D 325 v) 4) → (wp 280 313 [vr 226, vr 273, vi v, vu, vu] [] (D, SS L 1 c2 c3 c4 c5 c6) Q)))))))) ∧ (¬ (K.w (D 323 (D 279 v)) 3) → (wp 280 313 [vr 226, vr 273, vi v, vu, vu] [] (D, SS L 1 c2 c3 c4 c5 c6) Q))))))))) ∧ (¬ (v < D 273 2) → ((D 273 6 < 0 → (Q (.inl [vi 0]) (up D 226 12 (D 226 10), SS L 1 c2 c3 c4 c5 c6))) ∧ (¬ (D 273 6 < 0) → (Q (.inl [vi 1]) (D, SS L 1 c2 c3 c4 c5 c6))))))) : wp 280 235 [vr 226, vr 273, vi v, vu, vu] [] (D, SS L 1 c2 c3 c4 c5 c6) Q := vc_wp [248] 200 _ _ _ _ _ _ (show ((v < D 273 2 → (wp 280 248 [vr 226, vr 273, vi v, vu, vu] [vr 323, vr 226] (D, SS L 1 c2 c3 c4 c5 c6) Q)) ∧ (¬ (v < D 273 2) → ((D 273 6 < 0 → (wp 256 0 [vr 226, vi (D 226 10)] [] (D, SS L 1 c2 c3 c4 c5 c6) (aft wp 280 331 [vr 226, vr 273, vi v, vu, vu] [] Q))) ∧ (¬ (D 273 6 < 0) → (((0 : Int) ≤ 1 ∧ 1 ≤ (1 : Int)) ∧ (Q (.inl [vi 1]) (D, SS L 1 c2 c3 c4 c5 c6))))))) from ⟨fun h21 => vc_wp [252] 200 _ _ _ _ _ _ (show wp 280 252 [vr 226, vr 273, vi v, vu, vu] [vr 279, vr 323, vr 226] (D, SS L 1 c2 c3 c4 c5 c6) Q from vc_wp [] 200 _ _ _ _ _ _ (show (0 ≤ v ∧ v < 48) ∧ ((0 ≤ D 279 v ∧ D 279 v < 32) ∧ (wp 235 0 [vr 226, vi (D 323 (D 279 v)), vr 37, vu] [] (D, SS L 1 c2 c3 c4 c5 c6) (aft wp 280 258 [vr 226, vr 273, vi v, vu, vu] [] Q))) from ⟨(H.1 h21).1, ⟨(H.1 h21).2.1, k235s37 ⟨(H.1 h21).2.2.1, (show wp 280 261 [vr 226, vr 273, vi v, vu, vu] [vi (ib (K.w (D 323 (D 279 v)) 3))] (D, SS L 1 c2 c3 c4 c5 c6) Q from vc_wp [269, 313] 200 _ _ _ _ _ _ (show ((ib (K.w (D 323 (D 279 v)) 3) = 0 → (wp 280 313 [vr 226, vr 273, vi v, vu, vu] [] (D, SS L 1 c2 c3 c4 c5 c6) Q)) ∧ (¬ (ib (K.w (D 323 (D 279 v)) 3) = 0) → (wp 280 269 [vr 226, vr 273, vi v, vu, vu] [vr 325, vr 226] (D, SS L 1 c2 c3 c4 c5 c6) Q))) from ⟨fun h13 => ((H.1 h21).2.2.2.2 ((ib_z).mp h13)), fun h14 => vc_wp [] 200 _ _ _ _ _ _ (show (0 ≤ v ∧ v < 48) ∧ (wp 235 0 [vr 226, vi (D 325 v), vr 38, vu] [] (D, SS L 1 c2 c3 c4 c5 c6) (aft wp 280 274 [vr 226, vr 273, vi v, vu, vu] [] Q)) from ⟨((H.1 h21).2.2.2.1 (Classical.not_not.mp (mt (ib_z).mpr h14))).1, k235s38 ⟨((H.1 h21).2.2.2.1 (Classical.not_not.mp (mt (ib_z).mpr h14))).2.1, (show wp 280 277 [vr 226, vr 273, vi v, vu, vu] [vi (ib (K.w (D 325 v) 4))] (D, SS L 1 c2 c3 c4 c5 c6) Q from vc_wp [284, 313] 200 _ _ _ _ _ _ (show ((ib (K.w (D 325 v) 4) = 0 → (wp 280 313 [vr 226, vr 273, vi v, vu, vu] [] (D, SS L 1 c2 c3 c4 c5 c6) Q)) ∧ (¬ (ib (K.w (D 325 v) 4) = 0) → (wp 280 284 [vr 226, vr 273, vi v, vu, vu] [vr 280] (D, SS L 1 c2 c3 c4 c5 c6) Q))) from ⟨fun h11 => (((H.1 h21).2.2.2.1 (Classical.not_not.mp (mt (ib_z).mpr h14))).2.2.2 ((ib_z).mp h11)), fun h12 => vc_wp [293, 313] 200 _ _ _ _ _ _ (show (0 ≤ v ∧ v < 48) ∧ ((D 280 v = 0 → (wp 280 293 [vr 226, vr 273, vi v, vu, vu] [vr 281] (D, SS L 1 c2 c3 c4 c5 c6) Q)) ∧ (¬ (D 280 v = 0) → (wp 280 313 [vr 226, vr 273, vi v, vu, vu] [] (D, SS L 1 c2 c3 c4 c5 c6) Q))) from ⟨(((H.1 h21).2.2.2.1 (Classical.not_not.mp (mt (ib_z).mpr h14))).2.2.1 (Classical.not_not.mp (mt (ib_z).mpr h12))).1, ⟨fun h9 => vc_wp [302, 313] 200 _ _ _ _ _ _ (show (0 ≤ v ∧ v < 48) ∧ ((D 281 v = 0 → (wp 280 302 [vr 226, vr 273, vi v, vu, vu] [vr 283] (D, SS L 1 c2 c3 c4 c5 c6) Q)) ∧ (¬ (D 281 v = 0) → (wp 280 313 [vr 226, vr 273, vi v, vu, vu] [] (D, SS L 1 c2 c3 c4 c5 c6) Q))) from ⟨((((H.1 h21).2.2.2.1 (Classical.not_not.mp (mt (ib_z).mpr h14))).2.2.1 (Classical.not_not.mp (mt (ib_z).mpr h12))).2.1 h9).1, ⟨fun h7 => vc_wp [313] 200 _ _ _ _ _ _ (show (0 ≤ v ∧ v < 48) ∧ ((D 283 v = (-1) → (wp 280 313 [vr 226, vr 273, vi v, vu, vu] [] (up D 273 6 v, SS L 1 c2 c3 c4 c5 c6) Q)) ∧ (¬ (D 283 v = (-1)) → (wp 280 313 [vr 226, vr 273, vi v, vu, vu] [] (D, SS L 1 c2 c3 c4 c5 c6) Q))) from ⟨(((((H.1 h21).2.2.2.1 (Classical.not_not.mp (mt (ib_z).mpr h14))).2.2.1 (Classical.not_not.mp (mt (ib_z).mpr h12))).2.1 h9).2.1 h7).1, ⟨fun h5 => ((((((H.1 h21).2.2.2.1 (Classical.not_not.mp (mt (ib_z).mpr h14))).2.2.1 (Classical.not_not.mp (mt (ib_z).mpr h12))).2.1 h9).2.1 h7).2.1 h5), fun h6 => ((((((H.1 h21).2.2.2.1 (Classical.not_not.mp (mt (ib_z).mpr h14))).2.2.1 (Classical.not_not.mp (mt (ib_z).mpr h12))).2.1 h9).2.1 h7).2.2 h6)⟩⟩), fun h8 => (((((H.1 h21).2.2.2.1 (Classical.not_not.mp (mt (ib_z).mpr h14))).2.2.1 (Classical.not_not.mp (mt (ib_z).mpr h12))).2.1 h9).2.2 h8)⟩⟩), fun h10 => ((((H.1 h21).2.2.2.1 (Classical.not_not.mp (mt (ib_z).mpr h14))).2.2.1 (Classical.not_not.mp (mt (ib_z).mpr h12))).2.2 h10)⟩⟩)⟩))⟩⟩)⟩))⟩⟩⟩)), fun h22 => ⟨fun h19 => r256_0 (show wp 280 334 [vr 226, vr 273, vi v, vu, vu] [vi 0] (up D 226 12 (D 226 10), SS L 1 c2 c3 c4 c5 c6) Q from vc_wp [] 200 _ _ _ _ _ _ (show (((0 : Int) = 0 → (((0 : Int) ≤ 0 ∧ 0 ≤ (1 : Int)) ∧ (Q (.inl [vi 0]) (up D 226 12 (D 226 10), SS L 1 c2 c3 c4 c5 c6)))) ∧ (¬ ((0 : Int) = 0) → (((0 : Int) ≤ 1 ∧ 1 ≤ (1 : Int)) ∧ (Q (.inl [vi 1]) (up D 226 12 (D 226 10), SS L 1 c2 c3 c4 c5 c6))))) from ⟨fun _ => ⟨(by decide), ((H.2 h22).1 h19)⟩, fun h18 => absurd (by decide) h18⟩)), fun h20 => ⟨(by decide), ((H.2 h22).2 h20)⟩⟩⟩)
theorem r280_313 {L c2 c3 c4 c5 c6 : Nat} {K : TK} {D : Dt} {Q : Out → Wd → Prop} {v : Int} (H : ((-2147483648) ≤ v + 1 ∧ v + 1 ≤ 2147483647) ∧ (wp 280 235 [vr 226, vr 273, vi (v + 1), vu, vu] [] (D, SS L 1 c2 c3 c4 c5 c6) Q)) : wp 280 313 [vr 226, vr 273, vi v, vu, vu] [] (D, SS L 1 c2 c3 c4 c5 c6) Q := vc_wp [316] 200 _ _ _ _ _ _ (show wp 280 316 [vr 226, vr 273, vi (w32 (v + 1)), vu, vu] [] (D, SS L 1 c2 c3 c4 c5 c6) Q from w32_i (fun z1 : Int => wp 280 316 [vr 226, vr 273, vi z1, vu, vu] [] (D, SS L 1 c2 c3 c4 c5 c6) Q) (H).1 (vc_wp [235] 200 _ _ _ _ _ _ (show wp 280 235 [vr 226, vr 273, vi (v + 1), vu, vu] [] (D, SS L 1 c2 c3 c4 c5 c6) Q from (H).2)))
/-- main, in the model -/
theorem l280m {L c2 c3 c4 c5 c6 : Nat} {D : Dt} {Q : Out → Wd → Prop} {K : TK} {ns ab : List Int} {X : XB} (hW : MW K ns ab X D) (hSB : SB X (8 + ns.length)) (hG : GI K ns ab X (8 + ab.length)) (Hk : ∀ E, (0 ≤ mnL K ns X (X 4).length ∧ (∀ b, ¬ b = 273 → E b = D b) ∧ (∀ i, ¬ i = 6 → E 273 i = D 273 i) ∧ E 273 6 = mnL K ns X (X 4).length) → Q (.inl [vi 1]) (E, SS L 1 c2 c3 c4 c5 c6)) (Hz : ∀ E, (mnL K ns X (X 4).length < 0 ∧ FrN D E ∧ E 226 12 = K.n) → Q (.inl [vi 0]) (E, SS L 1 c2 c3 c4 c5 c6)) : ∀ (M n : Nat) (E : Dt), (X 4).length - n = M → n ≤ (X 4).length → (∀ b, ¬ b = 273 → E b = D b) → (∀ i, ¬ i = 6 → E 273 i = D 273 i) → E 273 6 = mnL K ns X n → wp 280 235 [vr 226, vr 273, vi n, vu, vu] [] (E, SS L 1 c2 c3 c4 c5 c6) Q := by
  obtain ⟨hM, hC, ⟨hA, hw, hal, hln⟩, hF, hB, hl, hO, hU⟩ := hW
  have h48 := hB.1.2.2.1
  have h2 := hB.1.1
  have hc1 := hC.2.1
  intro M
  induction M with
  | zero =>
    intro n E e hn hf hf2 e6
    rw [show n = (X 4).length by omega] at e6 ⊢
    have fN : FrN D E := ⟨fun b _ y _ => hf b (by omega), fun i _ _ _ => congrFun (hf 226 (by decide)) i⟩
    have hM1 := mk_f hM fN
    refine r280_235 (K := K) ⟨fun g => by rw [hf2 2 (by decide), h2] at g; omega, fun _ => ⟨fun g => ?_, fun g => Hk E ⟨by omega, hf, hf2, e6⟩⟩⟩
    exact Hz _ ⟨by omega, fN.u (Or.inr (Or.inr ⟨rfl, Or.inl rfl⟩)), by rw [ub_s]; exact hM1.2.2.1⟩
  | succ M ih =>
    intro n E e hn hf hf2 e6
    have fN : FrN D E := ⟨fun b _ y _ => hf b (by omega), fun i _ _ _ => congrFun (hf 226 (by decide)) i⟩
    have hM1 := mk_f hM fN
    have hb0 : (0 : Int) ≤ n ∧ (n : Int) < (X 4).length := by omega
    have q4 := hB.1.2.2.2 n hb0.1 hb0.2
    obtain ⟨⟨q8, _⟩, qh, q7, qr, _⟩ := hG.2.2.1 n hb0.1 hb0.2
    have q9 := hSB.2.2 n hb0.1 hb0.2
    have e279 : E 279 (n : Int) = lf (X 4) n := by rw [hf 279 (by decide)]; exact q4.1
    have e325 : E 325 (n : Int) = lf (X 5) n := by rw [hf 325 (by decide)]; exact q4.2.1
    have e280 : E 280 (n : Int) = lf (X 6) n := by rw [hf 280 (by decide)]; exact hB.2.1 n hb0.1 (by have := hl.2.1; omega)
    have e281 : E 281 (n : Int) = lf (X 7) n := by rw [hf 281 (by decide)]; exact hB.2.2.1 n hb0.1 (by have := hl.2.2.1; omega)
    have e283 : E 283 (n : Int) = mT (lf (X 8) n) := by
      have := hB.2.2.2.1 n hb0.1 (by rw [List.length_map]; have := hl.2.2.2.1; omega)
      rw [hf 283 (by decide), this, lf_map hb0.1 (by have := hl.2.2.2.1; omega)]
    have e323 : E 323 = D 323 := hf 323 (by decide)
    have hns := hC.2.2 (lf (X 4) n - 8).toNat (by omega)
    have ens : D 323 (lf (X 4) n) = lf ns (lf (X 4) n - 8) := by
      have := hns.1
      rw [show (((lf (X 4) n - 8).toNat : Nat) : Int) + 8 = lf (X 4) n by omega] at this
      exact this
    have ens0 : 0 ≤ lf ns (lf (X 4) n - 8) := hns.2.1
    have hres : mT (lf (X 8) n) = -1 ↔ lf (X 8) n < 0 := by
      constructor
      · intro x
        exact mT_neg.mp (by omega)
      · intro x
        rw [qr] at x ⊢
        unfold rsO at x ⊢
        rcases Classical.em (K.w (bbp K (lf (X 12) n) + 1) 14) with y | y
        · rw [cit_t y]; rfl
        · rw [cit_f y] at x
          rcases qh.2.1 with z | z
          · exact absurd z y
          · exact absurd x z
    have hnx : ∀ E', (∀ b, ¬ b = 273 → E' b = D b) → (∀ i, ¬ i = 6 → E' 273 i = D 273 i) → E' 273 6 = mnL K ns X (n + 1) → wp 280 313 [vr 226, vr 273, vi n, vu, vu] [] (E', SS L 1 c2 c3 c4 c5 c6) Q := by
      intro E' x1 x2 x3
      have := ih (n + 1) E' (by omega) (by omega) x1 x2 x3
      rw [show ((n + 1 : Nat) : Int) = (n : Int) + 1 by omega] at this
      exact r280_313 (K := K) ⟨by omega, this⟩
    have hno : ¬ mnP K ns X n → wp 280 313 [vr 226, vr 273, vi n, vu, vu] [] (E, SS L 1 c2 c3 c4 c5 c6) Q := fun h => hnx E hf hf2 (e6.trans (cit_f h).symm)
    refine r280_235 (K := K) ⟨fun g => ?_, fun g => by rw [hf2 2 (by decide), h2] at g; omega⟩
    rw [e279, e323, ens, e325, e280, e281, e283]
    refine ⟨by omega, by omega, ⟨hM1, ens0⟩, fun g1 => ⟨by omega, ⟨hM1, q4.2.2.1⟩, fun g2 => ⟨by omega, fun g3 => ⟨by omega, fun g4 => ⟨by omega, fun g5 => ?_, fun g5 => hno fun x => g5 (hres.mpr x.2.2.2.2)⟩, fun g4 => hno fun x => g4 x.2.2.2.1⟩, fun g3 => hno fun x => g3 x.2.2.1⟩, fun g2 => hno fun x => g2 x.2.1⟩, fun g1 => hno fun x => g1 x.1⟩
    refine hnx _ (fun b x => ?_) (fun i hi => ?_) ?_
    · rw [ub_a x]; exact hf b x
    · rw [ub_n hi]; exact hf2 i hi
    · rw [ub_s]
      exact (cit_t (show mnP K ns X n from ⟨g1, g2, g3, g4, hres.mp g5⟩)).symm
/-- the places of a class's fields, and which bodies are meant -/
theorem l280c {L c2 c3 c4 c5 c6 : Nat} {D : Dt} {Q : Out → Wd → Prop} {K : TK} {ns ab : List Int} {X : XB} (hW : MW K ns ab X D) (hSB : SB X (8 + ns.length)) (hG : GI K ns ab X (8 + ab.length)) (Hk : ∀ E, ((∀ b, ¬ b = 275 → ¬ b = 278 → ¬ b = 287 → E b = D b) ∧ (∀ c : Int, 0 ≤ c → c < 8 + ns.length → E 275 c = fab ab (X 0) c) ∧ L1 (E 278) (X 3) ∧ (∀ c b : Int, 0 ≤ c → c < 8 + ns.length → 0 ≤ b → b < (X 4).length → E 287 (c * 48 + b) = mean K ab X c b)) → wp 280 235 [vr 226, vr 273, vi 0, vu, vu] [] (up E 273 6 (-1), SS L 1 c2 c3 c4 c5 c6) Q) : ∀ (M : Nat) (c : Int) (E : Dt), (8 + ns.length - c).toNat = M → 0 ≤ c → c ≤ 8 + ns.length → (∀ b, ¬ b = 275 → ¬ b = 278 → ¬ b = 287 → E b = D b) → (∀ d : Int, 0 ≤ d → d < c → E 275 d = fab ab (X 0) d) → (∀ f : Int, 0 ≤ f → f < (X 0).length → lf (X 0) f < c → E 278 f = lf (X 3) f) → (∀ d b : Int, 0 ≤ d → d < c → 0 ≤ b → b < (X 4).length → E 287 (d * 48 + b) = mean K ab X d b) → wp 280 81 [vr 226, vr 273, vi c, vu, vu] [] (E, SS L 1 c2 c3 c4 c5 c6) Q := by
  obtain ⟨hM, hC, ⟨hA, hw, hal, hln⟩, hF, hB, hl, hO, hU⟩ := hW
  have h48 := hB.1.2.2.1
  have f48 := hF.1.2.2.1
  have h2 := hB.1.1
  have hf1 := hF.1.1
  have hc0 := hC.1
  have hc1 := hC.2.1
  obtain ⟨⟨gF, _⟩, gf, _⟩ := hG
  intro M
  induction M with
  | zero =>
    intro c E e c0 c1 hf h275 h278 h287
    have e0 : E 273 0 = ns.length := by rw [hf 273 (by decide) (by decide) (by decide)]; exact hc0
    refine r280_81 (K := K) ⟨by omega, fun g => by omega, fun _ => Hk E ⟨hf, fun d d0 d1 => h275 d d0 (by omega), fun i i0 i1 => ?_, fun d b d0 d1 b0 b1 => h287 d b d0 (by omega) b0 b1⟩⟩
    have i2 : i < (X 0).length := by have := gF.2.2; omega
    exact h278 i i0 i2 (by have := hSB.1 i i0 i2; omega)
  | succ M ih =>
    intro c E e c0 c1 hf h275 h278 h287
    have e0 : E 273 0 = ns.length := by rw [hf 273 (by decide) (by decide) (by decide)]; exact hc0
    have e1 : E 273 1 = (X 0).length := by rw [hf 273 (by decide) (by decide) (by decide)]; exact hf1
    have e2 : E 273 2 = (X 4).length := by rw [hf 273 (by decide) (by decide) (by decide)]; exact h2
    have e274 : E 274 c = abF ab c := by rw [hf 274 (by decide) (by decide) (by decide)]; exact abF_e hA c0 (by omega)
    have hab := abF_w hw c0 (by omega)
    have e276 : E 276 = D 276 := hf 276 (by decide) (by decide) (by decide)
    -- bodies
    have h165 : ∀ (N n : Nat) (E' : Dt), (X 4).length - n = N → n ≤ (X 4).length → (∀ b, ¬ b = 275 → ¬ b = 278 → ¬ b = 287 → E' b = D b) → (∀ d : Int, 0 ≤ d → d < c + 1 → E' 275 d = fab ab (X 0) d) → (∀ f : Int, 0 ≤ f → f < (X 0).length → lf (X 0) f < c + 1 → E' 278 f = lf (X 3) f) → (∀ d b : Int, 0 ≤ d → d < c → 0 ≤ b → b < (X 4).length → E' 287 (d * 48 + b) = mean K ab X d b) → (∀ b : Int, 0 ≤ b → b < n → E' 287 (c * 48 + b) = mean K ab X c b) → wp 280 165 [vr 226, vr 273, vi c, vu, vi n] [] (E', SS L 1 c2 c3 c4 c5 c6) Q := by
      intro N
      induction N with
      | zero =>
        intro n E' en hn f' q1 q2 q3 q4
        have e2' : E' 273 2 = (X 4).length := by rw [f' 273 (by decide) (by decide) (by decide)]; exact h2
        refine r280_165 (K := K) ⟨fun g => by omega, fun _ => ⟨by omega, ih (c + 1) E' (by omega) (by omega) (by omega) f' q1 q2 (fun d b d0 d1 b0 b1 => ?_)⟩⟩
        by_cases ed : d = c
        · rw [ed]; exact q4 b b0 (by omega)
        · exact q3 d b d0 (by omega) b0 b1
      | succ N ihN =>
        intro n E' en hn f' q1 q2 q3 q4
        have e2' : E' 273 2 = (X 4).length := by rw [f' 273 (by decide) (by decide) (by decide)]; exact h2
        have q5 := hB.1.2.2.2 n (by omega) (by omega)
        have e325 : E' 325 (n : Int) = lf (X 5) n := by rw [f' 325 (by decide) (by decide) (by decide)]; exact q5.2.1
        have hk := mk_tok hM q5.2.2.1 q5.2.2.2
        have e321 : E' 321 (lf (X 5) n) = K.tf (lf (X 5) n) := by rw [f' 321 (by decide) (by decide) (by decide)]; exact hk.1
        have e322 : E' 322 (lf (X 5) n) = K.tt (lf (X 5) n) := by rw [f' 322 (by decide) (by decide) (by decide)]; exact hk.2.1
        refine r280_165 (K := K) ⟨fun g => ?_, fun g => by omega⟩
        rw [e325, e321, e322]
        have hb3 := q5.2.2
        refine ⟨by omega, by omega, by omega, by omega, by omega, by omega, (ab, X 4, X 5), ⟨?_, ?_, ?_, by dsimp only; omega, by omega, by omega, by omega, by omega⟩, by omega, by omega, ?_⟩
        · rw [f' 226 (by decide) (by decide) (by decide), f' 321 (by decide) (by decide) (by decide), f' 322 (by decide) (by decide) (by decide), f' 320 (by decide) (by decide) (by decide)]; exact hM
        · rw [f' 273 (by decide) (by decide) (by decide), f' 279 (by decide) (by decide) (by decide), f' 325 (by decide) (by decide) (by decide)]; exact hB.1
        · rw [f' 274 (by decide) (by decide) (by decide)]; exact ⟨hA, hw, hal⟩
        · have := ihN (n + 1) (up E' 287 (c * 48 + n) (nea K ab (X 4) (X 5) c (K.tf (lf (X 5) n)) (K.tt (lf (X 5) n)))) (by omega) (by omega) (fun b x y z => by rw [ub_a z]; exact f' b x y z) (fun d d0 d1 => by rw [ub_a (by decide)]; exact q1 d d0 d1) (fun f f0 f1 f2 => by rw [ub_a (by decide)]; exact q2 f f0 f1 f2) (fun d b d0 d1 b0 b1 => by rw [ub_n (by omega)]; exact q3 d b d0 d1 b0 b1) (fun b b0 b1 => ?_)
          · rw [show ((n + 1 : Nat) : Int) = (n : Int) + 1 by omega] at this
            exact this
          · by_cases eb : b = n
            · rw [eb, ub_s]; rfl
            · rw [ub_n (by omega)]; exact q4 b b0 (by omega)
    -- fields
    have h118 : ∀ (N n : Nat) (E' : Dt), (X 0).length - n = N → n ≤ (X 0).length → (∀ b, ¬ b = 275 → ¬ b = 278 → ¬ b = 287 → E' b = D b) → (∀ d : Int, 0 ≤ d → d < c → E' 275 d = fab ab (X 0) d) → (∀ f : Int, 0 ≤ f → f < (X 0).length → (lf (X 0) f < c ∨ (lf (X 0) f = c ∧ f < n)) → E' 278 f = lf (X 3) f) → (∀ d b : Int, 0 ≤ d → d < c → 0 ≤ b → b < (X 4).length → E' 287 (d * 48 + b) = mean K ab X d b) → wp 280 118 [vr 226, vr 273, vi c, vi (fab ab (X 0) (abF ab c) + cnN (X 0) c n), vi n] [] (E', SS L 1 c2 c3 c4 c5 c6) Q := by
      intro N
      induction N with
      | zero =>
        intro n E' en hn f' q1 q2 q3
        have e1' : E' 273 1 = (X 0).length := by rw [f' 273 (by decide) (by decide) (by decide)]; exact hf1
        have eN : n = (X 0).length := by omega
        have hfc := fab_c (l := X 0) hw c0 (by omega) (X 0).length (Nat.le_refl _)
        rw [tk_all] at hfc
        rw [eN, ← hfc]
        have := h165 _ 0 (up E' 275 c (fab ab (X 0) c)) rfl (by omega) (fun b x y z => by rw [ub_a x]; exact f' b x y z) (fun d d0 d1 => ?_) (fun f f0 f1 f2 => ?_) (fun d b d0 d1 b0 b1 => ?_) (fun b b0 b1 => by omega)
        · exact r280_118 (K := K) ⟨fun g => by omega, fun _ => ⟨by omega, this⟩⟩
        · by_cases ed : d = c
          · rw [ed, ub_s]
          · rw [ub_n ed]; exact q1 d d0 (by omega)
        · rw [ub_a (by decide)]
          by_cases ec : lf (X 0) f = c
          · exact q2 f f0 f1 (Or.inr ⟨ec, by omega⟩)
          · exact q2 f f0 f1 (Or.inl (by omega))
        · rw [ub_a (by decide)]; exact q3 d b d0 d1 b0 b1
      | succ N ihN =>
        intro n E' en hn f' q1 q2 q3
        have e1' : E' 273 1 = (X 0).length := by rw [f' 273 (by decide) (by decide) (by decide)]; exact hf1
        have e276' : E' 276 (n : Int) = lf (X 0) n := by rw [f' 276 (by decide) (by decide) (by decide)]; exact (hF.1.2.2.2 n (by omega) (by omega)).1
        have hfb := fab_b (ab := ab) (c := abF ab c) (X 0)
        have hcb := cnN_b (l := X 0) (c := c) n
        refine r280_118 (K := K) ⟨fun g => ?_, fun g => by omega⟩
        rw [e276']
        refine ⟨by omega, fun g1 => ⟨by omega, by omega, by omega, ?_⟩, fun g1 => ⟨by omega, ?_⟩⟩
        · have := ihN (n + 1) (up E' 278 n (fab ab (X 0) (abF ab c) + cnN (X 0) c n)) (by omega) (by omega) (fun b x y z => by rw [ub_a y]; exact f' b x y z) (fun d d0 d1 => by rw [ub_a (by decide)]; exact q1 d d0 d1) (fun f f0 f1 f2 => ?_) (fun d b d0 d1 b0 b1 => by rw [ub_a (by decide)]; exact q3 d b d0 d1 b0 b1)
          · have e5 : cnN (X 0) c (n + 1) = cnN (X 0) c n + 1 := by show _ + ib _ = _; rw [ib_t g1]
            rw [e5, show ((n + 1 : Nat) : Int) = (n : Int) + 1 by omega, ← Int.add_assoc] at this
            exact this
          · by_cases ef : f = n
            · rw [ef, ub_s]
              have h5 := (gf n (by omega) (by omega)).2.2
              have h6 := fab_p hw hSB (f := n) (by omega) (by omega) (by rw [g1]; omega) (by rw [g1]; omega)
              rw [h5, h6, g1]
              rfl
            · rw [ub_n ef]
              exact q2 f f0 f1 (by omega)
        · have := ihN (n + 1) E' (by omega) (by omega) f' q1 (fun f f0 f1 f2 => ?_) q3
          · have e5 : cnN (X 0) c (n + 1) = cnN (X 0) c n := by show _ + ib _ = _; rw [ib_f g1]; omega
            rw [e5, show ((n + 1 : Nat) : Int) = (n : Int) + 1 by omega] at this
            exact this
          · by_cases ef : f = n
            · rw [ef] at f2
              exact q2 f f0 f1 (Or.inl (by rw [ef]; omega))
            · exact q2 f f0 f1 (by omega)
    have hstart := h118 _ 0 E rfl (by omega) hf h275 (fun f f0 f1 f2 => h278 f f0 f1 (by omega)) h287
    have ez : fab ab (X 0) (abF ab c) + cnN (X 0) c 0 = fab ab (X 0) (abF ab c) := by show _ + 0 = _; omega
    rw [ez] at hstart
    refine r280_81 (K := K) ?_
    rw [e274]
    refine ⟨by omega, fun _ => ⟨by omega, fun g => ?_, fun g => ⟨by omega, by omega, ?_⟩⟩, fun g => by omega⟩
    · have e9 : fab ab (X 0) (abF ab c) = 0 := by
        have := fab_d (ab := ab) (l := X 0) (c := abF ab c) _ 0 rfl (by omega) (fun j _ _ => cbl_n g)
        exact this
      rw [e9] at hstart
      exact hstart
    · rw [h275 _ (by omega) (by omega)]
      exact hstart
theorem s280 {L c2 c3 c4 c5 c6 : Nat} {D : Dt} {Q : Out → Wd → Prop} {K : TK} (H : ∃ x : List Int × List Int × XB × XB, (MW K x.1 x.2.1 x.2.2.1 D ∧ SB x.2.2.1 (8 + x.1.length) ∧ GI K x.1 x.2.1 x.2.2.1 (8 + x.2.1.length) ∧ CdM x.2.2.2 D ∧ YLn x.2.2.2 ∧ FeM x.2.2.2 D) ∧ (∀ E, (0 ≤ mnL K x.1 x.2.2.1 (x.2.2.1 4).length ∧ FrN D E ∧ PMo K x.1 x.2.1 x.2.2.1 x.2.2.2 E) → Q (.inl [vi 1]) (E, SS L 1 c2 c3 c4 c5 c6)) ∧ (∀ E, (mnL K x.1 x.2.2.1 (x.2.2.1 4).length < 0 ∧ FrN D E ∧ E 226 12 = K.n) → Q (.inl [vi 0]) (E, SS L 1 c2 c3 c4 c5 c6))) : wp 280 0 [vr 226, vr 273, vu, vu, vu] [] (D, SS L 1 c2 c3 c4 c5 c6) Q := by
  obtain ⟨⟨ns, ab, X, Y⟩, ⟨hW, hSB, hG, hC, hY, hFe⟩, Hk, Hz⟩ := H
  dsimp only at *
  have hs := hC.2.2.2.2.2.2.2.1
  have hs2 := hC.2.2.2.2.2.2.2.2
  have a6 := hY.2.2.1
  -- behind the thresholds
  have h54 : ∀ E, FrO D E → (∀ b, ¬ b = 273 → ¬ b = 299 → E b = D b) → (∀ i, ¬ i = 7 → E 273 i = D 273 i) → SL (E 299) (E 273 7) (thQ Y) → E 273 7 ≤ 3079 → ∀ (M : Nat) (s : Int) (F : Dt), (6 - s).toNat = M → 0 ≤ s → s ≤ 6 → (∀ b, ¬ b = 293 → F b = E b) → (∀ i, i < 48 → F 293 i = E 293 i) → (∀ j : Int, 48 ≤ j → j < 48 + s → F 293 j = j - 38) → wp 280 54 [vr 226, vr 273, vi s, vu, vu] [] (F, SS L 1 c2 c3 c4 c5 c6) Q := by
    intro E hfO hf1 hf2 hsl hsl2 M
    induction M with
    | zero =>
      intro s F e s0 s1 q1 q2 q3
      have hFE : FrO E F := ⟨fun b _ _ _ _ z _ => q1 b z, fun i _ _ => congrFun (q1 273 (by decide)) i⟩
      have hWF := hW.o (hfO.t hFE)
      refine r280_54 (K := K) ⟨fun g => by omega, fun _ => l280c (K := K) (ns := ns) (ab := ab) (X := X) (D := F) hWF hSB hG (fun G x => ?_) _ 0 F rfl (by omega) (by omega) (fun _ _ _ _ => rfl) (fun d d0 d1 => by omega) (fun f f0 f1 f2 => ?_) (fun d b d0 d1 => by omega)⟩
      · have fG1 : FrO F G := ⟨fun b _ y z w _ _ => x.1 b y z w, fun i _ _ => congrFun (x.1 273 (by decide) (by decide) (by decide)) i⟩
        have fG2 : FrO F (up G 273 6 (-1)) := fG1.u (Or.inr (Or.inr (Or.inr (Or.inr ⟨rfl, rfl⟩))))
        have fD : FrO D (up G 273 6 (-1)) := (hfO.t hFE).t fG2
        have hWG := hWF.o fG2
        refine l280m (K := K) (ns := ns) (ab := ab) (X := X) (D := up G 273 6 (-1)) hWG hSB hG (fun P y => ?_) (fun P y => Hz P ⟨y.1, fD.n.t y.2.1, y.2.2⟩) _ 0 _ rfl (by omega) (fun _ _ => rfl) (fun _ _ => rfl) ub_s
        have fP : FrO (up G 273 6 (-1)) P := ⟨fun b z _ _ _ _ _ => y.2.1 b z, fun i z _ => y.2.2.1 i z⟩
        have hWP := hWG.o fP
        have g : ∀ b, ¬ b = 273 → P b = G b := fun b hb => (y.2.1 b hb).trans (ub_a hb)
        have gF : ∀ b, ¬ b = 273 ∧ ¬ b = 275 ∧ ¬ b = 278 ∧ ¬ b = 287 → P b = F b := fun b hb => (g b hb.1).trans (x.1 b hb.2.1 hb.2.2.1 hb.2.2.2)
        have gD : ∀ b, ¬ b = 273 ∧ ¬ b = 275 ∧ ¬ b = 278 ∧ ¬ b = 287 ∧ ¬ b = 293 ∧ ¬ b = 299 → P b = D b := fun b hb => ((gF b ⟨hb.1, hb.2.1, hb.2.2.1, hb.2.2.2.1⟩).trans (q1 b hb.2.2.2.2.1)).trans (hf1 b hb.1 hb.2.2.2.2.2)
        have g273 : ∀ i, ¬ i = 6 → P 273 i = E 273 i := fun i hi => ((y.2.2.1 i hi).trans (ub_n hi)).trans ((congrFun (x.1 273 (by decide) (by decide) (by decide)) i).trans (congrFun (q1 273 (by decide)) i))
        have hN := hC.n
        refine Hk P ⟨y.1, (fD.t fP).n, hWP.2.1, hWP.2.2.1.1, hWP.2.2.2.1, hWP.2.2.2.2.1, ?_, ?_, y.2.2.2, fun c c0 c1 => ?_, ?_, fun c b c0 c1 b0 b1 => ?_, fun s s0 s1 => ?_, ?_, ?_⟩
        · obtain ⟨⟨ec3, ec4, ec5⟩, l0, l1, l3, l4, l5, ⟨k6, k7, k8, k9, k10⟩⟩ := hN
          unfold CdN
          rw [g273 3 (by decide), g273 4 (by decide), g273 5 (by decide), hf2 3 (by decide), hf2 4 (by decide), hf2 5 (by decide), gD 288 (by decide), gD 289 (by decide), gD 290 (by decide), gD 329 (by decide), gD 291 (by decide), gD 295 (by decide), gD 296 (by decide), gD 297 (by decide), gD 298 (by decide), gD 294 (by decide)]
          refine ⟨⟨ec3, ec4, ec5⟩, l0, l1, l3, l4, fun i i0 i1 => ?_, ⟨k6, k7, k8, k9, k10⟩⟩
          have i2 := i1
          rw [List.length_map] at i2
          have a7 := hY.2.2.2.1
          rw [gF 293 (by decide), q2 i (by omega), hf1 293 (by decide) (by decide)]
          exact l5 i i0 i1
        · unfold FeM
          rw [gD 285 (by decide), gD 286 (by decide)]; exact hFe
        · rw [g 275 (by decide)]; exact x.2.1 c c0 c1
        · rw [g 278 (by decide)]; exact x.2.2.1
        · rw [g 287 (by decide)]; exact x.2.2.2 c b c0 c1 b0 b1
        · rw [gF 293 (by decide)]; exact q3 s s0 (by omega)
        · rw [gF 299 (by decide), q1 299 (by decide), g273 7 (by decide)]; exact hsl
        · rw [g273 7 (by decide)]; exact hsl2
      · have := (hG.2.1 f f0 f1).1
        omega
    | succ M ih =>
      intro s F e s0 s1 q1 q2 q3
      refine r280_54 (K := K) ⟨fun _ => ⟨by omega, by omega, by omega, by omega, ih (s + 1) _ (by omega) (by omega) (by omega) (fun b hb => ?_) (fun i hi => ?_) (fun j j0 j1 => ?_)⟩, fun g => by omega⟩
      · rw [ub_a hb]; exact q1 b hb
      · rw [ub_n (by omega)]; exact q2 i hi
      · by_cases ej : j = 48 + s
        · rw [ej, ub_s]; omega
        · rw [ub_n ej]; exact q3 j j0 (by omega)
  refine r280_0 (K := K) (r280_2 (K := K) ⟨fun _ => ⟨thP Y, ⟨hs, by omega⟩, fun E1 h1 => ⟨by omega, r280_2 (K := K) ⟨fun _ => ⟨_, ⟨h1.2.1, by omega⟩, fun E2 h2 => ⟨by omega, r280_2 (K := K) ⟨fun _ => ⟨_, ⟨h2.2.1, by omega⟩, fun E3 h3 => ⟨by omega, r280_2 (K := K) ⟨fun g => absurd g (by decide), fun _ => ⟨_, ⟨h3.2.1, by omega⟩, fun E4 h4 => ⟨_, ⟨h4.2.1, by omega⟩, fun E5 h5 => ⟨_, ⟨h5.2.1, by omega⟩, fun E6 h6 => ⟨_, ⟨h6.2.1, by omega⟩, fun E7 h7 => ?_⟩⟩⟩⟩⟩⟩⟩, fun g => absurd (by decide) g⟩⟩⟩, fun g => absurd (by decide) g⟩⟩⟩, fun g => absurd (by decide) g⟩)
  have hf : FrT D E7 := (((((h1.1.t h2.1).t h3.1).t h4.1).t h5.1).t h6.1).t h7.1
  refine h54 E7 hf.o hf.1 hf.2 (h7.2.1.cg fun v => ?_) (by omega) _ 0 E7 rfl (by decide) (by decide) (fun _ _ => rfl) (fun _ _ => rfl) (fun j j0 j1 => by omega)
  unfold thQ
  constructor
  · rintro (((((((x | x) | x) | x) | x) | x) | x) | x)
    · exact Or.inl x
    · exact Or.inr (Or.inl (by omega))
    · exact Or.inr (Or.inl (by omega))
    · exact Or.inr (Or.inl (by omega))
    · exact Or.inr (Or.inr (by omega))
    · exact Or.inr (Or.inr (by omega))
    · exact Or.inr (Or.inr (by omega))
    · exact Or.inr (Or.inr (by omega))
  · rintro (x | x | x | x | x | x)
    · exact Or.inl (Or.inl (Or.inl (Or.inl (Or.inl (Or.inl (Or.inl x))))))
    · by_cases e1 : v = -1
      · exact Or.inl (Or.inl (Or.inl (Or.inl (Or.inl (Or.inl (Or.inr (by omega)))))))
      · by_cases e2 : v = 0
        · exact Or.inl (Or.inl (Or.inl (Or.inl (Or.inl (Or.inr (by omega))))))
        · exact Or.inl (Or.inl (Or.inl (Or.inl (Or.inr (by omega)))))
    · exact Or.inl (Or.inl (Or.inl (Or.inr (by omega))))
    · exact Or.inl (Or.inl (Or.inr (by omega)))
    · exact Or.inl (Or.inr (by omega))
    · exact Or.inr (by omega)
