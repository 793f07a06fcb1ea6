/-! names: the classes -/
set_option maxRecDepth 100000
/-- the classes, in their order: whether all is right, where it is not, the tokens of their names, the classes above -/
noncomputable def pcn (K : TK) : List Int → List Int → List Int → Bool × Int × List Int × List Int
  | [], ns, ab => (true, 0, ns, ab)
  | a :: l, ns, ab => cit (¬ clsT K ns (a + 1) < 0 ∨ ns.length = 24) (false, a + 1, ns, ab) (cit (clsT K ns (a + 3) < 0) (false, a + 3, ns, ab) (pcn K l (ns ++ [a + 1]) (ab ++ [clsT K ns (a + 3)])))
/-- the classes above: the known ones, then the others -/
def ABp (f : Int → Int) (ab : List Int) : Prop := f 0 = -1 ∧ f 1 = 0 ∧ (∀ i, 2 ≤ i → i < 8 → f i = 1) ∧ ∀ i : Nat, i < ab.length → f (8 + i) = ab.getD i 0
theorem getD_app {l : List Int} {v : Int} {i : Nat} (h : i < l.length) : (l ++ [v]).getD i 0 = l.getD i 0 := by
  simp only [List.getD_eq_getElem?_getD, List.getElem?_append_left h]
theorem getD_end {l : List Int} {v : Int} : (l ++ [v]).getD l.length 0 = v := by
  simp [List.getD_eq_getElem?_getD]
theorem len_app {l : List Int} {v : Int} : (l ++ [v]).length = l.length + 1 := by simp
theorem ABp.a {f f' : Int → Int} {ab : List Int} {v : Int} (h : ABp f ab) (h1 : f' (8 + ab.length) = v) (h2 : ∀ i : Int, i < 8 + ab.length → f' i = f i) : ABp f' (ab ++ [v]) := by
  refine ⟨by rw [h2 0 (by omega)]; exact h.1, by rw [h2 1 (by omega)]; exact h.2.1, fun i i1 i2 => by rw [h2 i (by omega)]; exact h.2.2.1 i i1 i2, fun i hi => ?_⟩
  rw [len_app] at hi
  by_cases e : i < ab.length
  · rw [h2 _ (by omega), getD_app e]; exact h.2.2.2 i e
  · have e2 : i = ab.length := by omega
    subst e2
    rw [h1, getD_end]
theorem NSp.a {K : TK} {f f' : Int → Int} {d : Int} {ns : List Int} {v : Int} (h : NSp K f d ns) (h1 : f' (ns.length + d) = v) (h2 : ∀ i : Int, i < ns.length + d → f' i = f i) (hv : 0 ≤ v ∧ v < K.n) : NSp K f' d (ns ++ [v]) := by
  intro i hi
  rw [len_app] at hi
  by_cases e : i < ns.length
  · rw [h2 _ (by omega), getD_app e]; exact h i e
  · have e2 : i = ns.length := by omega
    subst e2
    rw [h1, getD_end]
    exact ⟨rfl, hv⟩
/-- what the model's loading may change -/
def FrN (D D' : Dt) : Prop := (∀ b, ¬ b = 226 → ¬ (273 ≤ b ∧ b ≤ 318) → ¬ (323 ≤ b ∧ b ≤ 333) → D' b = D b) ∧ ∀ i, ¬ i = 12 → ¬ i = 19 → ¬ i = 25 → D' 226 i = D 226 i
theorem FrN.r (D : Dt) : FrN D D := ⟨fun _ _ _ _ => rfl, fun _ _ _ _ => rfl⟩
theorem FrN.t {D D1 D2 : Dt} (h : FrN D D1) (h2 : FrN D1 D2) : FrN D D2 := ⟨fun b x y z => (h2.1 b x y z).trans (h.1 b x y z), fun i x y z => (h2.2 i x y z).trans (h.2 i x y z)⟩
theorem FrN.u {D D1 : Dt} (h : FrN D D1) {a : Nat} {i v : Int} (ha : (273 ≤ a ∧ a ≤ 318) ∨ (323 ≤ a ∧ a ≤ 333) ∨ (a = 226 ∧ (i = 12 ∨ i = 19 ∨ i = 25))) : FrN D (up D1 a i v) := by
  refine ⟨fun b x y z => ?_, fun j x y z => ?_⟩
  · rw [ub_a (by omega)]; exact h.1 b x y z
  · by_cases e : a = 226
    · subst e
      rw [ub_n (by omega)]; exact h.2 j x y z
    · rw [ub_a (by omega)]; exact h.2 j x y z
theorem mk_f {K : TK} {D D' : Dt} (h : MKp K (D 226 10) (D 321) (D 322) (D 320)) (hf : FrN D D') : MKp K (D' 226 10) (D' 321) (D' 322) (D' 320) := by
  rw [hf.2 10 (by decide) (by decide) (by decide), hf.1 321 (by omega) (by omega) (by omega), hf.1 322 (by omega) (by omega) (by omega), hf.1 320 (by omega) (by omega) (by omega)]
  exact h
theorem r251_0 {L c2 c3 c4 c5 c6 : Nat} {K : TK} {D : Dt} {Q : Out → Wd → Prop} (H : wp 251 7 [vr 226, vr 273, vi 0, vu] [] (up D 273 0 0, SS L 1 c2 c3 c4 c5 c6) Q) : wp 251 0 [vr 226, vr 273, vu, vu] [] (D, SS L 1 c2 c3 c4 c5 c6) Q := vc_wp [5] 200 _ _ _ _ _ _ (show wp 251 5 [vr 226, vr 273, vu, vu] [] (up D 273 0 0, SS L 1 c2 c3 c4 c5 c6) Q from vc_wp [7] 200 _ _ _ _ _ _ (show wp 251 7 [vr 226, vr 273, vi 0, vu] [] (up D 273 0 0, SS L 1 c2 c3 c4 c5 c6) Q from H))
theorem r251_7 {L c2 c3 c4 c5 c6 : Nat} {K : TK} {D : Dt} {Q : Out → Wd → Prop} {t : Int} (H : ((t < 8 → ((t = 0 → ((0 ≤ t ∧ t < 32) ∧ (((-2147483648) ≤ t + 1 ∧ t + 1 ≤ 2147483647) ∧ (wp 251 7 [vr 226, vr 273, vi (t + 1), vu] [] (up D 274 t (-1), SS L 1 c2 c3 c4 c5 c6) Q)))) ∧ (¬ (t = 0) → ((t = 1 → ((0 ≤ t ∧ t < 32) ∧ (((-2147483648) ≤ t + 1 ∧ t + 1 ≤ 2147483647) ∧ (wp 251 7 [vr 226, vr 273, vi (t + 1), vu] [] (up D 274 t 0, SS L 1 c2 c3 c4 c5 c6) Q)))) ∧ (¬ (t = 1) → ((0 ≤ t ∧ t < 32) ∧ (((-2147483648) ≤ t + 1 ∧ t + 1 ≤ 2147483647) ∧ (wp 251 7 [vr 226, vr 273, vi (t + 1), vu] [] (up D 274 t 1, SS L 1 c2 c3 c4 c5 c6) Q)))))))) ∧ (¬ (t < 8) → (wp 251 45 [vr 226, vr 273, vi 0, vu] [] (D, SS L 1 c2 c3 c4 c5 c6) Q)))) : wp 251 7 [vr 226, vr 273, vi t, vu] [] (D, SS L 1 c2 c3 c4 c5 c6) Q := vc_wp [17, 45] 200 _ _ _ _ _ _ (show ((t < 8 → (wp 251 17 [vr 226, vr 273, vi t, vu] [vr 274] (D, SS L 1 c2 c3 c4 c5 c6) Q)) ∧ (¬ (t < 8) → (wp 251 45 [vr 226, vr 273, vi 0, vu] [] (D, SS L 1 c2 c3 c4 c5 c6) Q))) from ⟨fun h8 => vc_wp [40] 200 _ _ _ _ _ _ (show ((t = 0 → ((0 ≤ t ∧ t < 32) ∧ (wp 251 40 [vr 226, vr 273, vi (w32 (t + 1)), vu] [] (up D 274 t (-1), SS L 1 c2 c3 c4 c5 c6) Q))) ∧ (¬ (t = 0) → ((t = 1 → ((0 ≤ t ∧ t < 32) ∧ (wp 251 40 [vr 226, vr 273, vi (w32 (t + 1)), vu] [] (up D 274 t 0, SS L 1 c2 c3 c4 c5 c6) Q))) ∧ (¬ (t = 1) → ((0 ≤ t ∧ t < 32) ∧ (wp 251 40 [vr 226, vr 273, vi (w32 (t + 1)), vu] [] (up D 274 t 1, SS L 1 c2 c3 c4 c5 c6) Q)))))) from ⟨fun h6 => ⟨((H.1 h8).1 h6).1, w32_i (fun z1 : Int => wp 251 40 [vr 226, vr 273, vi z1, vu] [] (up D 274 t (-1), SS L 1 c2 c3 c4 c5 c6) Q) (((H.1 h8).1 h6).2).1 (vc_wp [7] 200 _ _ _ _ _ _ (show wp 251 7 [vr 226, vr 273, vi (t + 1), vu] [] (up D 274 t (-1), SS L 1 c2 c3 c4 c5 c6) Q from (((H.1 h8).1 h6).2).2))⟩, fun h7 => ⟨fun h4 => ⟨(((H.1 h8).2 h7).1 h4).1, w32_i (fun z2 : Int => wp 251 40 [vr 226, vr 273, vi z2, vu] [] (up D 274 t 0, SS L 1 c2 c3 c4 c5 c6) Q) ((((H.1 h8).2 h7).1 h4).2).1 (vc_wp [7] 200 _ _ _ _ _ _ (show wp 251 7 [vr 226, vr 273, vi (t + 1), vu] [] (up D 274 t 0, SS L 1 c2 c3 c4 c5 c6) Q from ((((H.1 h8).2 h7).1 h4).2).2))⟩, fun h5 => ⟨(((H.1 h8).2 h7).2 h5).1, w32_i (fun z3 : Int => wp 251 40 [vr 226, vr 273, vi z3, vu] [] (up D 274 t 1, SS L 1 c2 c3 c4 c5 c6) Q) ((((H.1 h8).2 h7).2 h5).2).1 (vc_wp [7] 200 _ _ _ _ _ _ (show wp 251 7 [vr 226, vr 273, vi (t + 1), vu] [] (up D 274 t 1, SS L 1 c2 c3 c4 c5 c6) Q from ((((H.1 h8).2 h7).2 h5).2).2))⟩⟩⟩), fun h9 => (H.2 h9)⟩)
theorem r251_45 {L c2 c3 c4 c5 c6 : Nat} {K : TK} {D : Dt} {Q : Out → Wd → Prop} {t : Int} (H : ((t < D 226 10 → (((-2147483648) ≤ t + 1 ∧ t + 1 ≤ 2147483647) ∧ (∃ (ns1 : List Int), (MKp K (D 226 10) (D 321) (D 322) (D 320) ∧ CM K ns1 (D 273 0) (D 323) ∧ 0 ≤ (t + 1) ∧ (t + 1) < K.n) ∧ ((((clsT K ns1 (t + 1) < 0 → ((D 273 0 = 24 → (((-2147483648) ≤ t + 1 ∧ t + 1 ≤ 2147483647) ∧ (Q (.inl [vi 0]) (up D 226 12 (t + 1), SS L 1 c2 c3 c4 c5 c6)))) ∧ (¬ (D 273 0 = 24) → (((-2147483648) ≤ t + 3 ∧ t + 3 ≤ 2147483647) ∧ (∃ (ns7 : List Int), (MKp K (D 226 10) (D 321) (D 322) (D 320) ∧ CM K ns7 (D 273 0) (D 323) ∧ 0 ≤ (t + 3) ∧ (t + 3) < K.n) ∧ ((((clsT K ns7 (t + 3) < 0 → (((-2147483648) ≤ t + 3 ∧ t + 3 ≤ 2147483647) ∧ (Q (.inl [vi 0]) (up D 226 12 (t + 3), SS L 1 c2 c3 c4 c5 c6)))) ∧ (¬ (clsT K ns7 (t + 3) < 0) → (((-2147483648) ≤ 8 + (D 273 0) ∧ 8 + (D 273 0) ≤ 2147483647) ∧ (((-2147483648) ≤ t + 1 ∧ t + 1 ≤ 2147483647) ∧ ((0 ≤ 8 + (D 273 0) ∧ 8 + (D 273 0) < 32) ∧ (((-2147483648) ≤ 8 + (D 273 0) ∧ 8 + (D 273 0) ≤ 2147483647) ∧ ((0 ≤ 8 + (D 273 0) ∧ 8 + (D 273 0) < 32) ∧ (((-2147483648) ≤ (D 273 0) + 1 ∧ (D 273 0) + 1 ≤ 2147483647) ∧ ((MKp K (D 226 10) (D 321) (D 322) (D 320) ∧ 0 ≤ t ∧ K.w (scan (fun k => ¬ K.w k 7) t K.n) 7 ∧ bhd K t ≤ K.n) ∧ ((wp 251 45 [vr 226, vr 273, vi (bhd K t), vu] [] (up (up (up D 323 (8 + (D 273 0)) (t + 1)) 274 (8 + (D 273 0)) (clsT K ns7 (t + 3))) 273 0 ((D 273 0) + 1), SS L 1 c2 c3 c4 c5 c6) Q)))))))))))))))))) ∧ (¬ (clsT K ns1 (t + 1) < 0) → (((-2147483648) ≤ t + 1 ∧ t + 1 ≤ 2147483647) ∧ (Q (.inl [vi 0]) (up D 226 12 (t + 1), SS L 1 c2 c3 c4 c5 c6)))))))))) ∧ (¬ (t < D 226 10) → (Q (.inl [vi 1]) (D, SS L 1 c2 c3 c4 c5 c6))))) : wp 251 45 [vr 226, vr 273, vi t, vu] [] (D, SS L 1 c2 c3 c4 c5 c6) Q := vc_wp [58] 200 _ _ _ _ _ _ (show ((t < D 226 10 → (wp 251 58 [vr 226, vr 273, vi t, vu] [vi (w32 (t + 1)), vr 273, vr 226] (D, SS L 1 c2 c3 c4 c5 c6) Q)) ∧ (¬ (t < D 226 10) → (((0 : Int) ≤ 1 ∧ 1 ≤ (1 : Int)) ∧ (Q (.inl [vi 1]) (D, SS L 1 c2 c3 c4 c5 c6))))) from ⟨fun h30 => w32_i (fun z29 : Int => wp 251 58 [vr 226, vr 273, vi t, vu] [vi z29, vr 273, vr 226] (D, SS L 1 c2 c3 c4 c5 c6) Q) ((H.1 h30)).1 (vc_wp [] 200 _ _ _ _ _ _ (show wp 252 0 [vr 226, vr 273, vi (t + 1)] [] (D, SS L 1 c2 c3 c4 c5 c6) (aft wp 251 58 [vr 226, vr 273, vi t, vu] [] Q) from Exists.elim (((H.1 h30)).2) fun ns1 x2 => s252 ⟨ns1, x2.1, (show wp 251 61 [vr 226, vr 273, vi t, vu] [vi (clsT K ns1 (t + 1))] (D, SS L 1 c2 c3 c4 c5 c6) Q from vc_wp [77, 86] 200 _ _ _ _ _ _ (show ((clsT K ns1 (t + 1) < 0 → ((D 273 0 = 24 → (wp 251 77 [vr 226, vr 273, vi t, vu] [vi (w32 (t + 1)), vr 226] (D, SS L 1 c2 c3 c4 c5 c6) Q)) ∧ (¬ (D 273 0 = 24) → (wp 251 86 [vr 226, vr 273, vi t, vu] [vi (w32 (t + 3)), vr 273, vr 226] (D, SS L 1 c2 c3 c4 c5 c6) Q)))) ∧ (¬ (clsT K ns1 (t + 1) < 0) → (wp 251 77 [vr 226, vr 273, vi t, vu] [vi (w32 (t + 1)), vr 226] (D, SS L 1 c2 c3 c4 c5 c6) Q))) from ⟨fun h27 => ⟨fun h22 => w32_i (fun z6 : Int => wp 251 77 [vr 226, vr 273, vi t, vu] [vi z6, vr 226] (D, SS L 1 c2 c3 c4 c5 c6) Q) (((x2.2.1 h27).1 h22)).1 (vc_wp [] 200 _ _ _ _ _ _ (show wp 256 0 [vr 226, vi (t + 1)] [] (D, SS L 1 c2 c3 c4 c5 c6) (aft wp 251 77 [vr 226, vr 273, vi t, vu] [] Q) from r256_0 (show wp 251 80 [vr 226, vr 273, vi t, vu] [vi 0] (up D 226 12 (t + 1), SS L 1 c2 c3 c4 c5 c6) Q from vc_wp [] 200 _ _ _ _ _ _ (show ((0 : Int) ≤ 0 ∧ 0 ≤ (1 : Int)) ∧ (Q (.inl [vi 0]) (up D 226 12 (t + 1), SS L 1 c2 c3 c4 c5 c6)) from ⟨(by decide), (((x2.2.1 h27).1 h22)).2⟩)))), fun h23 => w32_i (fun z21 : Int => wp 251 86 [vr 226, vr 273, vi t, vu] [vi z21, vr 273, vr 226] (D, SS L 1 c2 c3 c4 c5 c6) Q) (((x2.2.1 h27).2 h23)).1 (vc_wp [] 200 _ _ _ _ _ _ (show wp 252 0 [vr 226, vr 273, vi (t + 3)] [] (D, SS L 1 c2 c3 c4 c5 c6) (aft wp 251 86 [vr 226, vr 273, vi t, vu] [] Q) from Exists.elim ((((x2.2.1 h27).2 h23)).2) fun ns7 x8 => s252 ⟨ns7, x8.1, (show wp 251 89 [vr 226, vr 273, vi t, vu] [vi (clsT K ns7 (t + 3))] (D, SS L 1 c2 c3 c4 c5 c6) Q from vc_wp [98, 106] 200 _ _ _ _ _ _ (show ((clsT K ns7 (t + 3) < 0 → (wp 251 98 [vr 226, vr 273, vi t, vi (clsT K ns7 (t + 3))] [vi (w32 (t + 3)), vr 226] (D, SS L 1 c2 c3 c4 c5 c6) Q)) ∧ (¬ (clsT K ns7 (t + 3) < 0) → (wp 251 106 [vr 226, vr 273, vi t, vi (clsT K ns7 (t + 3))] [vr 323] (D, SS L 1 c2 c3 c4 c5 c6) Q))) from ⟨fun h19 => w32_i (fun z12 : Int => wp 251 98 [vr 226, vr 273, vi t, vi (clsT K ns7 (t + 3))] [vi z12, vr 226] (D, SS L 1 c2 c3 c4 c5 c6) Q) ((x8.2.1 h19)).1 (vc_wp [] 200 _ _ _ _ _ _ (show wp 256 0 [vr 226, vi (t + 3)] [] (D, SS L 1 c2 c3 c4 c5 c6) (aft wp 251 98 [vr 226, vr 273, vi t, vi (clsT K ns7 (t + 3))] [] Q) from r256_0 (show wp 251 101 [vr 226, vr 273, vi t, vi (clsT K ns7 (t + 3))] [vi 0] (up D 226 12 (t + 3), SS L 1 c2 c3 c4 c5 c6) Q from vc_wp [] 200 _ _ _ _ _ _ (show ((0 : Int) ≤ 0 ∧ 0 ≤ (1 : Int)) ∧ (Q (.inl [vi 0]) (up D 226 12 (t + 3), SS L 1 c2 c3 c4 c5 c6)) from ⟨(by decide), ((x8.2.1 h19)).2⟩)))), fun h20 => vc_wp [113] 200 _ _ _ _ _ _ (show wp 251 113 [vr 226, vr 273, vi t, vi (clsT K ns7 (t + 3))] [vi (w32 (8 + (D 273 0))), vr 323] (D, SS L 1 c2 c3 c4 c5 c6) Q from w32_i (fun z18 : Int => wp 251 113 [vr 226, vr 273, vi t, vi (clsT K ns7 (t + 3))] [vi z18, vr 323] (D, SS L 1 c2 c3 c4 c5 c6) Q) ((x8.2.2 h20)).1 (vc_wp [116] 200 _ _ _ _ _ _ (show wp 251 116 [vr 226, vr 273, vi t, vi (clsT K ns7 (t + 3))] [vi (w32 (t + 1)), vi (8 + (D 273 0)), vr 323] (D, SS L 1 c2 c3 c4 c5 c6) Q from w32_i (fun z17 : Int => wp 251 116 [vr 226, vr 273, vi t, vi (clsT K ns7 (t + 3))] [vi z17, vi (8 + (D 273 0)), vr 323] (D, SS L 1 c2 c3 c4 c5 c6) Q) (((x8.2.2 h20)).2).1 (vc_wp [121] 200 _ _ _ _ _ _ (show (0 ≤ 8 + (D 273 0) ∧ 8 + (D 273 0) < 32) ∧ (wp 251 121 [vr 226, vr 273, vi t, vi (clsT K ns7 (t + 3))] [vr 274] (up D 323 (8 + (D 273 0)) (t + 1), SS L 1 c2 c3 c4 c5 c6) Q) from ⟨(((x8.2.2 h20)).2).2.1, vc_wp [128] 200 _ _ _ _ _ _ (show wp 251 128 [vr 226, vr 273, vi t, vi (clsT K ns7 (t + 3))] [vi (w32 (8 + (D 273 0))), vr 274] (up D 323 (8 + (D 273 0)) (t + 1), SS L 1 c2 c3 c4 c5 c6) Q from w32_i (fun z16 : Int => wp 251 128 [vr 226, vr 273, vi t, vi (clsT K ns7 (t + 3))] [vi z16, vr 274] (up D 323 (8 + (D 273 0)) (t + 1), SS L 1 c2 c3 c4 c5 c6) Q) ((((x8.2.2 h20)).2).2.2).1 (vc_wp [137] 200 _ _ _ _ _ _ (show (0 ≤ 8 + (D 273 0) ∧ 8 + (D 273 0) < 32) ∧ (wp 251 137 [vr 226, vr 273, vi t, vi (clsT K ns7 (t + 3))] [vi (w32 ((D 273 0) + 1)), vr 273] (up (up D 323 (8 + (D 273 0)) (t + 1)) 274 (8 + (D 273 0)) (clsT K ns7 (t + 3)), SS L 1 c2 c3 c4 c5 c6) Q) from ⟨((((x8.2.2 h20)).2).2.2).2.1, w32_i (fun z15 : Int => wp 251 137 [vr 226, vr 273, vi t, vi (clsT K ns7 (t + 3))] [vi z15, vr 273] (up (up D 323 (8 + (D 273 0)) (t + 1)) 274 (8 + (D 273 0)) (clsT K ns7 (t + 3)), SS L 1 c2 c3 c4 c5 c6) Q) (((((x8.2.2 h20)).2).2.2).2.2).1 (vc_wp [140] 200 _ _ _ _ _ _ (show wp 251 140 [vr 226, vr 273, vi t, vi (clsT K ns7 (t + 3))] [] (up (up (up D 323 (8 + (D 273 0)) (t + 1)) 274 (8 + (D 273 0)) (clsT K ns7 (t + 3))) 273 0 ((D 273 0) + 1), SS L 1 c2 c3 c4 c5 c6) Q from vc_wp [] 200 _ _ _ _ _ _ (show wp 257 0 [vr 226, vi t, vu, vu] [] (up (up (up D 323 (8 + (D 273 0)) (t + 1)) 274 (8 + (D 273 0)) (clsT K ns7 (t + 3))) 273 0 ((D 273 0) + 1), SS L 1 c2 c3 c4 c5 c6) (aft wp 251 142 [vr 226, vr 273, vi t, vi (clsT K ns7 (t + 3))] [] Q) from s257 ⟨(((((x8.2.2 h20)).2).2.2).2.2).2.1, (show wp 251 145 [vr 226, vr 273, vi t, vi (clsT K ns7 (t + 3))] [vi (bhd K t)] (up (up (up D 323 (8 + (D 273 0)) (t + 1)) 274 (8 + (D 273 0)) (clsT K ns7 (t + 3))) 273 0 ((D 273 0) + 1), SS L 1 c2 c3 c4 c5 c6) Q from vc_wp [45] 200 _ _ _ _ _ _ (show wp 251 45 [vr 226, vr 273, vi (bhd K t), vi (clsT K ns7 (t + 3))] [] (up (up (up D 323 (8 + (D 273 0)) (t + 1)) 274 (8 + (D 273 0)) (clsT K ns7 (t + 3))) 273 0 ((D 273 0) + 1), SS L 1 c2 c3 c4 c5 c6) Q from wp_d (Lle.k rfl (Lle.k rfl (Lle.k rfl (Lle.v rfl (Lle.nil))))) ((((((x8.2.2 h20)).2).2.2).2.2).2.2)))⟩)))⟩)))⟩)))))⟩))⟩))⟩, fun h28 => w32_i (fun z26 : Int => wp 251 77 [vr 226, vr 273, vi t, vu] [vi z26, vr 226] (D, SS L 1 c2 c3 c4 c5 c6) Q) ((x2.2.2 h28)).1 (vc_wp [] 200 _ _ _ _ _ _ (show wp 256 0 [vr 226, vi (t + 1)] [] (D, SS L 1 c2 c3 c4 c5 c6) (aft wp 251 77 [vr 226, vr 273, vi t, vu] [] Q) from r256_0 (show wp 251 80 [vr 226, vr 273, vi t, vu] [vi 0] (up D 226 12 (t + 1), SS L 1 c2 c3 c4 c5 c6) Q from vc_wp [] 200 _ _ _ _ _ _ (show ((0 : Int) ≤ 0 ∧ 0 ≤ (1 : Int)) ∧ (Q (.inl [vi 0]) (up D 226 12 (t + 1), SS L 1 c2 c3 c4 c5 c6)) from ⟨(by decide), ((x2.2.2 h28)).2⟩))))⟩))⟩)), fun h31 => ⟨(by decide), (H.2 h31)⟩⟩)
theorem cls_lt {K : TK} {a e : Int} (h : pcls K a = (true, e)) : a + 5 < K.n := by
  unfold pcls at h
  obtain ⟨c1, g1, h⟩ := pb_t h
  obtain ⟨c2, g2, h⟩ := pb_t h
  obtain ⟨c3, g3, h⟩ := pb_t h
  obtain ⟨c4, g4, h⟩ := pb_t h
  obtain ⟨c5, g5, h⟩ := pb_t h
  obtain ⟨c6, g6, h⟩ := pb_t h
  have i1 := (pm_e g1).2
  have i2 := (pm_e g2).2
  have i3 := (pm_e g3).2
  have i4 := (pm_e g4).2
  have i5 := (pm_e g5).2
  have g6 := plp_ok (adv_mem K) _ _ _ g6
  have g7 := w_lt g6.2.1
  omega
theorem l251 {L c2 c3 c4 c5 c6 : Nat} {D : Dt} {Q : Out → Wd → Prop} {K : TK} (hM : MKp K (D 226 10) (D 321) (D 322) (D 320)) {x : Bool × Int × List Int × List Int} (H : (∀ E, (FrN D E ∧ E 226 12 = D 226 12 ∧ x.1 = true ∧ CM K x.2.2.1 (E 273 0) (E 323) ∧ ABp (E 274) x.2.2.2 ∧ x.2.2.1.length = x.2.2.2.length) → Q (.inl [vi 1]) (E, SS L 1 c2 c3 c4 c5 c6)) ∧ (∀ E, (FrN D E ∧ x.1 = false ∧ E 226 12 = x.2.1) → Q (.inl [vi 0]) (E, SS L 1 c2 c3 c4 c5 c6))) : ∀ (N : Nat) (a : Int) (E : Dt) (ns ab : List Int), (K.n - a).toNat < N → 0 ≤ a → FrN D E → E 226 12 = D 226 12 → CM K ns (E 273 0) (E 323) → ABp (E 274) ab → ns.length = ab.length → (plp (fun b => ¬ b < K.n) (pcls K) N a).1 = true → x = pcn K (pls (fun b => ¬ b < K.n) (pcls K) N a) ns ab → wp 251 45 [vr 226, vr 273, vi a, vu] [] (E, SS L 1 c2 c3 c4 c5 c6) Q := by
  intro N
  induction N with
  | zero => intro a _ _ _ h; omega
  | succ N ih =>
    intro a E ns ab hN h0 hf h12 hC hA hl hp hx
    have hM1 := mk_f hM hf
    have hn : E 226 10 = K.n := hM1.2.2.1
    refine r251_45 (K := K) ⟨fun hlt => ?_, fun hlt => ?_⟩
    · have hlt' : a < K.n := by omega
      have e0 : plp (fun b => ¬ b < K.n) (pcls K) (N + 1) a = pb (pcls K a) (plp (fun b => ¬ b < K.n) (pcls K) N) := cit_f (fun h => h hlt')
      rw [pls_go (st := fun b => ¬ b < K.n) (fun h => h hlt')] at hx
      rw [e0] at hp
      obtain ⟨e, g1, g2⟩ := pb_t (PR_t hp)
      have hb := bhd_cls g1
      have ha5 := cls_lt g1
      have hae := adv_cls K _ _ g1
      have hk := mk_tok hM1 (j := a) h0 hlt'
      have hfz : ∀ v, FrN D (up E 226 12 v) := fun v => hf.u (Or.inr (Or.inr ⟨rfl, Or.inl rfl⟩))
      refine ⟨by omega, ns, ⟨hM1, hC, by omega, by omega⟩, fun hc => ⟨fun h24 => ⟨by omega, ?_⟩, fun h24 => ⟨by omega, ns, ⟨hM1, hC, by omega, by omega⟩, fun hc3 => ⟨by omega, ?_⟩, fun hc3 => ?_⟩⟩, fun hc => ⟨by omega, ?_⟩⟩
      · have hxv : x = (false, a + 1, ns, ab) := hx.trans (cit_t (Or.inr (by have := hC.1; omega)))
        exact H.2 _ ⟨hfz _, by rw [hxv], by rw [hxv, ub_s]⟩
      · have hno : ¬ (¬ clsT K ns (a + 1) < 0 ∨ ns.length = 24) := fun h => h.elim (fun y => y hc) (fun y => h24 (by have := hC.1; omega))
        have hxv : x = (false, a + 3, ns, ab) := hx.trans ((cit_f hno).trans (cit_t hc3))
        exact H.2 _ ⟨hfz _, by rw [hxv], by rw [hxv, ub_s]⟩
      · have hno : ¬ (¬ clsT K ns (a + 1) < 0 ∨ ns.length = 24) := fun h => h.elim (fun y => y hc) (fun y => h24 (by have := hC.1; omega))
        have hc1 := hC.1
        have hc2 := hC.2.1
        have hx' : x = pcn K (pls (fun b => ¬ b < K.n) (pcls K) N e) (ns ++ [a + 1]) (ab ++ [clsT K ns (a + 3)]) := by
          have h1 := hx.trans ((cit_f hno).trans (cit_f hc3))
          rw [show (pcls K a).2 = e by rw [g1]] at h1
          exact h1
        refine ⟨by omega, by omega, by omega, by omega, by omega, by omega, ⟨hM1, h0, hb.1, by rw [hb.2]; exact hae.2⟩, ?_⟩
        rw [hb.2]
        have hf' : FrN D (up (up (up E 323 (8 + E 273 0) (a + 1)) 274 (8 + E 273 0) (clsT K ns (a + 3))) 273 0 (E 273 0 + 1)) := ((hf.u (Or.inr (Or.inl ⟨by decide, by decide⟩))).u (Or.inl ⟨by decide, by decide⟩)).u (Or.inl ⟨by decide, by decide⟩)
        refine ih e _ (ns ++ [a + 1]) (ab ++ [clsT K ns (a + 3)]) (fu_lt (adv_cls K) hN g1) (by omega) hf' ?_ ⟨?_, ?_, ?_⟩ ?_ ?_ (by rw [g2]) hx'
        · rw [ub_a (by decide), ub_a (by decide), ub_a (by decide)]; exact h12
        · rw [ub_s, len_app]; omega
        · rw [len_app]; omega
        · refine NSp.a hC.2.2 ?_ (fun i hi => ?_) ⟨by omega, by omega⟩
          · rw [ub_a (by decide), ub_a (by decide), hc1, show (8 : Int) + ns.length = ns.length + 8 by omega, ub_s]
          · rw [ub_a (by decide), ub_a (by decide), ub_n (by omega)]
        · refine ABp.a hA ?_ (fun i hi => ?_)
          · rw [ub_a (by decide), hc1, hl, ub_s]
          · rw [ub_a (by decide), ub_n (by omega), ub_a (by decide)]
        · rw [len_app, len_app, hl]
      · have hxv : x = (false, a + 1, ns, ab) := hx.trans (cit_t (Or.inl hc))
        exact H.2 _ ⟨hfz _, by rw [hxv], by rw [hxv, ub_s]⟩
    · rw [pls_st (st := fun b => ¬ b < K.n) (by omega : ¬ a < K.n)] at hx
      subst hx
      exact H.1 E ⟨hf, h12, rfl, hC, hA, hl⟩
theorem s251 {L c2 c3 c4 c5 c6 : Nat} {D : Dt} {Q : Out → Wd → Prop} {K : TK} (H : (MKp K (D 226 10) (D 321) (D 322) (D 320) ∧ (pprog K).1 = true) ∧ (∀ E, (FrN D E ∧ E 226 12 = D 226 12 ∧ (pcn K (lcls K) [] []).1 = true ∧ CM K (pcn K (lcls K) [] []).2.2.1 (E 273 0) (E 323) ∧ ABp (E 274) (pcn K (lcls K) [] []).2.2.2 ∧ (pcn K (lcls K) [] []).2.2.1.length = (pcn K (lcls K) [] []).2.2.2.length) → Q (.inl [vi 1]) (E, SS L 1 c2 c3 c4 c5 c6)) ∧ (∀ E, (FrN D E ∧ (pcn K (lcls K) [] []).1 = false ∧ E 226 12 = (pcn K (lcls K) [] []).2.1) → Q (.inl [vi 0]) (E, SS L 1 c2 c3 c4 c5 c6))) : wp 251 0 [vr 226, vr 273, vu, vu] [] (D, SS L 1 c2 c3 c4 c5 c6) Q := by
  obtain ⟨⟨hM, hp⟩, H⟩ := H
  have hl : ∀ (N : Nat) (t : Int) (E : Dt), (8 - t).toNat = N → 0 ≤ t → t ≤ 8 → FrN D E → E 226 12 = D 226 12 → E 273 0 = 0 → (1 ≤ t → E 274 0 = -1) → (2 ≤ t → E 274 1 = 0) → (∀ i, 2 ≤ i → i < t → E 274 i = 1) → wp 251 7 [vr 226, vr 273, vi t, vu] [] (E, SS L 1 c2 c3 c4 c5 c6) Q := by
    intro N
    induction N with
    | zero =>
      intro t E e h0 h8 hf h12 hz g1 g2 g3
      refine r251_7 (K := K) ⟨fun h => by omega, fun _ => ?_⟩
      refine l251 hM H (fu K 0) 0 E [] [] (by unfold fu; omega) (by omega) hf h12 ⟨hz, by decide, fun i hi => by cases hi⟩ ⟨g1 (by omega), g2 (by omega), fun i i1 i2 => g3 i i1 (by omega), fun i hi => by cases hi⟩ rfl hp rfl
    | succ N ih =>
      intro t E e h0 h8 hf h12 hz g1 g2 g3
      have hf' : ∀ v, FrN D (up E 274 t v) := fun v => hf.u (Or.inl ⟨by decide, by decide⟩)
      have h12' : ∀ v, up E 274 t v 226 12 = D 226 12 := fun v => by rw [ub_a (by decide)]; exact h12
      have hz' : ∀ v, up E 274 t v 273 0 = 0 := fun v => by rw [ub_a (by decide)]; exact hz
      refine r251_7 (K := K) ⟨fun h => ⟨fun ht => ⟨by omega, by omega, ?_⟩, fun ht => ⟨fun ht1 => ⟨by omega, by omega, ?_⟩, fun ht1 => ⟨by omega, by omega, ?_⟩⟩⟩, fun h => by omega⟩
      · refine ih (t + 1) _ (by omega) (by omega) (by omega) (hf' _) (h12' _) (hz' _) (fun _ => by rw [ht]; exact ub_s) (fun h => by omega) (fun i i1 i2 => by omega)
      · refine ih (t + 1) _ (by omega) (by omega) (by omega) (hf' _) (h12' _) (hz' _) (fun _ => by rw [ub_n (by omega)]; exact g1 (by omega)) (fun _ => by rw [ht1]; exact ub_s) (fun i i1 i2 => by omega)
      · refine ih (t + 1) _ (by omega) (by omega) (by omega) (hf' _) (h12' _) (hz' _) (fun _ => by rw [ub_n (by omega)]; exact g1 (by omega)) (fun _ => by rw [ub_n (by omega)]; exact g2 (by omega)) (fun i i1 i2 => ?_)
        by_cases ei : i = t
        · rw [ei]; exact ub_s
        · rw [ub_n ei]; exact g3 i i1 (by omega)
  exact r251_0 (K := K) (hl _ 0 _ rfl (by omega) (by omega) ((FrN.r D).u (Or.inl ⟨by decide, by decide⟩)) (by rw [ub_a (by decide)]) ub_s (fun h => by omega) (fun h => by omega) (fun i i1 i2 => by omega))
