/-! what a loaded program has -/
set_option maxRecDepth 100000
/-- an instruction is right: its word op, operand v, number n; in a body b from fr to en, with the types of sites s5 -/
def WIv (ns ab : List Int) (X : XB) (s5 : List Int) (b fr en op v n : Int) : Prop := (0 ≤ op ∧ op < 46) ∧ (2 ≤ op ∧ op ≤ 4 → 0 ≤ v ∧ v < lf (X 9) b) ∧ (19 ≤ op ∧ op ≤ 29 → fr ≤ v ∧ v < en) ∧ (op = 30 → (0 ≤ v ∧ v < s5.length) ∧ (16 ≤ lf s5 v ∧ lf s5 v < 24 + ns.length)) ∧ (op = 31 → (0 ≤ v ∧ v < s5.length) ∧ (lf s5 v = 3 ∨ (64 ≤ lf s5 v ∧ lf s5 v < 72 + ns.length))) ∧ (op = 35 ∨ op = 36 → (0 ≤ v ∧ v < (X 0).length) ∧ (0 ≤ n ∧ n < 8 + ns.length) ∧ cbl ab n (lf (X 0) v)) ∧ (op = 39 ∨ op = 40 → (0 ≤ v ∧ v < (X 4).length) ∧ (0 ≤ n ∧ n < 8 + ns.length) ∧ cbl ab n (lf (X 4) v) ∧ (op = 40 → lf (X 6) v = 1) ∧ (op = 39 → lf (X 6) v = 0)) ∧ (op = 37 ∨ op = 38 → tyR (8 + ns.length) v ∧ ¬ v = 0) ∧ (op = 0 ∨ op = 4 → -2147483648 ≤ n ∧ n ≤ 2147483647) ∧ (op = 1 ∨ (5 ≤ op ∧ op ≤ 18) ∨ (32 ≤ op ∧ op ≤ 34) ∨ 41 ≤ op → v = 0)
theorem WIv.x {ns ab : List Int} {X : XB} {s5 : List Int} {b fr en op v n t : Int} (h : WIv ns ab X s5 b fr en op v n) : WIv ns ab X (s5 ++ [t]) b fr en op v n := by
  obtain ⟨h1, h2, h3, h4, h5, h6⟩ := h
  refine ⟨h1, h2, h3, fun e => ?_, fun e => ?_, h6⟩
  · obtain ⟨x, y⟩ := h4 e
    rw [lf_a x.1 x.2, len_app]
    exact ⟨by omega, y⟩
  · obtain ⟨x, y⟩ := h5 e
    rw [lf_a x.1 x.2, len_app]
    exact ⟨by omega, y⟩
/-- a catch is right -/
def WCv (ns ab : List Int) (fr en f t a c : Int) : Prop := fr ≤ f ∧ f < t ∧ t ≤ en ∧ (fr ≤ a ∧ a < en) ∧ (0 ≤ c ∧ c < 8 + ns.length) ∧ cbl ab c 1
noncomputable def enF (Z : XB) (b en c : Int) : Int := cit (c = b) en (lf (Z 12) c)
/-- along the lines of body b, that ends at en -/
def INV (ns ab : List Int) (X : XB) (b en : Int) (Z : XB) : Prop := YLn Z ∧ ((Z 11).length = b + 1 ∧ (Z 12).length = b) ∧
  (∀ i : Int, 0 ≤ i → i < (Z 0).length → (0 ≤ lf (Z 4) i ∧ lf (Z 4) i ≤ b) ∧ lf (Z 11) (lf (Z 4) i) ≤ i ∧ i < enF Z b en (lf (Z 4) i) ∧ WIv ns ab X (Z 5) (lf (Z 4) i) (lf (Z 11) (lf (Z 4) i)) (enF Z b en (lf (Z 4) i)) (lf (Z 0) i) (lf (Z 1) i) (lf (Z 2) i)) ∧
  (∀ k : Int, 0 ≤ k → k < (Z 6).length → (0 ≤ lf (Z 10) k ∧ lf (Z 10) k ≤ b) ∧ WCv ns ab (lf (Z 11) (lf (Z 10) k)) (enF Z b en (lf (Z 10) k)) (lf (Z 6) k) (lf (Z 7) k) (lf (Z 8) k) (lf (Z 9) k)) ∧
  (∀ j k : Int, 0 ≤ j → j < k → k < (Z 6).length → lf (Z 10) j ≤ lf (Z 10) k) ∧
  (∀ c : Int, 0 ≤ c → c < b → (0 ≤ lf (Z 11) c ∧ lf (Z 11) c < lf (Z 12) c ∧ lf (Z 12) c ≤ lf (Z 11) b) ∧ ¬ goOn (lf (Z 0) (lf (Z 12) c - 1)) ∧ ∀ i : Int, lf (Z 11) c ≤ i → i < lf (Z 12) c → lf (Z 4) i = c) ∧
  (0 ≤ lf (Z 11) b ∧ lf (Z 11) b ≤ (Z 0).length) ∧ ∀ i : Int, lf (Z 11) b ≤ i → i < (Z 0).length → lf (Z 4) i = b
theorem lbP_b {K : TK} : ∀ (ln : List Int) (a x : Int), x ∈ lbP K ln a → a ≤ x ∧ x ≤ a + lnC K ln
  | [], _, _, h => by cases h
  | l :: ls, a, x, h => by
    have hb := lnC_b (K := K) ls
    have h : x ∈ (cit (K.w (l + 1) 15) (a :: lbP K ls a) (cit (K.w l 16) (lbP K ls a) (lbP K ls (a + 1))) : List Int) := h
    rcases Classical.em (K.w (l + 1) 15) with g | g
    · rw [cit_t g] at h
      rw [lnC_lab g]
      rcases List.mem_cons.mp h with e | e
      · omega
      · exact lbP_b ls a x e
    · rw [cit_f g] at h
      rcases Classical.em (K.w l 16) with g1 | g1
      · rw [cit_t g1] at h
        rw [lnC_cat g g1]
        exact lbP_b ls a x h
      · rw [cit_f g1] at h
        rw [lnC_ins g g1]
        have := lbP_b ls (a + 1) x h
        omega
theorem labA_b {K : TK} {ln : List Int} {a u : Int} : labA K (lbT K ln) (lbP K ln a) u = -1 ∨ (a ≤ labA K (lbT K ln) (lbP K ln a) u ∧ labA K (lbT K ln) (lbP K ln a) u ≤ a + lnC K ln) := by
  unfold labA
  rcases labK_b (K := K) (lt := lbT K ln) (t := u) with x | ⟨x1, x2, x3, x4⟩
  · rw [cit_t (by omega)]; exact Or.inl rfl
  · rw [cit_f (by omega)]
    exact Or.inr (lbP_b ln a _ (lf_mem x1 (by rw [lbP_len]; exact x2)))
theorem ifa_o {K : TK} {ns ab : List Int} {X : XB} {lt lp : List Int} {b en : Int} {Y : XB} {op t : Int} (h : (ifa K ns ab X lt lp b en Y op t).1 = true) : oOK K ns ab X lt lp b en op (t + 1) := by
  have h1 := ifa_q h
  rcases Classical.em (oOK K ns ab X lt lp b en op (t + 1)) with g | g
  · exact g
  · rw [show ifa K ns ab X lt lp b en Y op t = (false, t + 1) from (cit_t h1).trans (cit_f g)] at h
    cases h
theorem cfa_o {K : TK} {ns ab lt lp : List Int} {nc en t : Int} (h : (cfa K ns ab lt lp nc en t).1 = true) : 0 ≤ labA K lt lp (t + 1) ∧ labA K lt lp (t + 1) < labA K lt lp (t + 2) ∧ (0 ≤ labA K lt lp (t + 3) ∧ labA K lt lp (t + 3) < en) ∧ 0 ≤ clsT K ns (t + 4) ∧ cbl ab (clsT K ns (t + 4)) 1 := by
  have h0 := cfa_64 h
  have e : cfa K ns ab lt lp nc en t = _ := cit_t h0
  rcases Classical.em (labA K lt lp (t + 1) < 0) with g1 | g1
  · rw [cit_t g1] at e; rw [e] at h; cases h
  · rw [cit_f g1] at e
    rcases Classical.em (labA K lt lp (t + 1) < labA K lt lp (t + 2)) with g2 | g2
    · rw [cit_t g2] at e
      rcases Classical.em (labA K lt lp (t + 3) < 0) with g3 | g3
      · rw [cit_t g3] at e; rw [e] at h; cases h
      · rw [cit_f g3] at e
        rcases Classical.em (labA K lt lp (t + 3) < en) with g4 | g4
        · rw [cit_t g4] at e
          rcases Classical.em (clsT K ns (t + 4) < 0) with g5 | g5
          · rw [cit_t g5] at e; rw [e] at h; cases h
          · rw [cit_f g5] at e
            rcases Classical.em (cbl ab (clsT K ns (t + 4)) 1) with g6 | g6
            · exact ⟨by omega, g2, by omega, by omega, g6⟩
            · rw [cit_f g6] at e; rw [e] at h; cases h
        · rw [cit_f g4] at e; rw [e] at h; cases h
    · rw [cit_f g2] at e; rw [e] at h; cases h
section Wf
variable {K : TK} {ns ab : List Int} {X : XB}
/-- a new instruction is right -/
theorem wiv_n {lt lp : List Int} {b fr en op t : Int} {Y : XB} (hw : ABw ab) (hln : ns.length = ab.length) (hop : 0 ≤ op ∧ op < 46) (hsy : oSy K op (t + 1)) (hok : oOK K ns ab X lt lp b en op (t + 1)) (hlab : ∀ u, labA K lt lp u = -1 ∨ fr ≤ labA K lt lp u) : WIv ns ab X (iY K ns ab X lt lp b Y op t 5) b fr en op (cit (isSi op) ((Y 5).length : Int) (oVal K ns ab X lt lp op (t + 1))) (oNum K ns op (t + 1)) := by
  have hcb := clsAt_b (K := K) (ns := ns) (a := K.tf (t + 1)) (b := pnK K (t + 1))
  have hcc : mrC K ns (t + 1) = clsAt K ns (K.tf (t + 1)) (pnK K (t + 1)) := rfl
  have e5 : isSi op → iY K ns ab X lt lp b Y op t 5 = Y 5 ++ [oVal K ns ab X lt lp op (t + 1)] := fun h => cit_t h
  have hsite : isSi op → lf (iY K ns ab X lt lp b Y op t 5) (Y 5).length = oVal K ns ab X lt lp op (t + 1) ∧ ((Y 5).length : Int) < (iY K ns ab X lt lp b Y op t 5).length := fun h => by
    rw [e5 h, lf_e, len_app]
    exact ⟨rfl, by omega⟩
  refine ⟨hop, fun g => ?_, fun g => ?_, fun g => ?_, fun g => ?_, fun g => ?_, fun g => ?_, fun g => ?_, fun g => ?_, fun g => ?_⟩
  · rw [cit_f (fun x => by unfold isSi at x; omega)]
    unfold oOK at hok
    unfold oVal
    rw [if_pos g] at hok ⊢
    exact hok
  · rw [cit_f (fun x => by unfold isSi at x; omega)]
    unfold oOK at hok
    unfold oVal
    rw [if_neg (by omega), if_pos g] at hok ⊢
    rcases hlab (t + 1) with x | x
    · omega
    · exact ⟨x, hok.2⟩
  · have hs : isSi op := Or.inl g
    rw [cit_t hs, (hsite hs).1]
    refine ⟨⟨by omega, (hsite hs).2⟩, ?_⟩
    unfold oOK at hok
    unfold oVal
    rw [if_neg (by omega), if_neg (by omega), if_pos (by omega)] at hok ⊢
    have hcn := hsy.2.2.2.1 g
    have ety := cn_ty (ns := ns) hcn
    have hcb2 := clsAt_b (K := K) (ns := ns) (a := K.tf (t + 1)) (b := K.tt (t + 1))
    have hc2 : clsT K ns (t + 1) = clsAt K ns (K.tf (t + 1)) (K.tt (t + 1)) := rfl
    rcases Classical.em (clsT K ns (t + 1) < 0) with x | x
    · rw [ety, cit_t x] at hok; omega
    · rw [ety, cit_f x]; omega
  · have hs : isSi op := Or.inr g
    rw [cit_t hs, (hsite hs).1]
    refine ⟨⟨by omega, (hsite hs).2⟩, ?_⟩
    unfold oOK at hok
    unfold oVal
    rw [if_neg (by omega), if_neg (by omega), if_pos (by omega)] at hok
    rw [if_neg (by omega), if_neg (by omega), if_neg (by omega), if_pos g]
    by_cases z : tyOf K ns (t + 1) = 0
    · rw [if_pos z]; exact Or.inl rfl
    · rw [if_neg z]
      rcases hsy.2.2.2.2.1 g with x | x
      · exact absurd (int_ty x) z
      · have ety := cn_ty (ns := ns) x
        have hcb2 := clsAt_b (K := K) (ns := ns) (a := K.tf (t + 1)) (b := K.tt (t + 1))
        have hc2 : clsT K ns (t + 1) = clsAt K ns (K.tf (t + 1)) (K.tt (t + 1)) := rfl
        rcases Classical.em (clsT K ns (t + 1) < 0) with y | y
        · rw [ety, cit_t y] at hok; omega
        · rw [ety, cit_f y]; right; omega
  · rw [cit_f (fun x => by unfold isSi at x; omega)]
    unfold oOK at hok
    unfold oVal oNum
    rw [if_neg (by omega), if_neg (by omega), if_neg (by omega), if_pos (by omega)] at hok
    rw [if_neg (by omega), if_neg (by omega), if_neg (by omega), if_neg (by omega), if_pos (by omega), if_neg (by omega), if_neg (by omega), if_pos (by omega)]
    have e : mrK K ns ab X op (t + 1) = nea K ab (X 0) (X 1) (mrC K ns (t + 1)) (pnK K (t + 1) + 1) (K.tt (t + 1)) := if_pos g
    have h1 := hok.1
    have h2 := hok.2.1
    rcases nea_b (K := K) (l1 := X 0) (l2 := X 1) (a := pnK K (t + 1) + 1) (b := K.tt (t + 1)) hw _ (mrC K ns (t + 1)) (Nat.lt_succ_self _) (by omega) with ⟨r1, _⟩ | ⟨r1, r2, r3, _⟩
    · rw [e] at h2; omega
    · rw [e]
      exact ⟨⟨r1, r2⟩, by omega, r3⟩
  · rw [cit_f (fun x => by unfold isSi at x; omega)]
    unfold oOK at hok
    unfold oVal oNum
    rw [if_neg (by omega), if_neg (by omega), if_neg (by omega), if_pos (by omega)] at hok
    rw [if_neg (by omega), if_neg (by omega), if_neg (by omega), if_neg (by omega), if_pos (by omega), if_neg (by omega), if_neg (by omega), if_pos (by omega)]
    have e : mrK K ns ab X op (t + 1) = nea K ab (X 4) (X 5) (mrC K ns (t + 1)) (pnK K (t + 1) + 1) (K.tt (t + 1)) := if_neg (by omega)
    have h1 := hok.1
    have h2 := hok.2.1
    have h3 := hok.2.2
    rw [e] at h2 h3 ⊢
    rcases nea_b (K := K) (l1 := X 4) (l2 := X 5) (a := pnK K (t + 1) + 1) (b := K.tt (t + 1)) hw _ (mrC K ns (t + 1)) (Nat.lt_succ_self _) (by omega) with ⟨r1, _⟩ | ⟨r1, r2, r3, _⟩
    · omega
    · refine ⟨⟨r1, r2⟩, by omega, r3, fun y => ?_, fun y => ?_⟩
      · rcases h3 with z | z | z
        · omega
        · exact z.2
        · exact absurd y z.1
      · rcases h3 with z | z | z
        · omega
        · omega
        · exact z.2
  · rw [cit_f (fun x => by unfold isSi at x; omega)]
    unfold oOK at hok
    unfold oVal
    rw [if_neg (by omega), if_neg (by omega), if_pos (by omega)] at hok ⊢
    refine ⟨tyOf_r hok, fun z => ?_⟩
    have hty := hsy.2.2.2.2.2.2 g
    have hr : intB K.tx K.tf K.tt (t + 1) ∧ ¬ arrW K.tx K.tf K.tt (t + 1) := by
      unfold tyOf at z
      have hcb2 := clsAt_b (K := K) (ns := ns) (a := K.tf (t + 1)) (b := bEnd K.tx K.tf K.tt (t + 1))
      rcases Classical.em (intB K.tx K.tf K.tt (t + 1)) with y | y
      · rcases Classical.em (arrW K.tx K.tf K.tt (t + 1)) with w | w
        · rw [cit_t y, cit_t w] at z; omega
        · exact ⟨y, w⟩
      · rw [cit_f y] at z
        rcases Classical.em (clsAt K ns (K.tf (t + 1)) (bEnd K.tx K.tf K.tt (t + 1)) < 0) with u | u
        · rw [cit_t u] at z; omega
        · rw [cit_f u] at z
          rcases Classical.em (arrW K.tx K.tf K.tt (t + 1)) with w | w
          · rw [cit_t w] at z; omega
          · rw [cit_f w] at z; omega
    have h2 := hr.1
    unfold intB at h2
    rw [bE_n hr.2] at h2
    exact hty.2 ⟨hty.1.1, h2⟩
  · rcases g with g | g
    · have := (hsy.1 (Or.inl g)).2.2.2
      unfold oNum
      rw [if_pos g]; exact this
    · have := (hsy.2.1 g).2.2.2.2
      unfold oNum
      rw [if_neg (by omega), if_pos g]; exact this
  · rw [cit_f (fun x => by unfold isSi at x; omega)]
    unfold oVal
    rw [if_neg (by omega), if_neg (by omega), if_neg (by omega), if_neg (by omega), if_neg (by omega)]
theorem inv_i {lt lp : List Int} {b en l : Int} {Z : XB} (hw : ABw ab) (hln : ns.length = ab.length) (b0 : 0 ≤ b) (h : INV ns ab X b en Z) (hop : 0 ≤ K.op l) (hsy : oSy K (K.op l) (l + 1)) (hq : (ifa K ns ab X lt lp b en Z (K.op l) l).1 = true) (hlab : ∀ u, labA K lt lp u = -1 ∨ lf (Z 11) b ≤ labA K lt lp u) (hen : ((Z 0).length : Int) < en) : INV ns ab X b en (iY K ns ab X lt lp b Z (K.op l) l) := by
  obtain ⟨hY, ⟨h11, h12⟩, hi, hk, hjk, hc, ⟨hF0, hF1⟩, hF2⟩ := h
  obtain ⟨⟨a1, a2, a3, a4⟩, a5, a6, a7, a8⟩ := hY
  have hq2 := ifa_q hq
  have hY' := iY_l (K := K) (ns := ns) (ab := ab) (X := X) (lt := lt) (lp := lp) (b := b) (t := l) (⟨⟨a1, a2, a3, a4⟩, a5, a6, a7, a8⟩ : YLn Z) hq2.1 hq2.2
  have hwn := wiv_n (K := K) (Y := Z) (fr := lf (Z 11) b) hw hln ⟨hop, (op_b K l).2⟩ hsy (ifa_o hq) hlab
  have h4a : ∀ i : Int, 0 ≤ i → i < (Z 0).length → lf (Z 4 ++ [b]) i = lf (Z 4) i := fun i i0 i1 => lf_a i0 (by omega)
  have h4e : lf (Z 4 ++ [b]) (Z 0).length = b := by rw [← a4]; exact lf_e
  refine ⟨hY', ⟨h11, h12⟩, fun i i0 i1 => ?_, hk, hjk, fun c c0 c1 => ?_, ⟨hF0, ?_⟩, fun i i0 i1 => ?_⟩
  · have i1 : i < (Z 0 ++ [K.op l]).length := i1
    rw [len_app] at i1
    show (0 ≤ lf (Z 4 ++ [b]) i ∧ lf (Z 4 ++ [b]) i ≤ b) ∧ lf (Z 11) (lf (Z 4 ++ [b]) i) ≤ i ∧ i < enF Z b en (lf (Z 4 ++ [b]) i) ∧ WIv ns ab X (iY K ns ab X lt lp b Z (K.op l) l 5) (lf (Z 4 ++ [b]) i) (lf (Z 11) (lf (Z 4 ++ [b]) i)) (enF Z b en (lf (Z 4 ++ [b]) i)) (lf (Z 0 ++ [K.op l]) i) (lf (Z 1 ++ [cit (isSi (K.op l)) ((Z 5).length : Int) (oVal K ns ab X lt lp (K.op l) (l + 1))]) i) (lf (Z 2 ++ [oNum K ns (K.op l) (l + 1)]) i)
    by_cases e : i < (Z 0).length
    · rw [h4a i i0 e, lf_a i0 e, lf_a i0 (by omega), lf_a i0 (by omega)]
      obtain ⟨p1, p2, p3, p4⟩ := hi i i0 e
      refine ⟨p1, p2, p3, ?_⟩
      rcases Classical.em (isSi (K.op l)) with g | g
      · rw [show iY K ns ab X lt lp b Z (K.op l) l 5 = Z 5 ++ [oVal K ns ab X lt lp (K.op l) (l + 1)] from cit_t g]
        exact p4.x
      · rw [show iY K ns ab X lt lp b Z (K.op l) l 5 = Z 5 from cit_f g]
        exact p4
    · have e2 : i = (Z 0).length := by omega
      have q1 : lf (Z 1 ++ [cit (isSi (K.op l)) ((Z 5).length : Int) (oVal K ns ab X lt lp (K.op l) (l + 1))]) i = cit (isSi (K.op l)) ((Z 5).length : Int) (oVal K ns ab X lt lp (K.op l) (l + 1)) := by rw [show i = (Z 1).length by omega]; exact lf_e
      have q2 : lf (Z 2 ++ [oNum K ns (K.op l) (l + 1)]) i = oNum K ns (K.op l) (l + 1) := by rw [show i = (Z 2).length by omega]; exact lf_e
      have q0 : lf (Z 0 ++ [K.op l]) i = K.op l := by rw [e2]; exact lf_e
      have eE : enF Z b en b = en := cit_t rfl
      rw [q0, q1, q2, e2, h4e, eE]
      exact ⟨by omega, hF1, hen, hwn⟩
  · obtain ⟨p1, p2, p3⟩ := hc c c0 c1
    have hle : lf (Z 12) c ≤ (Z 0).length := by omega
    refine ⟨p1, ?_, fun i i0 i1 => ?_⟩
    · show ¬ goOn (lf (Z 0 ++ [K.op l]) (lf (Z 12) c - 1))
      rw [lf_a (by omega) (by omega)]; exact p2
    · have i0 : lf (Z 11) c ≤ i := i0
      have i1 : i < lf (Z 12) c := i1
      show lf (Z 4 ++ [b]) i = c
      rw [h4a i (by omega) (by omega)]; exact p3 i i0 i1
  · show lf (Z 11) b ≤ ((Z 0 ++ [K.op l]).length : Int)
    rw [len_app]; omega
  · have i1 : i < (Z 0 ++ [K.op l]).length := i1
    rw [len_app] at i1
    show lf (Z 4 ++ [b]) i = b
    by_cases e : i < (Z 0).length
    · rw [h4a i (by have := hF0; have i0 : lf (Z 11) b ≤ i := i0; omega) e]; exact hF2 i i0 e
    · rw [show i = (Z 0).length by omega]; exact h4e
theorem inv_c {lt lp : List Int} {b en l : Int} {Z : XB} (b0 : 0 ≤ b) (h : INV ns ab X b en Z) (hq : (cfa K ns ab lt lp (Z 6).length en l).1 = true) (hlab : ∀ u, labA K lt lp u = -1 ∨ (lf (Z 11) b ≤ labA K lt lp u ∧ labA K lt lp u ≤ en)) : INV ns ab X b en (cY K ns lt lp b Z l) := by
  obtain ⟨hY, ⟨h11, h12⟩, hi, hk, hjk, hc, hF⟩ := h
  obtain ⟨a1, ⟨a5, a6, a7, a8⟩, a9⟩ := hY
  have h6 := cfa_64 hq
  have ho := cfa_o hq
  have hcb2 := clsAt_b (K := K) (ns := ns) (a := K.tf (l + 4)) (b := K.tt (l + 4))
  have hc2 : clsT K ns (l + 4) = clsAt K ns (K.tf (l + 4)) (K.tt (l + 4)) := rfl
  have e10 : lf (Z 10 ++ [b]) (Z 6).length = b := by rw [← a8]; exact lf_e
  refine ⟨cY_l ⟨a1, ⟨a5, a6, a7, a8⟩, a9⟩ (by omega), ⟨h11, h12⟩, hi, fun k k0 k1 => ?_, fun j k j0 jk k1 => ?_, hc, hF⟩
  · have k1 : k < (Z 6 ++ [labA K lt lp (l + 1)]).length := k1
    rw [len_app] at k1
    show (0 ≤ lf (Z 10 ++ [b]) k ∧ lf (Z 10 ++ [b]) k ≤ b) ∧ WCv ns ab (lf (Z 11) (lf (Z 10 ++ [b]) k)) (enF Z b en (lf (Z 10 ++ [b]) k)) (lf (Z 6 ++ [labA K lt lp (l + 1)]) k) (lf (Z 7 ++ [labA K lt lp (l + 2)]) k) (lf (Z 8 ++ [labA K lt lp (l + 3)]) k) (lf (Z 9 ++ [clsT K ns (l + 4)]) k)
    by_cases e : k < (Z 6).length
    · rw [lf_a k0 (by omega), lf_a k0 e, lf_a k0 (by omega), lf_a k0 (by omega), lf_a k0 (by omega)]
      exact hk k k0 e
    · have q6 : lf (Z 6 ++ [labA K lt lp (l + 1)]) k = labA K lt lp (l + 1) := by rw [show k = (Z 6).length by omega]; exact lf_e
      have q7 : lf (Z 7 ++ [labA K lt lp (l + 2)]) k = labA K lt lp (l + 2) := by rw [show k = (Z 7).length by omega]; exact lf_e
      have q8 : lf (Z 8 ++ [labA K lt lp (l + 3)]) k = labA K lt lp (l + 3) := by rw [show k = (Z 8).length by omega]; exact lf_e
      have q9 : lf (Z 9 ++ [clsT K ns (l + 4)]) k = clsT K ns (l + 4) := by rw [show k = (Z 9).length by omega]; exact lf_e
      have q10 : lf (Z 10 ++ [b]) k = b := by rw [show k = (Z 6).length by omega]; exact e10
      have eE : enF Z b en b = en := cit_t rfl
      rw [q6, q7, q8, q9, q10, eE]
      have g1 := hlab (l + 1)
      have g2 := hlab (l + 2)
      have g3 := hlab (l + 3)
      exact ⟨by omega, by omega, ho.2.1, by omega, by omega, by omega, ho.2.2.2.2⟩
  · have k1 : k < (Z 6 ++ [labA K lt lp (l + 1)]).length := k1
    rw [len_app] at k1
    show lf (Z 10 ++ [b]) j ≤ lf (Z 10 ++ [b]) k
    rw [lf_a j0 (by omega)]
    by_cases e : k < (Z 6).length
    · rw [lf_a (by omega) (by omega)]; exact hjk j k j0 jk e
    · rw [show k = (Z 6).length by omega, e10]
      exact (hk j j0 (by omega)).1.2
/-- what the bodies so far have: n of them -/
def WFB (ns ab : List Int) (X : XB) (n : Int) (Y : XB) : Prop := YLn Y ∧ ((Y 11).length = n ∧ (Y 12).length = n) ∧
  (∀ i : Int, 0 ≤ i → i < (Y 0).length → (0 ≤ lf (Y 4) i ∧ lf (Y 4) i < n) ∧ lf (Y 11) (lf (Y 4) i) ≤ i ∧ i < lf (Y 12) (lf (Y 4) i) ∧ WIv ns ab X (Y 5) (lf (Y 4) i) (lf (Y 11) (lf (Y 4) i)) (lf (Y 12) (lf (Y 4) i)) (lf (Y 0) i) (lf (Y 1) i) (lf (Y 2) i)) ∧
  (∀ k : Int, 0 ≤ k → k < (Y 6).length → (0 ≤ lf (Y 10) k ∧ lf (Y 10) k < n) ∧ WCv ns ab (lf (Y 11) (lf (Y 10) k)) (lf (Y 12) (lf (Y 10) k)) (lf (Y 6) k) (lf (Y 7) k) (lf (Y 8) k) (lf (Y 9) k)) ∧
  (∀ j k : Int, 0 ≤ j → j < k → k < (Y 6).length → lf (Y 10) j ≤ lf (Y 10) k) ∧
  ∀ c : Int, 0 ≤ c → c < n → (0 ≤ lf (Y 11) c ∧ lf (Y 11) c < lf (Y 12) c ∧ lf (Y 12) c ≤ (Y 0).length) ∧ ¬ goOn (lf (Y 0) (lf (Y 12) c - 1)) ∧ ∀ i : Int, lf (Y 11) c ≤ i → i < lf (Y 12) c → lf (Y 4) i = c
theorem wfb_s {b t : Int} {Y : XB} (hw : ABw ab) (hln : ns.length = ab.length) (b0 : 0 ≤ b) (hm : MOK K t) (h : WFB ns ab X b Y) (e : (bdR K ns ab X b t Y).1.1 = true) : WFB ns ab X (b + 1) (bdR K ns ab X b t Y).2 := by
  obtain ⟨hY, ⟨h11, h12⟩, hi, hk, hjk, hc⟩ := h
  have hgood : ∀ x ∈ bLn K t, 0 ≤ x ∧ (pline K x).1 = true := by
    have := hm.ok
    exact pls_good (adv_line K) _ _ _ this.2.2.2.2.2.2.2.2.2.2.1 (by have := hm.lt; have := hm.1; omega)
  unfold bdR at e ⊢
  rcases Classical.em ((blR K ns ab X b t Y).1.1 = true) with g | g
  · rw [cit_t g] at e ⊢
    obtain ⟨n1, n2, n3, n4⟩ := lnR_n (K := K) (ns := ns) (ab := ab) (X := X) (Y := ap1 Y 11 (Y 0).length) hY g
    have n2 : (((blR K ns ab X b t Y).2 0).length : Int) = (Y 0).length + lnC K (bLn K t) := n2
    have n3 : (blR K ns ab X b t Y).2 11 = Y 11 ++ [((Y 0).length : Int)] := n3
    have e11 : lf (Y 11 ++ [((Y 0).length : Int)]) b = (Y 0).length := by rw [← h11]; exact lf_e
    have i0 : INV ns ab X b ((Y 0).length + lnC K (bLn K t)) (ap1 Y 11 (Y 0).length) := by
      have f11 : ∀ c : Int, 0 ≤ c → c < b → lf (ap1 Y 11 (Y 0).length 11) c = lf (Y 11) c := fun c c0 c1 => lf_a c0 (by omega)
      have fE : ∀ c : Int, c < b → enF (ap1 Y 11 (Y 0).length) b ((Y 0).length + lnC K (bLn K t)) c = lf (Y 12) c := fun c c1 => cit_f (by omega)
      refine ⟨hY, ⟨?_, h12⟩, fun i i0 i1 => ?_, fun k k0 k1 => ?_, hjk, fun c c0 c1 => ?_, ?_, fun i i0 i1 => ?_⟩
      · show ((Y 11 ++ [_]).length : Int) = b + 1
        rw [len_app]; omega
      · obtain ⟨p1, p2, p3, p4⟩ := hi i i0 i1
        show (0 ≤ lf (Y 4) i ∧ lf (Y 4) i ≤ b) ∧ lf (ap1 Y 11 (Y 0).length 11) (lf (Y 4) i) ≤ i ∧ i < enF (ap1 Y 11 (Y 0).length) b _ (lf (Y 4) i) ∧ WIv ns ab X (Y 5) (lf (Y 4) i) (lf (ap1 Y 11 (Y 0).length 11) (lf (Y 4) i)) (enF (ap1 Y 11 (Y 0).length) b _ (lf (Y 4) i)) (lf (Y 0) i) (lf (Y 1) i) (lf (Y 2) i)
        rw [f11 _ p1.1 p1.2, fE _ p1.2]
        exact ⟨by omega, p2, p3, p4⟩
      · obtain ⟨p1, p2⟩ := hk k k0 k1
        show (0 ≤ lf (Y 10) k ∧ lf (Y 10) k ≤ b) ∧ WCv ns ab (lf (ap1 Y 11 (Y 0).length 11) (lf (Y 10) k)) (enF (ap1 Y 11 (Y 0).length) b _ (lf (Y 10) k)) (lf (Y 6) k) (lf (Y 7) k) (lf (Y 8) k) (lf (Y 9) k)
        rw [f11 _ p1.1 p1.2, fE _ p1.2]
        exact ⟨by omega, p2⟩
      · obtain ⟨p1, p2, p3⟩ := hc c c0 c1
        show (0 ≤ lf (ap1 Y 11 (Y 0).length 11) c ∧ lf (ap1 Y 11 (Y 0).length 11) c < lf (Y 12) c ∧ lf (Y 12) c ≤ lf (Y 11 ++ [((Y 0).length : Int)]) b) ∧ ¬ goOn (lf (Y 0) (lf (Y 12) c - 1)) ∧ ∀ i : Int, lf (ap1 Y 11 (Y 0).length 11) c ≤ i → i < lf (Y 12) c → lf (Y 4) i = c
        rw [f11 c c0 c1, e11]
        exact ⟨p1, p2, p3⟩
      · show 0 ≤ lf (Y 11 ++ [((Y 0).length : Int)]) b ∧ lf (Y 11 ++ [((Y 0).length : Int)]) b ≤ (Y 0).length
        rw [e11]; omega
      · have i0 : lf (Y 11 ++ [((Y 0).length : Int)]) b ≤ i := i0
        rw [e11] at i0
        have i1 : i < (Y 0).length := i1
        omega
    have hlab : ∀ u, labA K (lbT K (bLn K t)) (lbP K (bLn K t) (Y 0).length) u = -1 ∨ (((Y 0).length : Int) ≤ labA K (lbT K (bLn K t)) (lbP K (bLn K t) (Y 0).length) u ∧ labA K (lbT K (bLn K t)) (lbP K (bLn K t) (Y 0).length) u ≤ (Y 0).length + lnC K (bLn K t)) := fun u => labA_b
    obtain ⟨s', j1, j2, j3, _⟩ := lnR_i (K := K) (ns := ns) (ab := ab) (X := X) (lt := lbT K (bLn K t)) (lp := lbP K (bLn K t) (Y 0).length) (b := b) (en := (Y 0).length + lnC K (bLn K t)) (P := fun ls _ Z => INV ns ab X b ((Y 0).length + lnC K (bLn K t)) Z ∧ (∀ x ∈ ls, 0 ≤ x ∧ (pline K x).1 = true) ∧ ((Z 0).length : Int) + lnC K ls = (Y 0).length + lnC K (bLn K t) ∧ lf (Z 11) b = (Y 0).length)
      (fun l ls s Z q1 q2 q3 => ⟨q3.1, fun x hx => q3.2.1 x (List.mem_cons_of_mem _ hx), by rw [← lnC_lab (ls := ls) q1]; exact q3.2.2.1, q3.2.2.2⟩)
      (fun l ls s Z q0 q1 q2 q3 => ⟨inv_c b0 q3.1 q2 (by rw [q3.2.2.2]; exact hlab), fun x hx => q3.2.1 x (List.mem_cons_of_mem _ hx), by rw [← lnC_cat (ls := ls) q0 q1]; exact q3.2.2.1, q3.2.2.2⟩)
      (fun l ls s Z q0 q1 q2 q3 => by
        have hl := q3.2.1 l (List.mem_cons_self ..)
        have h3 := q3.2.2.1
        rw [lnC_ins q0 q1] at h3
        have hb3 := lnC_b (K := K) ls
        rcases (pl_of hl.2).2 with x | x | x
        · exact absurd x.1 q0
        · exact absurd x.2.1 q1
        · refine ⟨inv_i hw hln b0 q3.1 x.2.2.1 (oSy_i x.2.2.2.1) q2 (fun u => (hlab u).elim Or.inl fun y => Or.inr (by rw [q3.2.2.2]; exact y.1)) (by omega), fun x hx => q3.2.1 x (List.mem_cons_of_mem _ hx), ?_, q3.2.2.2⟩
          show (((Z 0 ++ [K.op l]).length : Nat) : Int) + _ = _
          rw [len_app]
          omega) (bLn K t) 0 (ap1 Y 11 (Y 0).length) ⟨i0, hgood, rfl, e11⟩ g
    have j1 : INV ns ab X b ((Y 0).length + lnC K (bLn K t)) (blR K ns ab X b t Y).2 := j1
    rcases Classical.em (((Y 0).length : Int) < ((blR K ns ab X b t Y).2 0).length ∧ ¬ goOn (lf ((blR K ns ab X b t Y).2 0) ((((blR K ns ab X b t Y).2 0).length : Int) - 1))) with g1 | g1
    · rw [cit_t g1]
      generalize (blR K ns ab X b t Y).2 = Z at *
      obtain ⟨w1, ⟨w2, w3⟩, w4, w5, w6, w7, w8, w9⟩ := j1
      have j12 : lf (Z 12 ++ [((Z 0).length : Int)]) b = (Z 0).length := by rw [← w3]; exact lf_e
      have k12 : ∀ c : Int, 0 ≤ c → c < b → lf (Z 12 ++ [((Z 0).length : Int)]) c = lf (Z 12) c := fun c c0 c1 => lf_a c0 (by omega)
      have kE : ∀ c : Int, 0 ≤ c → c ≤ b → enF Z b ((Y 0).length + lnC K (bLn K t)) c = lf (Z 12 ++ [((Z 0).length : Int)]) c := fun c c0 c1 => by
        by_cases ec : c = b
        · rw [ec, j12]
          exact (cit_t rfl).trans n2.symm
        · rw [k12 c c0 (by omega)]
          exact cit_f ec
      refine ⟨w1, ⟨w2, ?_⟩, fun i i0 i1 => ?_, fun k k0 k1 => ?_, w6, fun c c0 c1 => ?_⟩
      · show ((Z 12 ++ [_]).length : Int) = b + 1
        rw [len_app]; omega
      · obtain ⟨p1, p2, p3, p4⟩ := w4 i i0 i1
        rw [kE _ p1.1 p1.2] at p3 p4
        exact ⟨⟨p1.1, by have p12 : lf (Z 4) i ≤ b := p1.2; show lf (Z 4) i < b + 1; omega⟩, p2, p3, p4⟩
      · obtain ⟨p1, p2⟩ := w5 k k0 k1
        rw [kE _ p1.1 p1.2] at p2
        exact ⟨⟨p1.1, by have p12 : lf (Z 10) k ≤ b := p1.2; show lf (Z 10) k < b + 1; omega⟩, p2⟩
      · show (0 ≤ lf (Z 11) c ∧ lf (Z 11) c < lf (Z 12 ++ [((Z 0).length : Int)]) c ∧ lf (Z 12 ++ [((Z 0).length : Int)]) c ≤ (Z 0).length) ∧ ¬ goOn (lf (Z 0) (lf (Z 12 ++ [((Z 0).length : Int)]) c - 1)) ∧ ∀ i : Int, lf (Z 11) c ≤ i → i < lf (Z 12 ++ [((Z 0).length : Int)]) c → lf (Z 4) i = c
        by_cases ec : c = b
        · rw [ec, j12]
          have e11' : lf (Z 11) b = (Y 0).length := by rw [n3]; exact e11
          exact ⟨⟨by omega, by omega, Int.le_refl _⟩, g1.2, w9⟩
        · rw [k12 c c0 (by omega)]
          obtain ⟨p1, p2, p3⟩ := w7 c c0 (by omega)
          exact ⟨⟨p1.1, p1.2.1, by omega⟩, p2, p3⟩
    · rw [cit_f g1] at e; cases e
  · rw [cit_f g] at e; exact absurd e g
theorem wfb_a (hw : ABw ab) (hln : ns.length = ab.length) (hm : ∀ b : Int, 0 ≤ b → b < (X 4).length → MOK K (lf (X 12) b)) : ∀ (n : Nat) (b : Int) (Y : XB), 0 ≤ b → b + n ≤ (X 4).length → WFB ns ab X b Y → (bsR K ns ab X n b Y).1.1 = true → WFB ns ab X (b + n) (bsR K ns ab X n b Y).2
  | 0, b, Y, _, _, h, _ => by
    show WFB ns ab X (b + ((0 : Nat) : Int)) Y
    rw [show b + ((0 : Nat) : Int) = b by omega]; exact h
  | n + 1, b, Y, b0, bn, h, e => by
    unfold bsR at e ⊢
    rcases Classical.em ((bdR K ns ab X b (lf (X 12) b) Y).1.1 = true) with g | g
    · rw [cit_t g] at e ⊢
      have := wfb_a hw hln hm n (b + 1) _ (by omega) (by omega) (wfb_s hw hln b0 (hm b b0 (by omega)) h g) e
      rw [show b + ((n + 1 : Nat) : Int) = b + 1 + n by omega]
      exact this
    · rw [cit_f g] at e; exact absurd e g
theorem wfp_i {Y : XB} (h : PX K ns ab X Y) : WFB ns ab X (X 4).length Y := by
  obtain ⟨hG, hSB, ⟨hw, hal, hln⟩, hY, hl, ⟨h1, h2⟩, hmn⟩ := h
  have h0 : WFB ns ab X 0 Y0 := by
    refine ⟨⟨⟨rfl, rfl, rfl, rfl⟩, ⟨rfl, rfl, rfl, rfl⟩, by decide, by decide, by decide⟩, ⟨rfl, rfl⟩, fun i i0 i1 => ?_, fun i i0 i1 => ?_, fun j k j0 jk k1 => ?_, fun c c0 c1 => ?_⟩
    · have i1 : i < ((0 : Nat) : Int) := i1; omega
    · have i1 : i < ((0 : Nat) : Int) := i1; omega
    · have k1 : k < ((0 : Nat) : Int) := k1; omega
    · omega
  have := wfb_a (K := K) hw hln (fun b b0 b1 => (hG.1.2.2.1 b b0 b1).2.1) (X 4).length 0 Y0 (Int.le_refl _) (by omega) h0 h1
  rw [h2, show (0 : Int) + ((X 4).length : Int) = (X 4).length by omega] at this
  exact this
end Wf
