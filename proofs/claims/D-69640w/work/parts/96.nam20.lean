/-! names: SafeCode's classes and members -/
set_option maxRecDepth 100000
theorem ABw.a {ab : List Int} {v : Int} (h : ABw ab) (h0 : 0 ≤ v) (h1 : v < 8 + ab.length) : ABw (ab ++ [v]) := by
  intro i hi
  rw [len_app] at hi
  by_cases e : i < ab.length
  · rw [getD_app e]; exact h i e
  · have e2 : i = ab.length := by omega
    subst e2
    rw [getD_end]
    exact ⟨h0, h1⟩
theorem pcn_ok {K : TK} : ∀ (l ns ab : List Int), (pcn K l ns ab).1 = true → ns.length = ab.length → ABw ab → ns.length ≤ 24 → (pcn K l ns ab).2.2.1 = ns ++ l.map (fun a => a + 1) ∧ (pcn K l ns ab).2.2.1.length = (pcn K l ns ab).2.2.2.length ∧ ABw (pcn K l ns ab).2.2.2 ∧ (pcn K l ns ab).2.2.1.length ≤ 24
  | [], ns, ab, _, h2, h3, h4 => ⟨(List.append_nil _).symm, h2, h3, h4⟩
  | a :: l, ns, ab, h, h2, h3, h4 => by
    have e : pcn K (a :: l) ns ab = cit (¬ clsT K ns (a + 1) < 0 ∨ ns.length = 24) (false, a + 1, ns, ab) (cit (clsT K ns (a + 3) < 0) (false, a + 3, ns, ab) (pcn K l (ns ++ [a + 1]) (ab ++ [clsT K ns (a + 3)]))) := rfl
    rw [e] at h ⊢
    rcases Classical.em (¬ clsT K ns (a + 1) < 0 ∨ ns.length = 24) with g | g
    · rw [cit_t g] at h; exact Bool.noConfusion h
    · rw [cit_f g] at h ⊢
      rcases Classical.em (clsT K ns (a + 3) < 0) with g1 | g1
      · rw [cit_t g1] at h; exact Bool.noConfusion h
      · rw [cit_f g1] at h ⊢
        have hb := clsAt_b (K := K) (ns := ns) (a := K.tf (a + 3)) (b := K.tt (a + 3))
        have hb2 : clsT K ns (a + 3) = clsAt K ns (K.tf (a + 3)) (K.tt (a + 3)) := rfl
        have := pcn_ok l (ns ++ [a + 1]) (ab ++ [clsT K ns (a + 3)]) h (by rw [len_app, len_app, h2]) (h3.a (by omega) (by omega)) (by rw [len_app]; have : ¬ ns.length = 24 := fun x => g (Or.inr x); omega)
        refine ⟨?_, this.2⟩
        rw [this.1, List.append_assoc]
        rfl
theorem pcn_all {K : TK} (h : (pcn K (lcls K) [] []).1 = true) : (pcn K (lcls K) [] []).2.2.1 = (lcls K).map (fun a => a + 1) ∧ (pcn K (lcls K) [] []).2.2.1.length = (pcn K (lcls K) [] []).2.2.2.length ∧ ABw (pcn K (lcls K) [] []).2.2.2 ∧ (pcn K (lcls K) [] []).2.2.1.length ≤ 24 := pcn_ok (lcls K) [] [] h rfl (fun i hi => by cases hi) (by decide)
theorem cumm_len {K : TK} : ∀ (l : List Int) (n : Int), (cumm K l n).length = l.length
  | [], _ => rfl
  | _ :: l, n => by
    show (cumm K l _).length + 1 = l.length + 1
    rw [cumm_len l]
theorem cumm_at {K : TK} : ∀ (p l : List Int) (a n : Int), lf (cumm K (p ++ a :: l) n) p.length = n + (allM K p).length + (lmems K (a + 5)).length
  | [], l, a, n => by
    show n + (lmems K (a + 5)).length = n + (0 : Nat) + (lmems K (a + 5)).length
    omega
  | b :: p, l, a, n => by
    show lf ((n + (lmems K (b + 5)).length) :: cumm K (p ++ a :: l) (n + (lmems K (b + 5)).length)) ((p.length + 1 : Nat)) = n + (lmems K (b + 5) ++ allM K p).length + (lmems K (a + 5)).length
    have := cumm_at (K := K) p l a (n + (lmems K (b + 5)).length)
    unfold lf at this ⊢
    rw [Int.toNat_natCast] at this ⊢
    rw [List.getD_cons_succ, this, List.length_append]
    omega
theorem allM_a {K : TK} : ∀ (p l : List Int), allM K (p ++ l) = allM K p ++ allM K l
  | [], _ => rfl
  | a :: p, l => by
    show lmems K (a + 5) ++ allM K (p ++ l) = (lmems K (a + 5) ++ allM K p) ++ allM K l
    rw [allM_a p l, List.append_assoc]
/-- the loader's state behind the members -/
def LZ (E : Dt) : Prop := (RowOK (E 83) (E 84) ∧ RowOK (E 85) (E 86)) ∧ E 197 17 = 0 ∧ E 197 24 = 0 ∧ E 197 26 = 0 ∧ E 197 31 = -1 ∧ ∀ s, 48 ≤ s → s < 54 → E 218 s = s - 30
theorem r68_0 {L c2 c3 c4 c5 c6 : Nat} {K : TK} {D : Dt} {Q : Out → Wd → Prop} (H : ∀ (E2 : Dt), (FrG D E2 ∧ Pg0 E2) → (wp 68 14 [vr 79, vr 197, vi 0, vu] [] (E2, SS L 1 2 c3 c4 c5 c6) Q)) : wp 68 0 [vr 79, vr 197, vu, vu] [] (D, SS L 1 c2 c3 c4 c5 c6) Q := vc_wp [5] 200 _ _ _ _ _ _ (show wp 68 5 [vr 79, vr 197, vu, vu] [] (D, urf (SS L 1 c2 c3 c4 c5 c6).1 79 3 197, (SS L 1 c2 c3 c4 c5 c6).2) Q from sx_22 (fun S => wp 68 5 [vr 79, vr 197, vu, vu] [] (D, S) Q) (vc_wp [9] 200 _ _ _ _ _ _ (show wp 68 9 [vr 79, vr 197, vu, vu] [vr 197] (D, SS L 1 2 c3 c4 c5 c6) Q from vc_wp [] 200 _ _ _ _ _ _ (show wp 215 0 [vr 197, vu] [] (D, SS L 1 2 c3 c4 c5 c6) (aft wp 68 9 [vr 79, vr 197, vu, vu] [] Q) from s215 (fun E2 q3 => (show wp 68 12 [vr 79, vr 197, vu, vu] [] (E2, SS L 1 2 c3 c4 c5 c6) Q from vc_wp [14] 200 _ _ _ _ _ _ (show wp 68 14 [vr 79, vr 197, vi 0, vu] [] (E2, SS L 1 2 c3 c4 c5 c6) Q from (H E2 q3))))))))
theorem r68_14 {L c3 c4 c5 c6 : Nat} {K : TK} {D : Dt} {Q : Out → Wd → Prop} {c : Int} (H : ((c < D 59 1 → (∃ (ns1 : List Int), (SKp K (D 54) (D 55) (D 56) (D 57) (D 224) ∧ CS K ns1 (D 197 0) (D 60) ∧ c = ns1.length ∧ c < D 60 (-1) ∧ 0 ≤ D 60 c ∧ D 60 c + 2 < K.n ∧ K.n ≤ 4000) ∧ (((¬ (¬ clsT K ns1 (D 60 c) < 0 ∨ ns1.length = 24) ∧ ¬ clsT K ns1 (D 60 c + 2) < 0) → (((-2147483648) ≤ c + 1 ∧ c + 1 ≤ 2147483647) ∧ (wp 68 14 [vr 79, vr 197, vi (c + 1), vu] [] (up (up D 198 (8 + ns1.length) (clsT K ns1 (D 60 c + 2))) 197 0 (8 + ns1.length + 1), SS L 1 2 c3 c4 c5 c6) Q))) ∧ ((¬ clsT K ns1 (D 60 c) < 0 ∨ ns1.length = 24) → (Q (.inr 52) (up (up D 51 1 3) 51 2 (D 60 c), SS L 1 2 c3 c4 c5 c6))) ∧ ((¬ (¬ clsT K ns1 (D 60 c) < 0 ∨ ns1.length = 24) ∧ clsT K ns1 (D 60 c + 2) < 0) → (Q (.inr 52) (up (up D 51 1 3) 51 2 (D 60 c + 2), SS L 1 2 c3 c4 c5 c6)))))) ∧ (¬ (c < D 59 1) → (wp 68 43 [vr 79, vr 197, vi 0, vi 0] [] (D, SS L 1 2 c3 c4 c5 c6) Q)))) : wp 68 14 [vr 79, vr 197, vi c, vu] [] (D, SS L 1 2 c3 c4 c5 c6) Q := vc_wp [19] 200 _ _ _ _ _ _ (show wp 68 19 [vr 79, vr 197, vi c, vu] [vr 58, vi c] (D, SS L 1 2 c3 c4 c5 c6) Q from vc_wp [22] 200 _ _ _ _ _ _ (show wp 68 22 [vr 79, vr 197, vi c, vu] [vr 59, vi c] (D, SS L 1 2 c3 c4 c5 c6) Q from vc_wp [43] 200 _ _ _ _ _ _ (show ((c < D 59 1 → (wp 69 0 [vr 79, vi c, vu, vu] [] (D, SS L 1 2 c3 c4 c5 c6) (aft wp 68 30 [vr 79, vr 197, vi c, vu] [] Q))) ∧ (¬ (c < D 59 1) → (wp 68 43 [vr 79, vr 197, vi 0, vi 0] [] (D, SS L 1 2 c3 c4 c5 c6) Q))) from ⟨fun h7 => Exists.elim ((H.1 h7)) fun ns1 x2 => s69 ⟨ns1, x2.1, (fun q3 => (show wp 68 33 [vr 79, vr 197, vi c, vu] [] (up (up D 198 (8 + ns1.length) (clsT K ns1 (D 60 c + 2))) 197 0 (8 + ns1.length + 1), SS L 1 2 c3 c4 c5 c6) Q from vc_wp [36] 200 _ _ _ _ _ _ (show wp 68 36 [vr 79, vr 197, vi (w32 (c + 1)), vu] [] (up (up D 198 (8 + ns1.length) (clsT K ns1 (D 60 c + 2))) 197 0 (8 + ns1.length + 1), SS L 1 2 c3 c4 c5 c6) Q from w32_i (fun z4 : Int => wp 68 36 [vr 79, vr 197, vi z4, vu] [] (up (up D 198 (8 + ns1.length) (clsT K ns1 (D 60 c + 2))) 197 0 (8 + ns1.length + 1), SS L 1 2 c3 c4 c5 c6) Q) ((x2.2.1 q3)).1 (vc_wp [14] 200 _ _ _ _ _ _ (show wp 68 14 [vr 79, vr 197, vi (c + 1), vu] [] (up (up D 198 (8 + ns1.length) (clsT K ns1 (D 60 c + 2))) 197 0 (8 + ns1.length + 1), SS L 1 2 c3 c4 c5 c6) Q from ((x2.2.1 q3)).2))))), (fun q5 => (show Q (.inr 52) (up (up D 51 1 3) 51 2 (D 60 c), SS L 1 2 c3 c4 c5 c6) from (x2.2.2.1 q5))), (fun q6 => (show Q (.inr 52) (up (up D 51 1 3) 51 2 (D 60 c + 2), SS L 1 2 c3 c4 c5 c6) from (x2.2.2.2 q6)))⟩, fun h8 => (H.2 h8)⟩)))
theorem r68_43 {L c3 c4 c5 c6 : Nat} {K : TK} {D : Dt} {Q : Out → Wd → Prop} {m c : Int} (H : ((c < D 59 1 → (wp 68 57 [vr 79, vr 197, vi m, vi c] [] (D, SS L 1 2 c3 c4 c5 c6) Q)) ∧ (¬ (c < D 59 1) → (wp 68 96 [vr 79, vr 197, vu, vi 0] [] (D, SS L 1 2 c3 c4 c5 c6) Q)))) : wp 68 43 [vr 79, vr 197, vi m, vi c] [] (D, SS L 1 2 c3 c4 c5 c6) Q := vc_wp [48] 200 _ _ _ _ _ _ (show wp 68 48 [vr 79, vr 197, vi m, vi c] [vr 58, vi c] (D, SS L 1 2 c3 c4 c5 c6) Q from vc_wp [51] 200 _ _ _ _ _ _ (show wp 68 51 [vr 79, vr 197, vi m, vi c] [vr 59, vi c] (D, SS L 1 2 c3 c4 c5 c6) Q from vc_wp [57, 96] 200 _ _ _ _ _ _ (show ((c < D 59 1 → (wp 68 57 [vr 79, vr 197, vi m, vi c] [] (D, SS L 1 2 c3 c4 c5 c6) Q)) ∧ (¬ (c < D 59 1) → (wp 68 96 [vr 79, vr 197, vi m, vi 0] [] (D, SS L 1 2 c3 c4 c5 c6) Q))) from ⟨fun h1 => (H.1 h1), fun h2 => wp_d (Lle.k rfl (Lle.k rfl (Lle.v rfl (Lle.k rfl (Lle.nil))))) ((H.2 h2))⟩)))
theorem r68_57 {L c3 c4 c5 c6 : Nat} {K : TK} {D : Dt} {Q : Out → Wd → Prop} {m c : Int} (H : (0 ≤ c ∧ c < D 62 (-1)) ∧ ((m < D 62 c → (((-2147483648) ≤ 8 + c ∧ 8 + c ≤ 2147483647) ∧ (∃ (xr1 : List Int × List Int × XB), (SKp K (D 54) (D 55) (D 56) (D 57) (D 224) ∧ CS K xr1.1 (D 197 0) (D 60) ∧ (ABp (D 198) xr1.2.1 ∧ ABw xr1.2.1 ∧ xr1.2.1.length ≤ 24) ∧ 0 ≤ (8 + c) ∧ (8 + c) < 8 + xr1.2.1.length ∧ FdS K xr1.2.2 D ∧ BS K xr1.2.2 D ∧ FLn xr1.2.2 ∧ BLn xr1.2.2 ∧ BOK K xr1.2.2 ∧ SYN K D ∧ 0 ≤ m ∧ m < (mms K).length ∧ MG K (lf (mms K) m) ∧ K.n ≤ 4000) ∧ ((∀ (E3 : Dt), ((mst K xr1.1 xr1.2.1 xr1.2.2 (8 + c) (lf (mms K) m) m).1 = true ∧ FrL D E3 ∧ FdS K (mst K xr1.1 xr1.2.1 xr1.2.2 (8 + c) (lf (mms K) m) m).2.2 E3 ∧ BS K (mst K xr1.1 xr1.2.1 xr1.2.2 (8 + c) (lf (mms K) m) m).2.2 E3) → (((-2147483648) ≤ m + 1 ∧ m + 1 ≤ 2147483647) ∧ (wp 68 57 [vr 79, vr 197, vi (m + 1), vi c] [] (E3, SS L 1 2 c3 c4 c5 c6) Q))) ∧ (∀ (E6 : Dt), (¬ (mst K xr1.1 xr1.2.1 xr1.2.2 (8 + c) (lf (mms K) m) m).1 = true ∧ FrK D E6) → (Q (.inr 52) (up (up E6 51 1 3) 51 2 ((mst K xr1.1 xr1.2.1 xr1.2.2 (8 + c) (lf (mms K) m) m).2.1), SS L 1 2 c3 c4 c5 c6))))))) ∧ (¬ (m < D 62 c) → (((-2147483648) ≤ c + 1 ∧ c + 1 ≤ 2147483647) ∧ (wp 68 43 [vr 79, vr 197, vi m, vi (c + 1)] [] (D, SS L 1 2 c3 c4 c5 c6) Q))))) : wp 68 57 [vr 79, vr 197, vi m, vi c] [] (D, SS L 1 2 c3 c4 c5 c6) Q := vc_wp [62] 200 _ _ _ _ _ _ (show wp 68 62 [vr 79, vr 197, vi m, vi c] [vr 58, vi m] (D, SS L 1 2 c3 c4 c5 c6) Q from vc_wp [65] 200 _ _ _ _ _ _ (show wp 68 65 [vr 79, vr 197, vi m, vi c] [vr 61, vi m] (D, SS L 1 2 c3 c4 c5 c6) Q from vc_wp [68] 200 _ _ _ _ _ _ (show wp 68 68 [vr 79, vr 197, vi m, vi c] [vr 62, vi m] (D, SS L 1 2 c3 c4 c5 c6) Q from vc_wp [79, 91] 200 _ _ _ _ _ _ (show (0 ≤ c ∧ c < D 62 (-1)) ∧ ((m < D 62 c → (wp 68 79 [vr 79, vr 197, vi m, vi c] [vi (w32 (8 + c)), vi m, vr 79] (D, SS L 1 2 c3 c4 c5 c6) Q)) ∧ (¬ (m < D 62 c) → (wp 68 91 [vr 79, vr 197, vi m, vi (w32 (c + 1))] [] (D, SS L 1 2 c3 c4 c5 c6) Q))) from ⟨H.1, ⟨fun h10 => w32_i (fun z8 : Int => wp 68 79 [vr 79, vr 197, vi m, vi c] [vi z8, vi m, vr 79] (D, SS L 1 2 c3 c4 c5 c6) Q) ((H.2.1 h10)).1 (vc_wp [] 200 _ _ _ _ _ _ (show wp 73 0 [vr 79, vi m, vi (8 + c), vu] [] (D, SS L 1 2 c3 c4 c5 c6) (aft wp 68 79 [vr 79, vr 197, vi m, vi c] [] Q) from Exists.elim (((H.2.1 h10)).2) fun xr1 x2 => s73 ⟨xr1, x2.1, (fun E3 q4 => (show wp 68 82 [vr 79, vr 197, vi m, vi c] [] (E3, SS L 1 2 c3 c4 c5 c6) Q from vc_wp [85] 200 _ _ _ _ _ _ (show wp 68 85 [vr 79, vr 197, vi (w32 (m + 1)), vi c] [] (E3, SS L 1 2 c3 c4 c5 c6) Q from w32_i (fun z5 : Int => wp 68 85 [vr 79, vr 197, vi z5, vi c] [] (E3, SS L 1 2 c3 c4 c5 c6) Q) ((x2.2.1 E3 q4)).1 (vc_wp [57] 200 _ _ _ _ _ _ (show wp 68 57 [vr 79, vr 197, vi (m + 1), vi c] [] (E3, SS L 1 2 c3 c4 c5 c6) Q from ((x2.2.1 E3 q4)).2))))), (fun E6 q7 => (show Q (.inr 52) (up (up E6 51 1 3) 51 2 ((mst K xr1.1 xr1.2.1 xr1.2.2 (8 + c) (lf (mms K) m) m).2.1), SS L 1 2 c3 c4 c5 c6) from (x2.2.2 E6 q7)))⟩)), fun h11 => w32_i (fun z9 : Int => wp 68 91 [vr 79, vr 197, vi m, vi z9] [] (D, SS L 1 2 c3 c4 c5 c6) Q) ((H.2.2 h11)).1 (vc_wp [43] 200 _ _ _ _ _ _ (show wp 68 43 [vr 79, vr 197, vi m, vi (c + 1)] [] (D, SS L 1 2 c3 c4 c5 c6) Q from ((H.2.2 h11)).2))⟩⟩))))
theorem l68c {L c3 c4 c5 c6 : Nat} {D : Dt} {Q : Out → Wd → Prop} {K : TK} {ns ab : List Int} {c : Int} (hS : SKp K (D 54) (D 55) (D 56) (D 57) (D 224)) (hY : SYN K D) (hn : K.n ≤ 4000) (hC : CS K ns (D 197 0) (D 60)) (hA : ABp (D 198) ab ∧ ABw ab ∧ ab.length ≤ 24) (h8 : 0 ≤ c) (hc : c < ab.length) {r : Bool × Int × XB} (hg : ∀ t ∈ mms K, MG K t) {M : Int} (hM : D 62 c = M) (hr62 : c < D 62 (-1)) (Hz : ∀ E, (FrK D E ∧ r.1 = false) → Q (.inr 52) (up (up E 51 1 3) 51 2 r.2.1, SS L 1 2 c3 c4 c5 c6)) (Hk : ∀ E X, FrL D E → GI K ns ab X (8 + c) → FdS K X E → BS K X E → r = (true, 0, X) → wp 68 43 [vr 79, vr 197, vi M, vi (c + 1)] [] (E, SS L 1 2 c3 c4 c5 c6) Q) : ∀ (l : List Int) (m : Int) (E : Dt) (X : XB) (pre rest : List Int), FrL D E → GI K ns ab X (8 + c) → FdS K X E → BS K X E → mms K = pre ++ (l ++ rest) → (pre.length : Int) = m → M = m + l.length → M ≤ 4000 → r = mF1 K ns ab (8 + c) l m X → wp 68 57 [vr 79, vr 197, vi m, vi c] [] (E, SS L 1 2 c3 c4 c5 c6) Q := by
  intro l
  induction l with
  | nil =>
    intro m E X pre rest hf hG hF hB hmm hpm hMl hM4 hr
    have h62 : E 62 = D 62 := hf.1 62 (by omega) (by omega) (by omega) (by omega)
    refine r68_57 (K := K) ?_
    rw [h62, hM]
    have hMl : M = m + (0 : Nat) := hMl
    refine ⟨⟨h8, hr62⟩, fun g => by omega, fun _ => ⟨by omega, ?_⟩⟩
    rw [show m = M by omega]
    exact Hk E X hf hG hF hB hr
  | cons t l ih =>
    intro m E X pre rest hf hG hF hB hmm hpm hMl hM4 hr
    have h62 : E 62 = D 62 := hf.1 62 (by omega) (by omega) (by omega) (by omega)
    rw [List.length_cons] at hMl
    have hlm : lf (mms K) m = t := by rw [hmm]; exact lf_mid hpm
    have htm : MG K t := hg t (by rw [hmm]; exact List.mem_append_right _ (List.mem_append_left _ (List.mem_cons_self ..)))
    have hmn : 0 ≤ m ∧ m < (mms K).length ∧ lf (mms K) m = t := by
      refine ⟨by omega, ?_, hlm⟩
      rw [hmm, List.length_append, List.length_append, List.length_cons]
      omega
    have hS1 := sk_k hS hf.k
    have hC1 : CS K ns (E 197 0) (E 60) := by
      rw [hf.2 0 (by decide) (by decide), hf.1 60 (by omega) (by omega) (by omega) (by omega)]; exact hC
    have hA1 : ABp (E 198) ab := by
      rw [hf.1 198 (by omega) (by omega) (by omega) (by omega)]; exact hA.1
    have hY1 : SYN K E := by
      unfold SYN
      rw [hf.1 64 (by omega) (by omega) (by omega) (by omega), hf.1 66 (by omega) (by omega) (by omega) (by omega), hf.1 68 (by omega) (by omega) (by omega) (by omega), hf.1 70 (by omega) (by omega) (by omega) (by omega), hf.1 72 (by omega) (by omega) (by omega) (by omega)]
      exact hY
    refine r68_57 (K := K) ?_
    rw [h62, hM]
    have hl24 := hA.2.2
    refine ⟨⟨h8, hr62⟩, fun g => ⟨by omega, (ns, ab, X), ⟨hS1, hC1, ⟨hA1, hA.2⟩, by omega, by dsimp only; omega, hF, hB, hG.1.1, hG.1.2.1, hG.1.2.2.1, hY1, hmn.1, hmn.2.1, by rw [hlm]; exact htm, hn⟩, fun E' g1 => ⟨by omega, ?_⟩, fun E' g1 => ?_⟩, fun g => by omega⟩
    · dsimp only at g1
      rw [hlm] at g1
      have hr' : r = mF1 K ns ab (8 + c) l (m + 1) (mst K ns ab X (8 + c) t m).2.2 := hr.trans (cit_t g1.1)
      refine ih (m + 1) E' _ (pre ++ [t]) rest (hf.t g1.2.1) (hG.m hA.2.1 (by omega) (by omega) htm hmn g1.1) g1.2.2.1 g1.2.2.2 ?_ ?_ (by omega) hM4 hr'
      · rw [hmm, List.append_assoc]; rfl
      · rw [len_app]; omega
    · dsimp only at g1 ⊢
      rw [hlm] at g1 ⊢
      have hr' : r = mst K ns ab X (8 + c) t m := hr.trans (cit_f g1.1)
      rw [← hr'] at g1 ⊢
      refine Hz E' ⟨hf.k.t g1.2, ?_⟩
      cases e : r.1
      · rfl
      · exact absurd e g1.1
