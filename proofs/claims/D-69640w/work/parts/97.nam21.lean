/-! names: SafeCode's classes and members, the whole -/
set_option maxRecDepth 100000
theorem pls_len {K : TK} {st : Int → Prop} {f : Int → PR} (hf : Adv K f) : ∀ (N : Nat) (a b : Int), plp st f N a = (true, b) → ((pls st f N a).length : Int) ≤ b - a
  | 0, _, _, h => by cases h
  | N + 1, a, b, h => by
    have h5 := plp_ok hf _ _ _ h
    unfold plp at h
    rcases Classical.em (st a) with h1 | h1
    · rw [pls_st h1]
      show (0 : Int) ≤ _
      omega
    · rw [cit_f h1] at h
      rw [pls_go h1]
      obtain ⟨c, h2, h3⟩ := pb_t h
      have h4 := hf a c h2
      have := pls_len hf N c b h3
      rw [h2, List.length_cons]
      dsimp only
      omega
theorem cls_len {K : TK} {a e : Int} (h : pcls K a = (true, e)) : ((lmems K (a + 5)).length : Int) ≤ e - a := by
  have h0 := h
  unfold pcls at h
  obtain ⟨c1, g1, h⟩ := pb_t h
  obtain ⟨c2, g2, h⟩ := pb_t h
  obtain ⟨c3, g3, h⟩ := pb_t h
  obtain ⟨c4, g4, h⟩ := pb_t h
  obtain ⟨c5, g5, h⟩ := pb_t h
  obtain ⟨c6, g6, h⟩ := pb_t h
  have i1 := (pm_e g1).2
  have i2 := (pm_e g2).2
  have i3 := (pm_e g3).2
  have i4 := (pm_e g4).2
  have i5 := (pm_e g5).2
  have e5 : a + 5 = c5 := by omega
  have := pls_len (adv_mem K) _ _ _ g6
  have h : (true, c6 + 1) = (true, e) := h
  have h' : c6 + 1 = e := by cases h; rfl
  rw [e5]
  unfold lmems
  omega
theorem allM_len {K : TK} : ∀ (N : Nat) (a b : Int), plp (fun b => ¬ b < K.n) (pcls K) N a = (true, b) → ((allM K (pls (fun b => ¬ b < K.n) (pcls K) N a)).length : Int) ≤ b - a
  | 0, _, _, h => by cases h
  | N + 1, a, b, h => by
    have h5 := plp_ok (adv_cls K) _ _ _ h
    unfold plp at h
    rcases Classical.em (¬ a < K.n) with h1 | h1
    · rw [pls_st (st := fun b => ¬ b < K.n) h1]
      show (0 : Int) ≤ _
      omega
    · rw [cit_f h1] at h
      rw [pls_go (st := fun b => ¬ b < K.n) h1]
      obtain ⟨c, h2, h3⟩ := pb_t h
      have h4 := cls_len h2
      have := allM_len N c b h3
      rw [h2, allM_c, List.length_append]
      dsimp only
      omega
theorem mms_len {K : TK} (h : (pprog K).1 = true) (hn : 0 ≤ K.n) : ((mms K).length : Int) ≤ K.n := by
  have h1 := allM_len (K := K) _ 0 _ (PR_t h)
  have h2 := plp_ok (adv_cls K) _ _ _ (PR_t h)
  have h3 : ((mms K).length : Int) ≤ (pprog K).2 - 0 := h1
  by_cases e : 0 < (pprog K).2
  · have := h2.2.2 e
    have h4 : (pprog K).2 ≤ K.n := this
    omega
  · omega
theorem l68m {L c3 c4 c5 c6 : Nat} {D : Dt} {Q : Out → Wd → Prop} {K : TK} {ns ab : List Int} (hS : SKp K (D 54) (D 55) (D 56) (D 57) (D 224)) (hR : SR D (progX K)) (hp : (pprog K).1 = true) (hn : 0 ≤ K.n ∧ K.n ≤ 4000) (hC : CS K ns (D 197 0) (D 60)) (hA : ABp (D 198) ab ∧ ABw ab ∧ ab.length ≤ 24) (hln : (lcls K).length = ab.length) {r : Bool × Int × XB} (Hz : ∀ E, (FrK D E ∧ r.1 = false) → Q (.inr 52) (up (up E 51 1 3) 51 2 r.2.1, SS L 1 2 c3 c4 c5 c6)) (Hk : ∀ E X, FrL D E → GI K ns ab X (8 + ab.length) → FdS K X E → BS K X E → r = (true, 0, X) → wp 68 96 [vr 79, vr 197, vu, vi 0] [] (E, SS L 1 2 c3 c4 c5 c6) Q) : ∀ (l preC : List Int) (E : Dt) (X : XB), lcls K = preC ++ l → FrL D E → GI K ns ab X (8 + preC.length) → FdS K X E → BS K X E → r = mF2 K ns ab l (8 + preC.length) (allM K preC).length X → wp 68 43 [vr 79, vr 197, vi (allM K preC).length, vi preC.length] [] (E, SS L 1 2 c3 c4 c5 c6) Q := by
  obtain ⟨r1, r2, r3, r4, r5, r6, r7, r8, r9, r10⟩ := prog_r K
  have hY := syn_i hR
  obtain ⟨x59, x61, _⟩ := hR
  rw [r8] at x59
  rw [r9] at x61
  have hml := mms_len hp hn.1
  have hg := mms_good hp
  have z59 : D 59 1 = ab.length := by rw [x59.1, List.length_map, hln]
  intro l
  induction l with
  | nil =>
    intro preC E X hl hf hG hF hB hr
    have e1 : preC.length = ab.length := by rw [← hln, hl, List.append_nil]
    refine r68_43 (K := K) ?_
    rw [show E 59 = D 59 from hf.1 59 (by omega) (by omega) (by omega) (by omega), z59]
    exact ⟨fun g => by omega, fun _ => Hk E X hf (hG.c (by omega)) hF hB hr⟩
  | cons a l ih =>
    intro preC E X hl hf hG hF hB hr
    have e1 : preC.length + (l.length + 1) = ab.length := by rw [← hln, hl, List.length_append, List.length_cons]
    have hmm : mms K = allM K preC ++ (lmems K (a + 5) ++ allM K l) := by
      unfold mms
      rw [hl, allM_a, allM_c]
    have hml2 : ((allM K preC).length : Int) + (lmems K (a + 5)).length ≤ 4000 := by
      rw [hmm, List.length_append, List.length_append] at hml
      omega
    have h62 := lr_lf x61 (m := preC.length) (by omega) (by rw [cumm_len]; omega)
    rw [hl, cumm_at] at h62
    refine r68_43 (K := K) ?_
    rw [show E 59 = D 59 from hf.1 59 (by omega) (by omega) (by omega) (by omega), z59]
    refine ⟨fun _ => ?_, fun g => by omega⟩
    refine l68c (r := mF1 K ns ab (8 + preC.length) (lmems K (a + 5)) (allM K preC).length X) hS hY hn.2 hC hA (by omega) (by omega) hg h62.1 h62.2 (fun E' h => ?_) (fun E' X' hf' hG' hF' hB' hr' => ?_) (lmems K (a + 5)) (allM K preC).length E X (allM K preC) (allM K l) hf hG hF hB hmm rfl (by omega) (by omega) rfl
    · have hr2 : r = mF1 K ns ab (8 + preC.length) (lmems K (a + 5)) (allM K preC).length X := hr.trans (cit_f (by rw [h.2]; exact Bool.noConfusion))
      rw [hr2] at Hz
      exact Hz E' h
    · have hr2 : r = mF2 K ns ab l (8 + preC.length + 1) ((allM K preC).length + (lmems K (a + 5)).length) X' := by
        have := hr.trans (cit_t (by rw [hr']))
        rw [hr'] at this
        exact this
      have e3 : (allM K (preC ++ [a])).length = (allM K preC).length + (lmems K (a + 5)).length := by
        rw [allM_a, List.length_append]
        show _ + (lmems K (a + 5) ++ []).length = _
        rw [List.append_nil]
      have := ih (preC ++ [a]) E' X' (by rw [hl, List.append_assoc]; rfl) hf' (hG'.c (by rw [len_app]; omega)) hF' hB' ?_
      · rw [len_app, e3] at this
        rw [show (0 : Int) + ((allM K preC).length : Int) + ((lmems K (a + 5)).length : Int) = (((allM K preC).length + (lmems K (a + 5)).length : Nat) : Int) by omega, show (preC.length : Int) + 1 = ((preC.length + 1 : Nat) : Int) by omega]
        exact this
      · rw [hr2, len_app, e3, show (8 : Int) + (preC.length : Int) + 1 = 8 + ((preC.length + 1 : Nat) : Int) by omega, show ((allM K preC).length : Int) + ((lmems K (a + 5)).length : Int) = (((allM K preC).length + (lmems K (a + 5)).length : Nat) : Int) by omega]
theorem l68 {L c2 c3 c4 c5 c6 : Nat} {D : Dt} {Q : Out → Wd → Prop} {K : TK} (hS : SKp K (D 54) (D 55) (D 56) (D 57) (D 224)) (hR : SR D (progX K)) (hp : (pprog K).1 = true) (hn : 0 ≤ K.n ∧ K.n ≤ 4000) (ro : RowOK (D 83) (D 84) ∧ RowOK (D 85) (D 86)) (Hz1 : ∀ E, (FrK D E ∧ (pcn K (lcls K) [] []).1 = false) → Q (.inr 52) (up (up E 51 1 3) 51 2 (pcn K (lcls K) [] []).2.1, SS L 1 2 c3 c4 c5 c6)) (Hz2 : ∀ E, (FrK D E ∧ (pcn K (lcls K) [] []).1 = true ∧ (mF2 K (pcn K (lcls K) [] []).2.2.1 (pcn K (lcls K) [] []).2.2.2 (lcls K) 8 0 X0).1 = false) → Q (.inr 52) (up (up E 51 1 3) 51 2 (mF2 K (pcn K (lcls K) [] []).2.2.1 (pcn K (lcls K) [] []).2.2.2 (lcls K) 8 0 X0).2.1, SS L 1 2 c3 c4 c5 c6)) (Hk : ∀ E ns ab X, FrK D E → (pcn K (lcls K) [] []).1 = true → (pcn K (lcls K) [] []).2.2.1 = ns → (pcn K (lcls K) [] []).2.2.2 = ab → mF2 K ns ab (lcls K) 8 0 X0 = (true, 0, X) → CS K ns (E 197 0) (E 60) → ABp (E 198) ab → GI K ns ab X (8 + ab.length) → FdS K X E → BS K X E → LZ E → wp 68 96 [vr 79, vr 197, vu, vi 0] [] (E, SS L 1 2 c3 c4 c5 c6) Q) : wp 68 0 [vr 79, vr 197, vu, vu] [] (D, SS L 1 c2 c3 c4 c5 c6) Q := by
  have hR' := hR
  obtain ⟨r1, r2, r3, r4, r5, r6, r7, r8, r9, r10⟩ := prog_r K
  obtain ⟨x59, x61, _⟩ := hR
  rw [r8] at x59
  have hcg := cls_good hp
  have hL : ∀ (l preC ns ab : List Int) (E : Dt), lcls K = preC ++ l → FrK D E → CS K ns (E 197 0) (E 60) → ABp (E 198) ab → ns.length = preC.length → ab.length = preC.length → E 197 2 = 0 → E 197 7 = 0 → LZ E → pcn K (lcls K) [] [] = pcn K l ns ab → wp 68 14 [vr 79, vr 197, vi preC.length, vu] [] (E, SS L 1 2 c3 c4 c5 c6) Q := by
    intro l
    induction l with
    | nil =>
      intro preC ns ab E hl hf hC hA h1 h2 z2 z7 hz hr
      have e1 : preC.length = (lcls K).length := by rw [hl, List.append_nil]
      refine r68_14 (K := K) ?_
      rw [show E 59 = D 59 from hf 59 (by omega) (by omega), x59.1, List.length_map]
      refine ⟨fun g => by omega, fun _ => ?_⟩
      have hr : pcn K (lcls K) [] [] = (true, 0, ns, ab) := hr
      have ha := pcn_all (K := K) (by rw [hr])
      rw [hr] at Hz2 Hk ha
      dsimp only at Hz2 Hk ha
      have hR1 : SR E (progX K) := by
        unfold SR
        rw [hf 59 (by omega) (by omega), hf 60 (by omega) (by omega), hf 61 (by omega) (by omega), hf 62 (by omega) (by omega), hf 63 (by omega) (by omega), hf 64 (by omega) (by omega), hf 65 (by omega) (by omega), hf 66 (by omega) (by omega), hf 67 (by omega) (by omega), hf 68 (by omega) (by omega), hf 69 (by omega) (by omega), hf 70 (by omega) (by omega), hf 71 (by omega) (by omega), hf 72 (by omega) (by omega), hf 73 (by omega) (by omega), hf 74 (by omega) (by omega), hf 75 (by omega) (by omega), hf 76 (by omega) (by omega), hf 77 (by omega) (by omega), hf 78 (by omega) (by omega)]
        exact hR'
      have := l68m (r := mF2 K ns ab (lcls K) 8 0 X0) (Q := Q) (sk_k hS hf) hR1 hp hn hC ⟨hA, ha.2.2.1, by omega⟩ (by omega) (fun E' h => Hz2 E' ⟨hf.t h.1, rfl, h.2⟩) (fun E' X' hf' hG' hF' hB' hr' => ?_) (lcls K) [] E X0 rfl (FrL.r E) gi_0 ?_ ?_ rfl
      · exact this
      · refine Hk E' ns ab X' (hf.t hf'.k) rfl rfl rfl hr' ?_ ?_ hG' hF' hB' ?_
        · rw [hf'.2 0 (by decide) (by decide), hf'.1 60 (by omega) (by omega) (by omega) (by omega)]; exact hC
        · rw [hf'.1 198 (by omega) (by omega) (by omega) (by omega)]; exact hA
        · unfold LZ
          rw [hf'.2 17 (by decide) (by decide), hf'.2 24 (by decide) (by decide), hf'.2 26 (by decide) (by decide), hf'.2 31 (by decide) (by decide), hf'.1 218 (by omega) (by omega) (by omega) (by omega), hf'.1 83 (by omega) (by omega) (by omega) (by omega), hf'.1 84 (by omega) (by omega) (by omega) (by omega), hf'.1 85 (by omega) (by omega) (by omega) (by omega), hf'.1 86 (by omega) (by omega) (by omega) (by omega)]
          exact hz
      · exact ⟨⟨by rw [z2]; rfl, rfl, by decide, fun i i0 i1 => by have i1 : i < 0 := i1; omega⟩, fun i i0 i1 => by have i1 : i < 0 := i1; omega, fun i i0 i1 => by have i1 : i < 0 := i1; omega⟩
      · exact ⟨⟨by rw [z7]; rfl, rfl, by decide, fun i i0 i1 => by have i1 : i < 0 := i1; omega⟩, fun i i0 i1 => by have i1 : i < 0 := i1; omega, fun i i0 i1 => by have i1 : i < 0 := i1; omega, fun i i0 i1 => by have i1 : i < 0 := i1; omega, fun i i0 i1 => by have i1 : i < 0 := i1; omega, fun i i0 i1 => by have i1 : i < 0 := i1; omega, fun i i0 i1 => by have i1 : i < 0 := i1; omega, fun i k i0 i1 => by have i1 : i < 0 := i1; omega⟩
    | cons a l ih =>
      intro preC ns ab E hl hf hC hA h1 h2 z2 z7 hz hr
      have e1 : preC.length + (l.length + 1) = (lcls K).length := by rw [hl, List.length_append, List.length_cons]
      have h60 := lr_lf x59 (m := preC.length) (by omega) (by rw [List.length_map]; omega)
      have e60 : lf ((lcls K).map (fun a => a + 1)) preC.length = a + 1 := by
        rw [lf_map (by omega) (by omega), hl, lf_mid rfl]
      rw [e60] at h60
      have f60 : E 60 = D 60 := hf 60 (by omega) (by omega)
      have ha := hcg a (by rw [hl]; exact List.mem_append_right _ (List.mem_cons_self ..))
      have hcl := cls_lt (PR_t ha.2)
      have hS1 := sk_k hS hf
      have hc1 := hC.1
      have hc2 := hC.2.1
      refine r68_14 (K := K) ?_
      rw [show E 59 = D 59 from hf 59 (by omega) (by omega), x59.1, List.length_map, show E 60 (preC.length : Int) = a + 1 by rw [f60]; exact h60.1]
      refine ⟨fun _ => ⟨ns, ⟨hS1, hC, by omega, by rw [f60]; exact h60.2, by omega, by omega, hn.2⟩, fun g => ⟨by omega, ?_⟩, fun g => ?_, fun g => ?_⟩, fun g => by omega⟩
      · have e3 : a + 1 + 2 = a + 3 := by omega
        rw [e3] at g ⊢
        have hr' : pcn K (lcls K) [] [] = pcn K l (ns ++ [a + 1]) (ab ++ [clsT K ns (a + 3)]) := hr.trans ((cit_f g.1).trans (cit_f g.2))
        have hns24 : ¬ ns.length = 24 := fun x => g.1 (Or.inr x)
        have := ih (preC ++ [a]) (ns ++ [a + 1]) (ab ++ [clsT K ns (a + 3)]) (up (up E 198 (8 + ns.length) (clsT K ns (a + 3))) 197 0 (8 + ns.length + 1)) (by rw [hl, List.append_assoc]; rfl) ((hf.u (Or.inr ⟨by decide, by decide⟩)).u (Or.inr ⟨by decide, by decide⟩)) ⟨?_, ?_, ?_, ?_⟩ ?_ (by rw [len_app, len_app, h1]) (by rw [len_app, len_app, h2]) z2 z7 hz hr'
        · rw [len_app] at this
          exact this
        · rw [ub_s, len_app]; omega
        · rw [len_app]; omega
        · rw [len_app]
          show _ ≤ E 60 (-1)
          rw [f60]
          have h5 := x59.2.1.2.1
          rw [x59.1, List.length_map] at h5
          omega
        · refine NSp.a hC.2.2.2 ?_ (fun i hi => rfl) ⟨by omega, by omega⟩
          show E 60 (ns.length + 0) = a + 1
          rw [f60, Int.add_zero, h1]
          exact h60.1
        · refine ABp.a hA ?_ (fun i hi => ?_)
          · show up E 198 (8 + ns.length) _ 198 (8 + ab.length) = _
            rw [h1, ← h2, ub_s]
          · show up E 198 (8 + ns.length) _ 198 i = _
            rw [ub_n (by omega)]
      · have hr' : pcn K (lcls K) [] [] = (false, a + 1, ns, ab) := hr.trans (cit_t g)
        rw [hr'] at Hz1
        exact Hz1 E ⟨hf, rfl⟩
      · have e3 : a + 1 + 2 = a + 3 := by omega
        rw [e3] at g ⊢
        have hr' : pcn K (lcls K) [] [] = (false, a + 3, ns, ab) := hr.trans ((cit_f g.1).trans (cit_t g.2))
        rw [hr'] at Hz1
        exact Hz1 E ⟨hf, rfl⟩
  refine r68_0 (K := K) fun E hE => ?_
  obtain ⟨hfg, p1, p2, p3, p4, p5, p6, p7, p8, p9⟩ := hE
  have hf := hfg.k
  rw [← hfg 83 (by omega), ← hfg 84 (by omega), ← hfg 85 (by omega), ← hfg 86 (by omega)] at ro
  have f60 : E 60 = D 60 := hf 60 (by omega) (by omega)
  have := hL (lcls K) [] [] [] E rfl hf ⟨p1, by decide, ?_, fun i hi => by cases hi⟩ p8 rfl rfl p2 p3 ⟨ro, p4, p5, p6, p7, p9⟩ rfl
  · exact this
  · rw [f60]
    have := x59.2.1.2.2
    show ((0 : Nat) : Int) ≤ _
    omega
