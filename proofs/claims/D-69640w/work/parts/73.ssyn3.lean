/-! SafeCode's syntax: bodies and members -/
set_option maxRecDepth 100000
def Frs (D D' : Dt) : Prop := ∀ b, ¬ (58 ≤ b ∧ b ≤ 78) → D' b = D b
/-- the end of a reading that writes rows -/
def RY (D : Dt) (S : Sx) (Q : Out → Wd → Prop) (x : PR) (X : Nat → List Int) : Prop := (x.1 = true → ∀ D', Frs D D' → D' 58 2 = x.2 → SR D' X → Q (.inl []) (D', S)) ∧ (¬ x.1 = true → ∀ D', Frs D D' → R1 D' → Q (.inr 52) (up (up D' 51 1 2) 51 2 x.2, S))
theorem Frs.t {D D1 D2 : Dt} (h : Frs D D1) (h2 : Frs D1 D2) : Frs D D2 := fun b hb => (h2 b hb).trans (h b hb)
theorem RY.m {D D1 : Dt} {S : Sx} {Q : Out → Wd → Prop} {x : PR} {X : Nat → List Int} (h : RY D S Q x X) (hf : Frs D D1) : RY D1 S Q x X := ⟨fun e D' h1 h2 h3 => h.1 e D' (hf.t h1) h2 h3, fun e D' h1 h2 => h.2 e D' (hf.t h1) h2⟩
theorem RY.y {D D' : Dt} {S : Sx} {Q : Out → Wd → Prop} {x : PR} {X : Nat → List Int} (h : RY D S Q x X) (e : x = (true, D' 58 2)) (hf : Frs D D') (hs : SR D' X) : Q (.inl []) (D', S) := h.1 (by rw [e]) D' hf (by rw [e]) hs
theorem RY.z {D D' : Dt} {S : Sx} {Q : Out → Wd → Prop} {x : PR} {X : Nat → List Int} {b : Int} (h : RY D S Q x X) (e : x = (false, b)) (hf : Frs D D') (hs : R1 D') : Q (.inr 52) (up (up D' 51 1 2) 51 2 b, S) := by
  have := h.2 (by rw [e]; exact Bool.noConfusion) D' hf hs
  rw [e] at this
  exact this
theorem RY.e {D : Dt} {S : Sx} {Q : Out → Wd → Prop} {x x' : PR} {X X' : Nat → List Int} (h : RY D S Q x X) (e : x = x') (e2 : x.1 = true → X = X') : RY D S Q x' X' := by
  subst e
  exact ⟨fun g D' h1 h2 h3 => h.1 g D' h1 h2 (by rw [e2 g]; exact h3), h.2⟩
theorem frs_ov (D : Dt) (G : Nat → Int → Int) : Frs D (ov D 58 78 G) := fun b hb => ov_o hb
theorem sk_f {K : TK} {D D' : Dt} (h : SKp K (D 54) (D 55) (D 56) (D 57) (D 224)) (hf : Frs D D') : SKp K (D' 54) (D' 55) (D' 56) (D' 57) (D' 224) := by
  rw [hf 54 (by omega), hf 55 (by omega), hf 56 (by omega), hf 57 (by omega), hf 224 (by omega)]
  exact h
/-- one more number in a row -/
def xad (X : Nat → List Int) (p : Nat) (v : Int) : Nat → List Int := fun q => bif Nat.beq q p then X p ++ [v] else X q
theorem XL.a {X : Nat → List Int} {a b : Int} {p : Nat} {v : Int} (h : XL X a) (hb : a + 1 ≤ b) : XL (xad X p v) b := by
  intro q
  show (((bif Nat.beq q p then X p ++ [v] else X q) : List Int).length : Int) ≤ b
  cases Nat.beq q p with
  | true =>
    have := h p
    show ((X p ++ [v]).length : Int) ≤ b
    rw [List.length_append]
    show (((X p).length + 1 : Nat) : Int) ≤ b
    omega
  | false => have := h q; show ((X q).length : Int) ≤ b; omega
theorem XL.le {X : Nat → List Int} {a b : Int} (h : XL X a) (hb : a ≤ b) : XL X b := fun q => by have := h q; omega
theorem XL.ln {K : TK} {X : Nat → List Int} {a b c : Int} (h : XL X a) (hb : a + 1 ≤ b) : XL (lnX K c X) b := by
  intro q
  unfold lnX
  have h1 : ∀ p (v : Int), ((X p ++ [v]).length : Int) ≤ b := fun p v => by
    have := h p
    rw [List.length_append]
    show (((X p).length + 1 : Nat) : Int) ≤ b
    omega
  cases Nat.beq q 73 with
  | true => exact h1 73 _
  | false =>
    cases Nat.beq q 75 with
    | true => exact h1 75 _
    | false =>
      cases Nat.beq q 77 with
      | true => exact h1 77 _
      | false => have := h q; show ((X q).length : Int) ≤ b; omega
noncomputable def lnsX (K : TK) (l : List Int) (X : Nat → List Int) : Nat → List Int := l.foldl (fun X a => lnX K a X) X
theorem pls_st {st : Int → Prop} {f : Int → PR} {N : Nat} {a : Int} (h : st a) : pls st f (N + 1) a = [] := cit_t h
theorem pls_go {st : Int → Prop} {f : Int → PR} {N : Nat} {a : Int} (h : ¬ st a) : pls st f (N + 1) a = a :: pls st f N (f a).2 := cit_f h
theorem r64_0 {L c2 c3 c4 c5 c6 : Nat} {K : TK} {D : Dt} {Q : Out → Wd → Prop} (H : (SKp K (D 54) (D 55) (D 56) (D 57) (D 224) ∧ 0 ≤ (D 58 2)) ∧ (((SKp K (D 54) (D 55) (D 56) (D 57) (D 224) ∧ 0 ≤ D 58 2 ∧ D 58 2 ≤ 20000) ∧ ((((K.w (D 58 2) 12) ∧ D 58 2 < K.n) → (wp 64 19 [vr 58, vi 0] [] (up D 58 2 (D 58 2 + 1), SS L 1 c2 c3 c4 c5 c6) Q)) ∧ ((¬ ((K.w (D 58 2) 12) ∧ D 58 2 < K.n)) → (Q (.inr 52) (up (up D 51 1 2) 51 2 (D 58 2), SS L 1 c2 c3 c4 c5 c6))))))) : wp 64 0 [vr 58, vu] [] (D, SS L 1 c2 c3 c4 c5 c6) Q := vc_wp [5] 200 _ _ _ _ _ _ (show wp 64 5 [vr 58, vu] [vr 53, vr 58] (D, SS L 1 c2 c3 c4 c5 c6) Q from vc_wp [] 200 _ _ _ _ _ _ (show wp 37 0 [vr 53, vi (D 58 2), vr 12] [] (D, SS L 1 c2 c3 c4 c5 c6) (aft wp 64 11 [vr 58, vu] [vr 58] Q) from k37s12 ⟨H.1, (show wp 64 14 [vr 58, vu] [vi (ib (K.w (D 58 2) 12)), vr 58] (D, SS L 1 c2 c3 c4 c5 c6) Q from vc_wp [] 200 _ _ _ _ _ _ (show wp 62 0 [vr 58, vi (ib (K.w (D 58 2) 12))] [] (D, SS L 1 c2 c3 c4 c5 c6) (aft wp 64 14 [vr 58, vu] [] Q) from b62 ⟨H.2.1, (fun q4 => (show wp 64 17 [vr 58, vu] [] (up D 58 2 (D 58 2 + 1), SS L 1 c2 c3 c4 c5 c6) Q from vc_wp [19] 200 _ _ _ _ _ _ (show wp 64 19 [vr 58, vi 0] [] (up D 58 2 (D 58 2 + 1), SS L 1 c2 c3 c4 c5 c6) Q from (H.2.2.1 q4)))), (fun q5 => (show Q (.inr 52) (up (up D 51 1 2) 51 2 (D 58 2), SS L 1 c2 c3 c4 c5 c6) from (H.2.2.2 q5)))⟩))⟩))
theorem r64_19 {L c2 c3 c4 c5 c6 : Nat} {K : TK} {D : Dt} {Q : Out → Wd → Prop} {m : Int} (H : (SKp K (D 54) (D 55) (D 56) (D 57) (D 224) ∧ 0 ≤ (D 58 2)) ∧ ((((K.w (D 58 2) 13 → (((-2147483648) ≤ (D 58 2) + 1 ∧ (D 58 2) + 1 ≤ 2147483647) ∧ ((RowOK (D 67) (D 68) ∧ D 67 1 ≤ 4096) ∧ ((∀ (z10 : Int → Int) (r11 : Int → Int), (AddP (D 67) (D 68) z10 r11 m) → ((SKp K (D 54) (D 55) (D 56) (D 57) (D 224) ∧ 0 ≤ ((D 58 2) + 1)) ∧ ((((K.w ((D 58 2) + 1) 14 → (wp 64 105 [vr 58, vu] [vr 58] (sp (sp (up D 58 2 ((D 58 2) + 1)) 67 z10) 68 r11, SS L 1 c2 c3 c4 c5 c6) Q)) ∧ (¬ (K.w ((D 58 2) + 1) 14) → ((SKp K (D 54) (D 55) (D 56) (D 57) (D 224) ∧ 0 ≤ ((D 58 2) + 1)) ∧ ((((K.ty ((D 58 2) + 1) → (wp 64 105 [vr 58, vu] [vr 58] (sp (sp (up D 58 2 ((D 58 2) + 1)) 67 z10) 68 r11, SS L 1 c2 c3 c4 c5 c6) Q)) ∧ (¬ (K.ty ((D 58 2) + 1)) → (Q (.inr 52) (up (up (sp (sp (up D 58 2 ((D 58 2) + 1)) 67 z10) 68 r11) 51 1 2) 51 2 ((D 58 2) + 1), SS L 1 c2 c3 c4 c5 c6))))))))))))))))) ∧ (¬ (K.w (D 58 2) 13) → ((SKp K (D 54) (D 55) (D 56) (D 57) (D 224) ∧ 0 ≤ (D 58 2)) ∧ (((SKp K (D 54) (D 55) (D 56) (D 57) (D 224) ∧ 0 ≤ D 58 2 ∧ D 58 2 ≤ 20000) ∧ ((((K.ty (D 58 2)) ∧ D 58 2 < K.n) → (((-2147483648) ≤ m + 1 ∧ m + 1 ≤ 2147483647) ∧ (wp 64 19 [vr 58, vi (m + 1)] [] (up D 58 2 (D 58 2 + 1), SS L 1 c2 c3 c4 c5 c6) Q))) ∧ ((¬ ((K.ty (D 58 2)) ∧ D 58 2 < K.n)) → (Q (.inr 52) (up (up D 51 1 2) 51 2 (D 58 2), SS L 1 c2 c3 c4 c5 c6)))))))))))) : wp 64 19 [vr 58, vi m] [] (D, SS L 1 c2 c3 c4 c5 c6) Q := vc_wp [23] 200 _ _ _ _ _ _ (show wp 64 23 [vr 58, vi m] [vr 53] (D, SS L 1 c2 c3 c4 c5 c6) Q from vc_wp [] 200 _ _ _ _ _ _ (show wp 37 0 [vr 53, vi (D 58 2), vr 13] [] (D, SS L 1 c2 c3 c4 c5 c6) (aft wp 64 29 [vr 58, vi m] [] Q) from k37s13 ⟨H.1, (show wp 64 32 [vr 58, vi m] [vi (ib (K.w (D 58 2) 13))] (D, SS L 1 c2 c3 c4 c5 c6) Q from vc_wp [40, 63] 200 _ _ _ _ _ _ (show ((ib (K.w (D 58 2) 13) = 0 → (wp 64 40 [vr 58, vi m] [vr 53, vr 58] (D, SS L 1 c2 c3 c4 c5 c6) Q)) ∧ (¬ (ib (K.w (D 58 2) 13) = 0) → (wp 64 63 [vr 58, vi m] [vi (w32 ((D 58 2) + 1)), vr 58] (D, SS L 1 c2 c3 c4 c5 c6) Q))) from ⟨fun h24 => vc_wp [] 200 _ _ _ _ _ _ (show wp 42 0 [vr 53, vi (D 58 2)] [] (D, SS L 1 c2 c3 c4 c5 c6) (aft wp 64 44 [vr 58, vi m] [vr 58] Q) from k42 ⟨(H.2.2 ((ib_z).mp h24)).1, (show wp 64 47 [vr 58, vi m] [vi (ib (K.ty (D 58 2))), vr 58] (D, SS L 1 c2 c3 c4 c5 c6) Q from vc_wp [] 200 _ _ _ _ _ _ (show wp 62 0 [vr 58, vi (ib (K.ty (D 58 2)))] [] (D, SS L 1 c2 c3 c4 c5 c6) (aft wp 64 47 [vr 58, vi m] [] Q) from b62 ⟨(H.2.2 ((ib_z).mp h24)).2.1, (fun q6 => (show wp 64 50 [vr 58, vi m] [] (up D 58 2 (D 58 2 + 1), SS L 1 c2 c3 c4 c5 c6) Q from vc_wp [53] 200 _ _ _ _ _ _ (show wp 64 53 [vr 58, vi (w32 (m + 1))] [] (up D 58 2 (D 58 2 + 1), SS L 1 c2 c3 c4 c5 c6) Q from w32_i (fun z7 : Int => wp 64 53 [vr 58, vi z7] [] (up D 58 2 (D 58 2 + 1), SS L 1 c2 c3 c4 c5 c6) Q) (((H.2.2 ((ib_z).mp h24)).2.2.1 q6)).1 (vc_wp [19] 200 _ _ _ _ _ _ (show wp 64 19 [vr 58, vi (m + 1)] [] (up D 58 2 (D 58 2 + 1), SS L 1 c2 c3 c4 c5 c6) Q from (((H.2.2 ((ib_z).mp h24)).2.2.1 q6)).2))))), (fun q8 => (show Q (.inr 52) (up (up D 51 1 2) 51 2 (D 58 2), SS L 1 c2 c3 c4 c5 c6) from ((H.2.2 ((ib_z).mp h24)).2.2.2 q8)))⟩))⟩), fun h25 => w32_i (fun z23 : Int => wp 64 63 [vr 58, vi m] [vi z23, vr 58] (D, SS L 1 c2 c3 c4 c5 c6) Q) ((H.2.1 (Classical.not_not.mp (mt (ib_z).mpr h25)))).1 (vc_wp [66] 200 _ _ _ _ _ _ (show wp 64 66 [vr 58, vi m] [] (up D 58 2 ((D 58 2) + 1), SS L 1 c2 c3 c4 c5 c6) Q from vc_wp [70] 200 _ _ _ _ _ _ (show wp 64 70 [vr 58, vi m] [vr 67] (up D 58 2 ((D 58 2) + 1), SS L 1 c2 c3 c4 c5 c6) Q from vc_wp [] 200 _ _ _ _ _ _ (show wp 58 0 [vr 67, vi m] [] (up D 58 2 ((D 58 2) + 1), SS L 1 c2 c3 c4 c5 c6) (aft wp 64 71 [vr 58, vi m] [] Q) from s58a67 ⟨((H.2.1 (Classical.not_not.mp (mt (ib_z).mpr h25)))).2.1, (fun z10 r11 q12 => (show wp 64 74 [vr 58, vi m] [] (sp (sp (up D 58 2 ((D 58 2) + 1)) 67 z10) 68 r11, SS L 1 c2 c3 c4 c5 c6) Q from vc_wp [79] 200 _ _ _ _ _ _ (show wp 64 79 [vr 58, vi m] [vr 53, vr 58] (sp (sp (up D 58 2 ((D 58 2) + 1)) 67 z10) 68 r11, SS L 1 c2 c3 c4 c5 c6) Q from vc_wp [] 200 _ _ _ _ _ _ (show wp 37 0 [vr 53, vi ((D 58 2) + 1), vr 14] [] (sp (sp (up D 58 2 ((D 58 2) + 1)) 67 z10) 68 r11, SS L 1 c2 c3 c4 c5 c6) (aft wp 64 85 [vr 58, vi m] [vr 58] Q) from k37s14 ⟨(((H.2.1 (Classical.not_not.mp (mt (ib_z).mpr h25)))).2.2 z10 r11 q12).1, (show wp 64 88 [vr 58, vi m] [vi (ib (K.w ((D 58 2) + 1) 14)), vr 58] (sp (sp (up D 58 2 ((D 58 2) + 1)) 67 z10) 68 r11, SS L 1 c2 c3 c4 c5 c6) Q from vc_wp [95, 105] 200 _ _ _ _ _ _ (show ((ib (K.w ((D 58 2) + 1) 14) = 0 → (wp 64 95 [vr 58, vi m] [vr 53, vr 58] (sp (sp (up D 58 2 ((D 58 2) + 1)) 67 z10) 68 r11, SS L 1 c2 c3 c4 c5 c6) Q)) ∧ (¬ (ib (K.w ((D 58 2) + 1) 14) = 0) → (wp 64 105 [vr 58, vi m] [vr 58] (sp (sp (up D 58 2 ((D 58 2) + 1)) 67 z10) 68 r11, SS L 1 c2 c3 c4 c5 c6) Q))) from ⟨fun h21 => vc_wp [] 200 _ _ _ _ _ _ (show wp 42 0 [vr 53, vi ((D 58 2) + 1)] [] (sp (sp (up D 58 2 ((D 58 2) + 1)) 67 z10) 68 r11, SS L 1 c2 c3 c4 c5 c6) (aft wp 64 99 [vr 58, vi m] [vr 58] Q) from k42 ⟨((((H.2.1 (Classical.not_not.mp (mt (ib_z).mpr h25)))).2.2 z10 r11 q12).2.2 ((ib_z).mp h21)).1, (show wp 64 102 [vr 58, vi m] [vi (ib (K.ty ((D 58 2) + 1))), vr 58] (sp (sp (up D 58 2 ((D 58 2) + 1)) 67 z10) 68 r11, SS L 1 c2 c3 c4 c5 c6) Q from vc_wp [105] 200 _ _ _ _ _ _ (show ((ib (K.ty ((D 58 2) + 1)) = 0 → (wp 62 0 [vr 58, vi 0] [] (sp (sp (up D 58 2 ((D 58 2) + 1)) 67 z10) 68 r11, SS L 1 c2 c3 c4 c5 c6) (aft wp 64 110 [vr 58, vi m] [] Q))) ∧ (¬ (ib (K.ty ((D 58 2) + 1)) = 0) → (wp 64 105 [vr 58, vi m] [vr 58] (sp (sp (up D 58 2 ((D 58 2) + 1)) 67 z10) 68 r11, SS L 1 c2 c3 c4 c5 c6) Q))) from ⟨fun h19 => n62 (show Q (.inr 52) (up (up (sp (sp (up D 58 2 ((D 58 2) + 1)) 67 z10) 68 r11) 51 1 2) 51 2 ((D 58 2) + 1), SS L 1 c2 c3 c4 c5 c6) from (((((H.2.1 (Classical.not_not.mp (mt (ib_z).mpr h25)))).2.2 z10 r11 q12).2.2 ((ib_z).mp h21)).2.2 ((ib_z).mp h19))), fun h20 => wp_d (Lle.k rfl (Lle.v rfl (Lle.nil))) ((((((H.2.1 (Classical.not_not.mp (mt (ib_z).mpr h25)))).2.2 z10 r11 q12).2.2 ((ib_z).mp h21)).2.1 (Classical.not_not.mp (mt (ib_z).mpr h20))))⟩))⟩), fun h22 => wp_d (Lle.k rfl (Lle.v rfl (Lle.nil))) (((((H.2.1 (Classical.not_not.mp (mt (ib_z).mpr h25)))).2.2 z10 r11 q12).2.1 (Classical.not_not.mp (mt (ib_z).mpr h22))))⟩))⟩))))⟩))))⟩))⟩))
theorem r64_105 {L c2 c3 c4 c5 c6 : Nat} {K : TK} {D : Dt} {Q : Out → Wd → Prop} (H : (SKp K (D 54) (D 55) (D 56) (D 57) (D 224) ∧ 0 ≤ D 58 2 ∧ D 58 2 ≤ 20000) ∧ (((D 58 2 < K.n) → ((SKp K (D 54) (D 55) (D 56) (D 57) (D 224) ∧ 0 ≤ (D 58 2 + 1)) ∧ (((SKp K (D 54) (D 55) (D 56) (D 57) (D 224) ∧ 0 ≤ D 58 2 + 1 ∧ D 58 2 + 1 ≤ 20000) ∧ ((((K.num (D 58 2 + 1)) ∧ D 58 2 + 1 < K.n) → ((SKp K (D 54) (D 55) (D 56) (D 57) (D 224) ∧ 0 ≤ (D 58 2 + 1 + 1)) ∧ (((SKp K (D 54) (D 55) (D 56) (D 57) (D 224) ∧ 0 ≤ D 58 2 + 1 + 1 ∧ D 58 2 + 1 + 1 ≤ 20000) ∧ ((((K.w (D 58 2 + 1 + 1) 7) ∧ D 58 2 + 1 + 1 < K.n) → (wp 64 145 [vr 58, vu] [] (up D 58 2 (D 58 2 + 1 + 1 + 1), SS L 1 c2 c3 c4 c5 c6) Q)) ∧ ((¬ ((K.w (D 58 2 + 1 + 1) 7) ∧ D 58 2 + 1 + 1 < K.n)) → (Q (.inr 52) (up (up (up D 58 2 (D 58 2 + 1 + 1)) 51 1 2) 51 2 (D 58 2 + 1 + 1), SS L 1 c2 c3 c4 c5 c6)))))))) ∧ ((¬ ((K.num (D 58 2 + 1)) ∧ D 58 2 + 1 < K.n)) → (Q (.inr 52) (up (up (up D 58 2 (D 58 2 + 1)) 51 1 2) 51 2 (D 58 2 + 1), SS L 1 c2 c3 c4 c5 c6)))))))) ∧ ((¬ D 58 2 < K.n) → (Q (.inr 52) (up (up D 51 1 2) 51 2 (D 58 2), SS L 1 c2 c3 c4 c5 c6))))) : wp 64 105 [vr 58, vu] [vr 58] (D, SS L 1 c2 c3 c4 c5 c6) Q := vc_wp [] 200 _ _ _ _ _ _ (show wp 62 0 [vr 58, vi 1] [] (D, SS L 1 c2 c3 c4 c5 c6) (aft wp 64 110 [vr 58, vu] [] Q) from y62 ⟨H.1, (fun q2 => (show wp 64 113 [vr 58, vu] [] (up D 58 2 (D 58 2 + 1), SS L 1 c2 c3 c4 c5 c6) Q from vc_wp [118] 200 _ _ _ _ _ _ (show wp 64 118 [vr 58, vu] [vr 53, vr 58] (up D 58 2 (D 58 2 + 1), SS L 1 c2 c3 c4 c5 c6) Q from vc_wp [] 200 _ _ _ _ _ _ (show wp 46 0 [vr 53, vi (D 58 2 + 1), vu, vu, vu, vu] [] (up D 58 2 (D 58 2 + 1), SS L 1 c2 c3 c4 c5 c6) (aft wp 64 122 [vr 58, vu] [vr 58] Q) from k46 ⟨(H.2.1 q2).1, (show wp 64 125 [vr 58, vu] [vi (ib (K.num (D 58 2 + 1))), vr 58] (up D 58 2 (D 58 2 + 1), SS L 1 c2 c3 c4 c5 c6) Q from vc_wp [] 200 _ _ _ _ _ _ (show wp 62 0 [vr 58, vi (ib (K.num (D 58 2 + 1)))] [] (up D 58 2 (D 58 2 + 1), SS L 1 c2 c3 c4 c5 c6) (aft wp 64 125 [vr 58, vu] [] Q) from b62 ⟨(H.2.1 q2).2.1, (fun q6 => (show wp 64 128 [vr 58, vu] [] (up (up D 58 2 (D 58 2 + 1)) 58 2 (D 58 2 + 1 + 1), SS L 1 c2 c3 c4 c5 c6) Q from uu_i (fun Dz => wp 64 128 [vr 58, vu] [] (Dz, SS L 1 c2 c3 c4 c5 c6) Q) (vc_wp [133] 200 _ _ _ _ _ _ (show wp 64 133 [vr 58, vu] [vr 53, vr 58] (up D 58 2 (D 58 2 + 1 + 1), SS L 1 c2 c3 c4 c5 c6) Q from vc_wp [] 200 _ _ _ _ _ _ (show wp 37 0 [vr 53, vi (D 58 2 + 1 + 1), vr 7] [] (up D 58 2 (D 58 2 + 1 + 1), SS L 1 c2 c3 c4 c5 c6) (aft wp 64 139 [vr 58, vu] [vr 58] Q) from k37s7 ⟨((H.2.1 q2).2.2.1 q6).1, (show wp 64 142 [vr 58, vu] [vi (ib (K.w (D 58 2 + 1 + 1) 7)), vr 58] (up D 58 2 (D 58 2 + 1 + 1), SS L 1 c2 c3 c4 c5 c6) Q from vc_wp [] 200 _ _ _ _ _ _ (show wp 62 0 [vr 58, vi (ib (K.w (D 58 2 + 1 + 1) 7))] [] (up D 58 2 (D 58 2 + 1 + 1), SS L 1 c2 c3 c4 c5 c6) (aft wp 64 142 [vr 58, vu] [] Q) from b62 ⟨((H.2.1 q2).2.2.1 q6).2.1, (fun q10 => (show wp 64 145 [vr 58, vu] [] (up (up D 58 2 (D 58 2 + 1 + 1)) 58 2 (D 58 2 + 1 + 1 + 1), SS L 1 c2 c3 c4 c5 c6) Q from uu_i (fun Dz => wp 64 145 [vr 58, vu] [] (Dz, SS L 1 c2 c3 c4 c5 c6) Q) ((((H.2.1 q2).2.2.1 q6).2.2.1 q10)))), (fun q11 => (show Q (.inr 52) (up (up (up D 58 2 (D 58 2 + 1 + 1)) 51 1 2) 51 2 (D 58 2 + 1 + 1), SS L 1 c2 c3 c4 c5 c6) from (((H.2.1 q2).2.2.1 q6).2.2.2 q11)))⟩))⟩))))), (fun q12 => (show Q (.inr 52) (up (up (up D 58 2 (D 58 2 + 1)) 51 1 2) 51 2 (D 58 2 + 1), SS L 1 c2 c3 c4 c5 c6) from ((H.2.1 q2).2.2.2 q12)))⟩))⟩)))), (fun q13 => (show Q (.inr 52) (up (up D 51 1 2) 51 2 (D 58 2), SS L 1 c2 c3 c4 c5 c6) from (H.2.2 q13)))⟩)
theorem r64_145 {L c2 c3 c4 c5 c6 : Nat} {K : TK} {D : Dt} {Q : Out → Wd → Prop} (H : (SKp K (D 54) (D 55) (D 56) (D 57) (D 224) ∧ 0 ≤ (D 58 2)) ∧ ((((K.w (D 58 2) 8 → ((RowOK (D 71) (D 72) ∧ D 71 1 ≤ 4096) ∧ ((∀ (z10 : Int → Int) (r11 : Int → Int), (AddP (D 71) (D 72) z10 r11 (D 58 2)) → (((-2147483648) ≤ (D 58 2) + 1 ∧ (D 58 2) + 1 ≤ 2147483647) ∧ (Q (.inl []) (up (sp (sp D 71 z10) 72 r11) 58 2 ((D 58 2) + 1), SS L 1 c2 c3 c4 c5 c6))))))) ∧ (¬ (K.w (D 58 2) 8) → (∃ (X3 : Nat → List Int), (SKp K (D 54) (D 55) (D 56) (D 57) (D 224) ∧ 0 ≤ D 58 2 ∧ D 58 2 ≤ K.n ∧ K.n ≤ 4000 ∧ SR D X3 ∧ XL X3 (D 58 2)) ∧ ((∀ (G5 : Nat → Int → Int), ((pline K (D 58 2)).1 = true ∧ G5 58 2 = (pline K (D 58 2)).2 ∧ SR G5 (lnX K (D 58 2) X3)) → (wp 64 145 [vr 58, vu] [] (ov D 58 78 G5, SS L 1 c2 c3 c4 c5 c6) Q)) ∧ (∀ (G7 : Nat → Int → Int), (¬ (pline K (D 58 2)).1 = true ∧ R1 G7) → (Q (.inr 52) (up (up (ov D 58 78 G7) 51 1 2) 51 2 ((pline K (D 58 2)).2), SS L 1 c2 c3 c4 c5 c6)))))))))) : wp 64 145 [vr 58, vu] [] (D, SS L 1 c2 c3 c4 c5 c6) Q := vc_wp [149] 200 _ _ _ _ _ _ (show wp 64 149 [vr 58, vu] [vr 53] (D, SS L 1 c2 c3 c4 c5 c6) Q from vc_wp [] 200 _ _ _ _ _ _ (show wp 37 0 [vr 53, vi (D 58 2), vr 8] [] (D, SS L 1 c2 c3 c4 c5 c6) (aft wp 64 155 [vr 58, vu] [] Q) from k37s8 ⟨H.1, (show wp 64 158 [vr 58, vu] [vi (ib (K.w (D 58 2) 8))] (D, SS L 1 c2 c3 c4 c5 c6) Q from vc_wp [172] 200 _ _ _ _ _ _ (show ((ib (K.w (D 58 2) 8) = 0 → (wp 65 0 [vr 58, vu, vu] [] (D, SS L 1 c2 c3 c4 c5 c6) (aft wp 64 162 [vr 58, vu] [] Q))) ∧ (¬ (ib (K.w (D 58 2) 8) = 0) → (wp 64 172 [vr 58, vu] [vr 71] (D, SS L 1 c2 c3 c4 c5 c6) Q))) from ⟨fun h14 => Exists.elim ((H.2.2 ((ib_z).mp h14))) fun X3 x4 => s65 ⟨X3, x4.1, (fun G5 q6 => (show wp 64 165 [vr 58, vu] [] (ov D 58 78 G5, SS L 1 c2 c3 c4 c5 c6) Q from vc_wp [145] 200 _ _ _ _ _ _ (show wp 64 145 [vr 58, vu] [] (ov D 58 78 G5, SS L 1 c2 c3 c4 c5 c6) Q from (x4.2.1 G5 q6)))), (fun G7 q8 => (show Q (.inr 52) (up (up (ov D 58 78 G7) 51 1 2) 51 2 ((pline K (D 58 2)).2), SS L 1 c2 c3 c4 c5 c6) from (x4.2.2 G7 q8)))⟩, fun h15 => vc_wp [] 200 _ _ _ _ _ _ (show wp 58 0 [vr 71, vi (D 58 2)] [] (D, SS L 1 c2 c3 c4 c5 c6) (aft wp 64 176 [vr 58, vu] [] Q) from s58a71 ⟨(H.2.1 (Classical.not_not.mp (mt (ib_z).mpr h15))).1, (fun z10 r11 q12 => (show wp 64 179 [vr 58, vu] [] (sp (sp D 71 z10) 72 r11, SS L 1 c2 c3 c4 c5 c6) Q from vc_wp [186] 200 _ _ _ _ _ _ (show wp 64 186 [vr 58, vu] [vi (w32 ((D 58 2) + 1)), vr 58] (sp (sp D 71 z10) 72 r11, SS L 1 c2 c3 c4 c5 c6) Q from w32_i (fun z13 : Int => wp 64 186 [vr 58, vu] [vi z13, vr 58] (sp (sp D 71 z10) 72 r11, SS L 1 c2 c3 c4 c5 c6) Q) (((H.2.1 (Classical.not_not.mp (mt (ib_z).mpr h15))).2 z10 r11 q12)).1 (vc_wp [189] 200 _ _ _ _ _ _ (show wp 64 189 [vr 58, vu] [] (up (sp (sp D 71 z10) 72 r11) 58 2 ((D 58 2) + 1), SS L 1 c2 c3 c4 c5 c6) Q from vc_wp [] 200 _ _ _ _ _ _ (show Q (.inl []) (up (sp (sp D 71 z10) 72 r11) 58 2 ((D 58 2) + 1), SS L 1 c2 c3 c4 c5 c6) from (((H.2.1 (Classical.not_not.mp (mt (ib_z).mpr h15))).2 z10 r11 q12)).2))))))⟩)⟩))⟩))
theorem xad_s {X : Nat → List Int} {p : Nat} {v : Int} : xad X p v p = X p ++ [v] := by
  show (bif Nat.beq p p then X p ++ [v] else X p) = _
  rw [Nat.beq_refl]; rfl
theorem l64b {L c2 c3 c4 c5 c6 : Nat} {D : Dt} {Q : Out → Wd → Prop} {K : TK} (hn : K.n ≤ 4000) : ∀ (N : Nat) (a : Int) (D1 : Dt) (X : Nat → List Int), (K.n - a).toNat < N → 0 ≤ a → a ≤ K.n → SKp K (D 54) (D 55) (D 56) (D 57) (D 224) → Frs D D1 → D1 58 2 = a → SR D1 X → XL X a → RY D (SS L 1 c2 c3 c4 c5 c6) Q (pb (plp (fun b => K.w b 8) (pline K) N a) fun b => (true, b + 1)) (xad (lnsX K (pls (fun b => K.w b 8) (pline K) N a) X) 71 (plp (fun b => K.w b 8) (pline K) N a).2) → wp 64 145 [vr 58, vu] [] (D1, SS L 1 c2 c3 c4 c5 c6) Q := by
  intro N
  induction N with
  | zero => intro a _ _ h; omega
  | succ N ih =>
    intro a D1 X hN h0 h1 hS hf ha hX hL H
    have hS1 := sk_f hS hf
    refine r64_145 (K := K) ?_
    rw [ha]
    refine ⟨⟨hS1, h0⟩, fun h8 => ?_, fun h8 => ⟨X, ⟨hS1, h0, h1, hn, hX, hL⟩, fun G hG => ?_, fun G hG => ?_⟩⟩
    · have hXr := hX
      obtain ⟨x59, x61, x63, x65, x67, x69, x71, x73, x75, x77⟩ := hX
      have l71 := hL 71
      rw [← x71.1] at l71
      rw [plp_st (st := fun b => K.w b 8) h8, pls_st (st := fun b => K.w b 8) h8] at H
      refine ⟨⟨x71.2.1, by omega⟩, fun z r ha71 => ⟨by omega, ?_⟩⟩
      refine H.y ?_ (hf.t fun b hb => ?_) ⟨x59, x61, x63, x65, x67, x69, x71.add ha71, x73, x75, x77⟩
      · rfl
      · rw [ub_a (by omega), sp_a (by omega), sp_a (by omega)]
    · have e := PR_t hG.1
      have h2 := adv_line K _ _ e
      refine ih _ (ov D1 58 78 G) (lnX K a X) (fu_lt (adv_line K) hN e) (by omega) (by omega) hS (hf.t (frs_ov D1 G)) hG.2.1 hG.2.2 (hL.ln (by omega)) ?_
      rw [plp_go (st := fun b => K.w b 8) h8 e, pls_go (st := fun b => K.w b 8) h8] at H
      exact H
    · refine H.z ?_ (hf.t (frs_ov D1 G)) hG.2
      rw [plp_no (st := fun b => K.w b 8) h8 (PR_f hG.1)]; rfl
/-- what follows the types, with the rows -/
noncomputable def bdX2 (K : TK) (b : Int) (X : Nat → List Int) : Nat → List Int := xad (lnsX K (llines K (b + 4)) X) 71 (plines K (b + 4)).2
theorem l64c {L c2 c3 c4 c5 c6 : Nat} {D : Dt} {Q : Out → Wd → Prop} {K : TK} (hn : K.n ≤ 4000) {a : Int} {D1 : Dt} {X : Nat → List Int} (h0 : 0 ≤ a) (hlt : a < K.n) (hS : SKp K (D 54) (D 55) (D 56) (D 57) (D 224)) (hf : Frs D D1) (ha : D1 58 2 = a + 1) (hX : SR D1 X) (hL : XL X (a + 1)) (hty : K.w (a + 1) 14 ∨ K.ty (a + 1)) (H : RY D (SS L 1 c2 c3 c4 c5 c6) Q (pbody2 K a) (bdX2 K a X)) : wp 64 105 [vr 58, vu] [vr 58] (D1, SS L 1 c2 c3 c4 c5 c6) Q := by
  have hS1 := sk_f hS hf
  have hl1 : a + 1 < K.n := hty.elim w_lt fun x => x.1
  unfold pbody2 at H
  rw [pm_t hty] at H
  replace H : RY D (SS L 1 c2 c3 c4 c5 c6) Q (pb (pm (K.num (a + 1 + 1)) (a + 1 + 1)) fun b => pb (pm (K.w b 7) b) fun b => pb (plines K b) fun b => (true, b + 1)) (bdX2 K a X) := H
  refine r64_105 (K := K) ?_
  rw [ha]
  refine ⟨⟨hS1, by omega, by omega⟩, fun _ => ⟨⟨hS1, by omega⟩, ⟨hS1, by omega, by omega⟩, fun g1 => ⟨⟨hS1, by omega⟩, ⟨hS1, by omega, by omega⟩, fun g2 => ?_, fun g2 => ?_⟩, fun g1 => ?_⟩, fun y => absurd hl1 y⟩
  · rw [pm_t g1.1] at H
    replace H : RY D (SS L 1 c2 c3 c4 c5 c6) Q (pb (pm (K.w (a + 1 + 1 + 1) 7) (a + 1 + 1 + 1)) fun b => pb (plines K b) fun b => (true, b + 1)) (bdX2 K a X) := H
    rw [pm_t g2.1] at H
    have e4 : a + 1 + 1 + 1 + 1 = a + 4 := by omega
    have hl4 := w_lt g2.1
    refine l64b (D := D) hn (fu K (a + 4)) (a + 4) _ X (by unfold fu; omega) (by omega) (by omega) hS (hf.t fun b hb => by rw [ub_a (by omega)]) ?_ hX (hL.le (by omega)) ?_
    · rw [ub_s]; omega
    · rw [e4] at H
      exact H
  · rw [pm_t g1.1] at H
    refine H.z ?_ (hf.t fun b hb => by rw [ub_a (by omega)]) (SR.r1 (X := X) hX)
    show pb (pm _ _) _ = _
    rw [pm_f (fun x => g2 ⟨x, x.1⟩)]; rfl
  · refine H.z ?_ (hf.t fun b hb => by rw [ub_a (by omega)]) (SR.r1 (X := X) hX)
    rw [pm_f (fun x => g1 ⟨x, x.1⟩)]; rfl
