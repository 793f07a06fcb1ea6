/-! the tokens, apart from where they lie -/
set_option maxRecDepth 100000
def TK : Type := (Int → Int) × (Int → Int) × (Int → Int) × Int
def TK.tx : TK → Int → Int := fun (K : (Int → Int) × (Int → Int) × (Int → Int) × Int) => K.1
def TK.tf : TK → Int → Int := fun (K : (Int → Int) × (Int → Int) × (Int → Int) × Int) => K.2.1
def TK.tt : TK → Int → Int := fun (K : (Int → Int) × (Int → Int) × (Int → Int) × Int) => K.2.2.1
def TK.n : TK → Int := fun (K : (Int → Int) × (Int → Int) × (Int → Int) × Int) => K.2.2.2
def TK.w (K : TK) (t : Int) (s : Nat) : Prop := isW K.tx K.tf K.tt K.n t (sbt s) (sbt s).length
def TK.sn (K : TK) (t : Int) : Prop := isSN K.tx K.tf K.tt K.n t
def TK.cn (K : TK) (t : Int) : Prop := isCN K.tx K.tf K.tt K.n t
def TK.ty (K : TK) (t : Int) : Prop := isTY K.tx K.tf K.tt K.n t
def TK.num (K : TK) (t : Int) : Prop := isNUM K.tx K.tf K.tt K.n t
def TK.ref (K : TK) (t : Int) : Prop := t < K.n ∧ refP K.tx (K.tf t) (K.tt t)
noncomputable def TK.op (K : TK) (t : Int) : Int := widx K.tx (K.tf t) (K.tt t) opW 0
def TK.val (K : TK) (t : Int) : Int := valF K.tx (K.tf t) (K.tt t)
def TK.same (K : TK) (t u : Int) : Prop := sameP K.tx (K.tf t) (K.tt t) (K.tf u) (K.tt u)
/-- SafeCode's tokens are K -/
def SKp (K : TK) (z f zt t tx : Int → Int) : Prop := TokOK z f zt t ∧ tx = K.tx ∧ z 1 = K.n ∧ ∀ j, 0 ≤ j → j < K.n → f j = K.tf j ∧ t j = K.tt j
/-- the model's tokens are K -/
def MKp (K : TK) (z : Int) (f t tx : Int → Int) : Prop := TokM (fun _ => z) f t ∧ tx = K.tx ∧ z = K.n ∧ ∀ j, 0 ≤ j → j < K.n → f j = K.tf j ∧ t j = K.tt j
section Cg
variable {tx f t f' t' : Int → Int} {n n' i : Int}
theorem c_w {s : List Int} {k : Int} (hn : n = n') (he : i < n' → f i = f' i ∧ t i = t' i) : isW tx f t n i s k ↔ isW tx f' t' n' i s k := by
  subst hn
  unfold isW
  constructor
  · rintro ⟨h1, h2⟩; rw [(he h1).1, (he h1).2] at h2; exact ⟨h1, h2⟩
  · rintro ⟨h1, h2⟩; rw [← (he h1).1, ← (he h1).2] at h2; exact ⟨h1, h2⟩
theorem c_sn (hn : n = n') (he : i < n' → f i = f' i ∧ t i = t' i) : isSN tx f t n i ↔ isSN tx f' t' n' i := by
  subst hn
  unfold isSN
  constructor
  · rintro ⟨h1, h2⟩; rw [(he h1).1, (he h1).2] at h2; exact ⟨h1, h2⟩
  · rintro ⟨h1, h2⟩; rw [← (he h1).1, ← (he h1).2] at h2; exact ⟨h1, h2⟩
theorem c_cn (hn : n = n') (he : i < n' → f i = f' i ∧ t i = t' i) : isCN tx f t n i ↔ isCN tx f' t' n' i := by
  subst hn
  unfold isCN
  constructor
  · rintro ⟨h1, h2⟩; rw [(he h1).1, (he h1).2] at h2; exact ⟨h1, h2⟩
  · rintro ⟨h1, h2⟩; rw [← (he h1).1, ← (he h1).2] at h2; exact ⟨h1, h2⟩
theorem c_arr (he : f i = f' i ∧ t i = t' i) : arrW tx f t i ↔ arrW tx f' t' i := by
  unfold arrW; rw [he.1, he.2]
theorem c_be (he : f i = f' i ∧ t i = t' i) : bEnd tx f t i = bEnd tx f' t' i := by
  unfold bEnd; rw [he.2, ib_c (c_arr he)]
theorem c_ib (he : f i = f' i ∧ t i = t' i) : intB tx f t i ↔ intB tx f' t' i := by
  unfold intB; rw [he.1, c_be he]
theorem c_ty (hn : n = n') (he : i < n' → f i = f' i ∧ t i = t' i) : isTY tx f t n i ↔ isTY tx f' t' n' i := by
  subst hn
  unfold isTY
  constructor
  · rintro ⟨h1, h2⟩; rw [(he h1).1, c_be (he h1), propext (c_ib (he h1))] at h2; exact ⟨h1, h2⟩
  · rintro ⟨h1, h2⟩; rw [← (he h1).1, ← c_be (he h1), ← propext (c_ib (he h1))] at h2; exact ⟨h1, h2⟩
theorem c_num (hn : n = n') (he : i < n' → f i = f' i ∧ t i = t' i) : isNUM tx f t n i ↔ isNUM tx f' t' n' i := by
  subst hn
  unfold isNUM
  constructor
  · rintro ⟨h1, h2⟩; rw [(he h1).1, (he h1).2] at h2; exact ⟨h1, h2⟩
  · rintro ⟨h1, h2⟩; rw [← (he h1).1, ← (he h1).2] at h2; exact ⟨h1, h2⟩
end Cg
/-! SafeCode's questions about tokens, by K -/
theorem k37s2 {L c2 c3 c4 c5 c6 : Nat} {D : Dt} {Q : Out → Wd → Prop} {K : TK} {t : Int} (H : (SKp K (D 54) (D 55) (D 56) (D 57) (D 224) ∧ 0 ≤ t) ∧ Q (.inl [vi (ib (K.w t 14))]) (D, SS L 1 c2 c3 c4 c5 c6)) : wp 37 0 [vr 53, vi t, vr 2] [] (D, SS L 1 c2 c3 c4 c5 c6) Q := by
  obtain ⟨⟨⟨h1, h2, h3, h4⟩, h0⟩, H⟩ := H
  exact s37s2 ⟨⟨h1, h0⟩, q_i H (ib_c (by rw [h2]; exact (c_w h3 (fun h => h4 t h0 h)).symm))⟩
theorem k37s3 {L c2 c3 c4 c5 c6 : Nat} {D : Dt} {Q : Out → Wd → Prop} {K : TK} {t : Int} (H : (SKp K (D 54) (D 55) (D 56) (D 57) (D 224) ∧ 0 ≤ t) ∧ Q (.inl [vi (ib (K.w t 3))]) (D, SS L 1 c2 c3 c4 c5 c6)) : wp 37 0 [vr 53, vi t, vr 3] [] (D, SS L 1 c2 c3 c4 c5 c6) Q := by
  obtain ⟨⟨⟨h1, h2, h3, h4⟩, h0⟩, H⟩ := H
  exact s37s3 ⟨⟨h1, h0⟩, q_i H (ib_c (by rw [h2]; exact (c_w h3 (fun h => h4 t h0 h)).symm))⟩
theorem k37s4 {L c2 c3 c4 c5 c6 : Nat} {D : Dt} {Q : Out → Wd → Prop} {K : TK} {t : Int} (H : (SKp K (D 54) (D 55) (D 56) (D 57) (D 224) ∧ 0 ≤ t) ∧ Q (.inl [vi (ib (K.w t 4))]) (D, SS L 1 c2 c3 c4 c5 c6)) : wp 37 0 [vr 53, vi t, vr 4] [] (D, SS L 1 c2 c3 c4 c5 c6) Q := by
  obtain ⟨⟨⟨h1, h2, h3, h4⟩, h0⟩, H⟩ := H
  exact s37s4 ⟨⟨h1, h0⟩, q_i H (ib_c (by rw [h2]; exact (c_w h3 (fun h => h4 t h0 h)).symm))⟩
theorem k37s5 {L c2 c3 c4 c5 c6 : Nat} {D : Dt} {Q : Out → Wd → Prop} {K : TK} {t : Int} (H : (SKp K (D 54) (D 55) (D 56) (D 57) (D 224) ∧ 0 ≤ t) ∧ Q (.inl [vi (ib (K.w t 5))]) (D, SS L 1 c2 c3 c4 c5 c6)) : wp 37 0 [vr 53, vi t, vr 5] [] (D, SS L 1 c2 c3 c4 c5 c6) Q := by
  obtain ⟨⟨⟨h1, h2, h3, h4⟩, h0⟩, H⟩ := H
  exact s37s5 ⟨⟨h1, h0⟩, q_i H (ib_c (by rw [h2]; exact (c_w h3 (fun h => h4 t h0 h)).symm))⟩
theorem k37s6 {L c2 c3 c4 c5 c6 : Nat} {D : Dt} {Q : Out → Wd → Prop} {K : TK} {t : Int} (H : (SKp K (D 54) (D 55) (D 56) (D 57) (D 224) ∧ 0 ≤ t) ∧ Q (.inl [vi (ib (K.w t 6))]) (D, SS L 1 c2 c3 c4 c5 c6)) : wp 37 0 [vr 53, vi t, vr 6] [] (D, SS L 1 c2 c3 c4 c5 c6) Q := by
  obtain ⟨⟨⟨h1, h2, h3, h4⟩, h0⟩, H⟩ := H
  exact s37s6 ⟨⟨h1, h0⟩, q_i H (ib_c (by rw [h2]; exact (c_w h3 (fun h => h4 t h0 h)).symm))⟩
theorem k37s7 {L c2 c3 c4 c5 c6 : Nat} {D : Dt} {Q : Out → Wd → Prop} {K : TK} {t : Int} (H : (SKp K (D 54) (D 55) (D 56) (D 57) (D 224) ∧ 0 ≤ t) ∧ Q (.inl [vi (ib (K.w t 7))]) (D, SS L 1 c2 c3 c4 c5 c6)) : wp 37 0 [vr 53, vi t, vr 7] [] (D, SS L 1 c2 c3 c4 c5 c6) Q := by
  obtain ⟨⟨⟨h1, h2, h3, h4⟩, h0⟩, H⟩ := H
  exact s37s7 ⟨⟨h1, h0⟩, q_i H (ib_c (by rw [h2]; exact (c_w h3 (fun h => h4 t h0 h)).symm))⟩
theorem k37s8 {L c2 c3 c4 c5 c6 : Nat} {D : Dt} {Q : Out → Wd → Prop} {K : TK} {t : Int} (H : (SKp K (D 54) (D 55) (D 56) (D 57) (D 224) ∧ 0 ≤ t) ∧ Q (.inl [vi (ib (K.w t 8))]) (D, SS L 1 c2 c3 c4 c5 c6)) : wp 37 0 [vr 53, vi t, vr 8] [] (D, SS L 1 c2 c3 c4 c5 c6) Q := by
  obtain ⟨⟨⟨h1, h2, h3, h4⟩, h0⟩, H⟩ := H
  exact s37s8 ⟨⟨h1, h0⟩, q_i H (ib_c (by rw [h2]; exact (c_w h3 (fun h => h4 t h0 h)).symm))⟩
theorem k37s9 {L c2 c3 c4 c5 c6 : Nat} {D : Dt} {Q : Out → Wd → Prop} {K : TK} {t : Int} (H : (SKp K (D 54) (D 55) (D 56) (D 57) (D 224) ∧ 0 ≤ t) ∧ Q (.inl [vi (ib (K.w t 9))]) (D, SS L 1 c2 c3 c4 c5 c6)) : wp 37 0 [vr 53, vi t, vr 9] [] (D, SS L 1 c2 c3 c4 c5 c6) Q := by
  obtain ⟨⟨⟨h1, h2, h3, h4⟩, h0⟩, H⟩ := H
  exact s37s9 ⟨⟨h1, h0⟩, q_i H (ib_c (by rw [h2]; exact (c_w h3 (fun h => h4 t h0 h)).symm))⟩
theorem k37s10 {L c2 c3 c4 c5 c6 : Nat} {D : Dt} {Q : Out → Wd → Prop} {K : TK} {t : Int} (H : (SKp K (D 54) (D 55) (D 56) (D 57) (D 224) ∧ 0 ≤ t) ∧ Q (.inl [vi (ib (K.w t 10))]) (D, SS L 1 c2 c3 c4 c5 c6)) : wp 37 0 [vr 53, vi t, vr 10] [] (D, SS L 1 c2 c3 c4 c5 c6) Q := by
  obtain ⟨⟨⟨h1, h2, h3, h4⟩, h0⟩, H⟩ := H
  exact s37s10 ⟨⟨h1, h0⟩, q_i H (ib_c (by rw [h2]; exact (c_w h3 (fun h => h4 t h0 h)).symm))⟩
theorem k37s11 {L c2 c3 c4 c5 c6 : Nat} {D : Dt} {Q : Out → Wd → Prop} {K : TK} {t : Int} (H : (SKp K (D 54) (D 55) (D 56) (D 57) (D 224) ∧ 0 ≤ t) ∧ Q (.inl [vi (ib (K.w t 11))]) (D, SS L 1 c2 c3 c4 c5 c6)) : wp 37 0 [vr 53, vi t, vr 11] [] (D, SS L 1 c2 c3 c4 c5 c6) Q := by
  obtain ⟨⟨⟨h1, h2, h3, h4⟩, h0⟩, H⟩ := H
  exact s37s11 ⟨⟨h1, h0⟩, q_i H (ib_c (by rw [h2]; exact (c_w h3 (fun h => h4 t h0 h)).symm))⟩
theorem k37s12 {L c2 c3 c4 c5 c6 : Nat} {D : Dt} {Q : Out → Wd → Prop} {K : TK} {t : Int} (H : (SKp K (D 54) (D 55) (D 56) (D 57) (D 224) ∧ 0 ≤ t) ∧ Q (.inl [vi (ib (K.w t 12))]) (D, SS L 1 c2 c3 c4 c5 c6)) : wp 37 0 [vr 53, vi t, vr 12] [] (D, SS L 1 c2 c3 c4 c5 c6) Q := by
  obtain ⟨⟨⟨h1, h2, h3, h4⟩, h0⟩, H⟩ := H
  exact s37s12 ⟨⟨h1, h0⟩, q_i H (ib_c (by rw [h2]; exact (c_w h3 (fun h => h4 t h0 h)).symm))⟩
theorem k37s13 {L c2 c3 c4 c5 c6 : Nat} {D : Dt} {Q : Out → Wd → Prop} {K : TK} {t : Int} (H : (SKp K (D 54) (D 55) (D 56) (D 57) (D 224) ∧ 0 ≤ t) ∧ Q (.inl [vi (ib (K.w t 13))]) (D, SS L 1 c2 c3 c4 c5 c6)) : wp 37 0 [vr 53, vi t, vr 13] [] (D, SS L 1 c2 c3 c4 c5 c6) Q := by
  obtain ⟨⟨⟨h1, h2, h3, h4⟩, h0⟩, H⟩ := H
  exact s37s13 ⟨⟨h1, h0⟩, q_i H (ib_c (by rw [h2]; exact (c_w h3 (fun h => h4 t h0 h)).symm))⟩
theorem k37s14 {L c2 c3 c4 c5 c6 : Nat} {D : Dt} {Q : Out → Wd → Prop} {K : TK} {t : Int} (H : (SKp K (D 54) (D 55) (D 56) (D 57) (D 224) ∧ 0 ≤ t) ∧ Q (.inl [vi (ib (K.w t 14))]) (D, SS L 1 c2 c3 c4 c5 c6)) : wp 37 0 [vr 53, vi t, vr 14] [] (D, SS L 1 c2 c3 c4 c5 c6) Q := by
  obtain ⟨⟨⟨h1, h2, h3, h4⟩, h0⟩, H⟩ := H
  exact s37s14 ⟨⟨h1, h0⟩, q_i H (ib_c (by rw [h2]; exact (c_w h3 (fun h => h4 t h0 h)).symm))⟩
theorem k37s15 {L c2 c3 c4 c5 c6 : Nat} {D : Dt} {Q : Out → Wd → Prop} {K : TK} {t : Int} (H : (SKp K (D 54) (D 55) (D 56) (D 57) (D 224) ∧ 0 ≤ t) ∧ Q (.inl [vi (ib (K.w t 15))]) (D, SS L 1 c2 c3 c4 c5 c6)) : wp 37 0 [vr 53, vi t, vr 15] [] (D, SS L 1 c2 c3 c4 c5 c6) Q := by
  obtain ⟨⟨⟨h1, h2, h3, h4⟩, h0⟩, H⟩ := H
  exact s37s15 ⟨⟨h1, h0⟩, q_i H (ib_c (by rw [h2]; exact (c_w h3 (fun h => h4 t h0 h)).symm))⟩
theorem k37s16 {L c2 c3 c4 c5 c6 : Nat} {D : Dt} {Q : Out → Wd → Prop} {K : TK} {t : Int} (H : (SKp K (D 54) (D 55) (D 56) (D 57) (D 224) ∧ 0 ≤ t) ∧ Q (.inl [vi (ib (K.w t 16))]) (D, SS L 1 c2 c3 c4 c5 c6)) : wp 37 0 [vr 53, vi t, vr 16] [] (D, SS L 1 c2 c3 c4 c5 c6) Q := by
  obtain ⟨⟨⟨h1, h2, h3, h4⟩, h0⟩, H⟩ := H
  exact s37s16 ⟨⟨h1, h0⟩, q_i H (ib_c (by rw [h2]; exact (c_w h3 (fun h => h4 t h0 h)).symm))⟩
theorem k37s18 {L c2 c3 c4 c5 c6 : Nat} {D : Dt} {Q : Out → Wd → Prop} {K : TK} {t : Int} (H : (SKp K (D 54) (D 55) (D 56) (D 57) (D 224) ∧ 0 ≤ t) ∧ Q (.inl [vi (ib (K.w t 18))]) (D, SS L 1 c2 c3 c4 c5 c6)) : wp 37 0 [vr 53, vi t, vr 18] [] (D, SS L 1 c2 c3 c4 c5 c6) Q := by
  obtain ⟨⟨⟨h1, h2, h3, h4⟩, h0⟩, H⟩ := H
  exact s37s18 ⟨⟨h1, h0⟩, q_i H (ib_c (by rw [h2]; exact (c_w h3 (fun h => h4 t h0 h)).symm))⟩
theorem k41 {L c2 c3 c4 c5 c6 : Nat} {D : Dt} {Q : Out → Wd → Prop} {K : TK} {t : Int} (H : (SKp K (D 54) (D 55) (D 56) (D 57) (D 224) ∧ 0 ≤ t) ∧ Q (.inl [vi (ib (K.sn t))]) (D, SS L 1 c2 c3 c4 c5 c6)) : wp 41 0 [vr 53, vi t] [] (D, SS L 1 c2 c3 c4 c5 c6) Q := by
  obtain ⟨⟨⟨h1, h2, h3, h4⟩, h0⟩, H⟩ := H
  exact s41 ⟨⟨h1, h0⟩, q_i H (ib_c (by rw [h2]; exact (c_sn h3 (fun h => h4 t h0 h)).symm))⟩
theorem k39 {L c2 c3 c4 c5 c6 : Nat} {D : Dt} {Q : Out → Wd → Prop} {K : TK} {t : Int} (H : (SKp K (D 54) (D 55) (D 56) (D 57) (D 224) ∧ 0 ≤ t) ∧ Q (.inl [vi (ib (K.cn t))]) (D, SS L 1 c2 c3 c4 c5 c6)) : wp 39 0 [vr 53, vi t] [] (D, SS L 1 c2 c3 c4 c5 c6) Q := by
  obtain ⟨⟨⟨h1, h2, h3, h4⟩, h0⟩, H⟩ := H
  exact s39 ⟨⟨h1, h0⟩, q_i H (ib_c (by rw [h2]; exact (c_cn h3 (fun h => h4 t h0 h)).symm))⟩
theorem k42 {L c2 c3 c4 c5 c6 : Nat} {D : Dt} {Q : Out → Wd → Prop} {K : TK} {t : Int} (H : (SKp K (D 54) (D 55) (D 56) (D 57) (D 224) ∧ 0 ≤ t) ∧ Q (.inl [vi (ib (K.ty t))]) (D, SS L 1 c2 c3 c4 c5 c6)) : wp 42 0 [vr 53, vi t] [] (D, SS L 1 c2 c3 c4 c5 c6) Q := by
  obtain ⟨⟨⟨h1, h2, h3, h4⟩, h0⟩, H⟩ := H
  exact s42 ⟨⟨h1, h0⟩, q_i H (ib_c (by rw [h2]; exact (c_ty h3 (fun h => h4 t h0 h)).symm))⟩
theorem k46 {L c2 c3 c4 c5 c6 : Nat} {D : Dt} {Q : Out → Wd → Prop} {K : TK} {t : Int} (H : (SKp K (D 54) (D 55) (D 56) (D 57) (D 224) ∧ 0 ≤ t) ∧ Q (.inl [vi (ib (K.num t))]) (D, SS L 1 c2 c3 c4 c5 c6)) : wp 46 0 [vr 53, vi t, vu, vu, vu, vu] [] (D, SS L 1 c2 c3 c4 c5 c6) Q := by
  obtain ⟨⟨⟨h1, h2, h3, h4⟩, h0⟩, H⟩ := H
  exact s46 ⟨⟨h1, h0⟩, q_i H (ib_c (by rw [h2]; exact (c_num h3 (fun h => h4 t h0 h)).symm))⟩
theorem k50 {L c2 c3 c4 c5 c6 : Nat} {D : Dt} {Q : Out → Wd → Prop} {K : TK} {t : Int} (H : (SKp K (D 54) (D 55) (D 56) (D 57) (D 224) ∧ 0 ≤ t ∧ t < K.n) ∧ Q (.inl [vi (pntS K.tx (K.tf t) (K.tt t))]) (D, SS L 1 c2 c3 c4 c5 c6)) : wp 50 0 [vr 53, vi t, vu, vu, vu] [] (D, SS L 1 c2 c3 c4 c5 c6) Q := by
  obtain ⟨⟨⟨h1, h2, h3, h4⟩, h0, h5⟩, H⟩ := H
  exact s50 ⟨⟨h1, h0, by omega⟩, q_i H (by rw [h2, (h4 t h0 h5).1, (h4 t h0 h5).2])⟩
theorem k48 {L c2 c3 c4 c5 c6 : Nat} {D : Dt} {Q : Out → Wd → Prop} {K : TK} {t : Int} (H : (SKp K (D 54) (D 55) (D 56) (D 57) (D 224) ∧ 0 ≤ t ∧ t < K.n) ∧ Q (.inl [vi (K.op t)]) (D, SS L 1 c2 c3 c4 c5 c6)) : wp 48 0 [vr 53, vi t, vr 17] [] (D, SS L 1 c2 c3 c4 c5 c6) Q := by
  obtain ⟨⟨⟨h1, h2, h3, h4⟩, h0, h5⟩, H⟩ := H
  exact s48 ⟨⟨h1, h0, by omega⟩, q_i H (by rw [h2, (h4 t h0 h5).1, (h4 t h0 h5).2, wOf17]; rfl)⟩
theorem k55 {L c2 c3 c4 c5 c6 : Nat} {D : Dt} {Q : Out → Wd → Prop} {K : TK} {t : Int} (H : (SKp K (D 54) (D 55) (D 56) (D 57) (D 224) ∧ 0 ≤ t ∧ K.num t) ∧ Q (.inl [vi (K.val t)]) (D, SS L 1 c2 c3 c4 c5 c6)) : wp 55 0 [vr 53, vi t] [] (D, SS L 1 c2 c3 c4 c5 c6) Q := by
  obtain ⟨⟨⟨h1, h2, h3, h4⟩, h0, h5⟩, H⟩ := H
  have h6 := h4 t h0 h5.1
  exact s55 ⟨⟨⟨h1, h0, by have := h5.1; omega⟩, by rw [h2]; exact (c_num h3 (fun h => h4 t h0 h)).mpr h5⟩, q_i H (by rw [h2, h6.1, h6.2]; rfl)⟩
theorem k54 {L c2 c3 c4 c5 c6 : Nat} {D : Dt} {Q : Out → Wd → Prop} {K : TK} {t u : Int} (H : (SKp K (D 54) (D 55) (D 56) (D 57) (D 224) ∧ 0 ≤ t ∧ t < K.n ∧ 0 ≤ u ∧ u < K.n) ∧ Q (.inl [vi (ib (K.same t u))]) (D, SS L 1 c2 c3 c4 c5 c6)) : wp 54 0 [vr 53, vi t, vi u] [] (D, SS L 1 c2 c3 c4 c5 c6) Q := by
  obtain ⟨⟨⟨h1, h2, h3, h4⟩, h0, h5, h6, h7⟩, H⟩ := H
  exact s54 ⟨⟨h1, h0, by omega, h6, by omega⟩, q_i H (by rw [h2, (h4 t h0 h5).1, (h4 t h0 h5).2, (h4 u h6 h7).1, (h4 u h6 h7).2]; rfl)⟩
theorem k32 {L c2 c3 c4 c5 c6 : Nat} {D : Dt} {Q : Out → Wd → Prop} {K : TK} (H : SKp K (D 54) (D 55) (D 56) (D 57) (D 224) ∧ Q (.inl [vi K.n]) (D, SS L 1 c2 c3 c4 c5 c6)) : wp 32 0 [vr 53] [] (D, SS L 1 c2 c3 c4 c5 c6) Q := r32_0 (q_i H.2 H.1.2.2.1.symm)
/-! the model's -/
theorem k235s21 {L c2 c3 c4 c5 c6 : Nat} {D : Dt} {Q : Out → Wd → Prop} {K : TK} {t : Int} (H : (MKp K (D 226 10) (D 321) (D 322) (D 320) ∧ 0 ≤ t) ∧ Q (.inl [vi (ib (K.w t 5))]) (D, SS L 1 c2 c3 c4 c5 c6)) : wp 235 0 [vr 226, vi t, vr 21, vu] [] (D, SS L 1 c2 c3 c4 c5 c6) Q := by
  obtain ⟨⟨⟨h1, h2, h3, h4⟩, h0⟩, H⟩ := H
  exact s235s21 ⟨⟨h1, h0⟩, q_i H (ib_c (by rw [h2]; exact (c_w h3 (fun h => h4 t h0 h)).symm))⟩
theorem k235s22 {L c2 c3 c4 c5 c6 : Nat} {D : Dt} {Q : Out → Wd → Prop} {K : TK} {t : Int} (H : (MKp K (D 226 10) (D 321) (D 322) (D 320) ∧ 0 ≤ t) ∧ Q (.inl [vi (ib (K.w t 6))]) (D, SS L 1 c2 c3 c4 c5 c6)) : wp 235 0 [vr 226, vi t, vr 22, vu] [] (D, SS L 1 c2 c3 c4 c5 c6) Q := by
  obtain ⟨⟨⟨h1, h2, h3, h4⟩, h0⟩, H⟩ := H
  exact s235s22 ⟨⟨h1, h0⟩, q_i H (ib_c (by rw [h2]; exact (c_w h3 (fun h => h4 t h0 h)).symm))⟩
theorem k235s23 {L c2 c3 c4 c5 c6 : Nat} {D : Dt} {Q : Out → Wd → Prop} {K : TK} {t : Int} (H : (MKp K (D 226 10) (D 321) (D 322) (D 320) ∧ 0 ≤ t) ∧ Q (.inl [vi (ib (K.w t 7))]) (D, SS L 1 c2 c3 c4 c5 c6)) : wp 235 0 [vr 226, vi t, vr 23, vu] [] (D, SS L 1 c2 c3 c4 c5 c6) Q := by
  obtain ⟨⟨⟨h1, h2, h3, h4⟩, h0⟩, H⟩ := H
  exact s235s23 ⟨⟨h1, h0⟩, q_i H (ib_c (by rw [h2]; exact (c_w h3 (fun h => h4 t h0 h)).symm))⟩
theorem k235s24 {L c2 c3 c4 c5 c6 : Nat} {D : Dt} {Q : Out → Wd → Prop} {K : TK} {t : Int} (H : (MKp K (D 226 10) (D 321) (D 322) (D 320) ∧ 0 ≤ t) ∧ Q (.inl [vi (ib (K.w t 8))]) (D, SS L 1 c2 c3 c4 c5 c6)) : wp 235 0 [vr 226, vi t, vr 24, vu] [] (D, SS L 1 c2 c3 c4 c5 c6) Q := by
  obtain ⟨⟨⟨h1, h2, h3, h4⟩, h0⟩, H⟩ := H
  exact s235s24 ⟨⟨h1, h0⟩, q_i H (ib_c (by rw [h2]; exact (c_w h3 (fun h => h4 t h0 h)).symm))⟩
theorem k235s25 {L c2 c3 c4 c5 c6 : Nat} {D : Dt} {Q : Out → Wd → Prop} {K : TK} {t : Int} (H : (MKp K (D 226 10) (D 321) (D 322) (D 320) ∧ 0 ≤ t) ∧ Q (.inl [vi (ib (K.w t 9))]) (D, SS L 1 c2 c3 c4 c5 c6)) : wp 235 0 [vr 226, vi t, vr 25, vu] [] (D, SS L 1 c2 c3 c4 c5 c6) Q := by
  obtain ⟨⟨⟨h1, h2, h3, h4⟩, h0⟩, H⟩ := H
  exact s235s25 ⟨⟨h1, h0⟩, q_i H (ib_c (by rw [h2]; exact (c_w h3 (fun h => h4 t h0 h)).symm))⟩
theorem k235s26 {L c2 c3 c4 c5 c6 : Nat} {D : Dt} {Q : Out → Wd → Prop} {K : TK} {t : Int} (H : (MKp K (D 226 10) (D 321) (D 322) (D 320) ∧ 0 ≤ t) ∧ Q (.inl [vi (ib (K.w t 10))]) (D, SS L 1 c2 c3 c4 c5 c6)) : wp 235 0 [vr 226, vi t, vr 26, vu] [] (D, SS L 1 c2 c3 c4 c5 c6) Q := by
  obtain ⟨⟨⟨h1, h2, h3, h4⟩, h0⟩, H⟩ := H
  exact s235s26 ⟨⟨h1, h0⟩, q_i H (ib_c (by rw [h2]; exact (c_w h3 (fun h => h4 t h0 h)).symm))⟩
theorem k235s27 {L c2 c3 c4 c5 c6 : Nat} {D : Dt} {Q : Out → Wd → Prop} {K : TK} {t : Int} (H : (MKp K (D 226 10) (D 321) (D 322) (D 320) ∧ 0 ≤ t) ∧ Q (.inl [vi (ib (K.w t 11))]) (D, SS L 1 c2 c3 c4 c5 c6)) : wp 235 0 [vr 226, vi t, vr 27, vu] [] (D, SS L 1 c2 c3 c4 c5 c6) Q := by
  obtain ⟨⟨⟨h1, h2, h3, h4⟩, h0⟩, H⟩ := H
  exact s235s27 ⟨⟨h1, h0⟩, q_i H (ib_c (by rw [h2]; exact (c_w h3 (fun h => h4 t h0 h)).symm))⟩
theorem k235s28 {L c2 c3 c4 c5 c6 : Nat} {D : Dt} {Q : Out → Wd → Prop} {K : TK} {t : Int} (H : (MKp K (D 226 10) (D 321) (D 322) (D 320) ∧ 0 ≤ t) ∧ Q (.inl [vi (ib (K.w t 12))]) (D, SS L 1 c2 c3 c4 c5 c6)) : wp 235 0 [vr 226, vi t, vr 28, vu] [] (D, SS L 1 c2 c3 c4 c5 c6) Q := by
  obtain ⟨⟨⟨h1, h2, h3, h4⟩, h0⟩, H⟩ := H
  exact s235s28 ⟨⟨h1, h0⟩, q_i H (ib_c (by rw [h2]; exact (c_w h3 (fun h => h4 t h0 h)).symm))⟩
theorem k235s29 {L c2 c3 c4 c5 c6 : Nat} {D : Dt} {Q : Out → Wd → Prop} {K : TK} {t : Int} (H : (MKp K (D 226 10) (D 321) (D 322) (D 320) ∧ 0 ≤ t) ∧ Q (.inl [vi (ib (K.w t 13))]) (D, SS L 1 c2 c3 c4 c5 c6)) : wp 235 0 [vr 226, vi t, vr 29, vu] [] (D, SS L 1 c2 c3 c4 c5 c6) Q := by
  obtain ⟨⟨⟨h1, h2, h3, h4⟩, h0⟩, H⟩ := H
  exact s235s29 ⟨⟨h1, h0⟩, q_i H (ib_c (by rw [h2]; exact (c_w h3 (fun h => h4 t h0 h)).symm))⟩
theorem k235s30 {L c2 c3 c4 c5 c6 : Nat} {D : Dt} {Q : Out → Wd → Prop} {K : TK} {t : Int} (H : (MKp K (D 226 10) (D 321) (D 322) (D 320) ∧ 0 ≤ t) ∧ Q (.inl [vi (ib (K.w t 14))]) (D, SS L 1 c2 c3 c4 c5 c6)) : wp 235 0 [vr 226, vi t, vr 30, vu] [] (D, SS L 1 c2 c3 c4 c5 c6) Q := by
  obtain ⟨⟨⟨h1, h2, h3, h4⟩, h0⟩, H⟩ := H
  exact s235s30 ⟨⟨h1, h0⟩, q_i H (ib_c (by rw [h2]; exact (c_w h3 (fun h => h4 t h0 h)).symm))⟩
theorem k235s31 {L c2 c3 c4 c5 c6 : Nat} {D : Dt} {Q : Out → Wd → Prop} {K : TK} {t : Int} (H : (MKp K (D 226 10) (D 321) (D 322) (D 320) ∧ 0 ≤ t) ∧ Q (.inl [vi (ib (K.w t 15))]) (D, SS L 1 c2 c3 c4 c5 c6)) : wp 235 0 [vr 226, vi t, vr 31, vu] [] (D, SS L 1 c2 c3 c4 c5 c6) Q := by
  obtain ⟨⟨⟨h1, h2, h3, h4⟩, h0⟩, H⟩ := H
  exact s235s31 ⟨⟨h1, h0⟩, q_i H (ib_c (by rw [h2]; exact (c_w h3 (fun h => h4 t h0 h)).symm))⟩
theorem k235s33 {L c2 c3 c4 c5 c6 : Nat} {D : Dt} {Q : Out → Wd → Prop} {K : TK} {t : Int} (H : (MKp K (D 226 10) (D 321) (D 322) (D 320) ∧ 0 ≤ t) ∧ Q (.inl [vi (ib (K.w t 16))]) (D, SS L 1 c2 c3 c4 c5 c6)) : wp 235 0 [vr 226, vi t, vr 33, vu] [] (D, SS L 1 c2 c3 c4 c5 c6) Q := by
  obtain ⟨⟨⟨h1, h2, h3, h4⟩, h0⟩, H⟩ := H
  exact s235s33 ⟨⟨h1, h0⟩, q_i H (ib_c (by rw [h2]; exact (c_w h3 (fun h => h4 t h0 h)).symm))⟩
theorem k235s35 {L c2 c3 c4 c5 c6 : Nat} {D : Dt} {Q : Out → Wd → Prop} {K : TK} {t : Int} (H : (MKp K (D 226 10) (D 321) (D 322) (D 320) ∧ 0 ≤ t) ∧ Q (.inl [vi (ib (K.w t 18))]) (D, SS L 1 c2 c3 c4 c5 c6)) : wp 235 0 [vr 226, vi t, vr 35, vu] [] (D, SS L 1 c2 c3 c4 c5 c6) Q := by
  obtain ⟨⟨⟨h1, h2, h3, h4⟩, h0⟩, H⟩ := H
  exact s235s35 ⟨⟨h1, h0⟩, q_i H (ib_c (by rw [h2]; exact (c_w h3 (fun h => h4 t h0 h)).symm))⟩
theorem k235s37 {L c2 c3 c4 c5 c6 : Nat} {D : Dt} {Q : Out → Wd → Prop} {K : TK} {t : Int} (H : (MKp K (D 226 10) (D 321) (D 322) (D 320) ∧ 0 ≤ t) ∧ Q (.inl [vi (ib (K.w t 3))]) (D, SS L 1 c2 c3 c4 c5 c6)) : wp 235 0 [vr 226, vi t, vr 37, vu] [] (D, SS L 1 c2 c3 c4 c5 c6) Q := by
  obtain ⟨⟨⟨h1, h2, h3, h4⟩, h0⟩, H⟩ := H
  exact s235s37 ⟨⟨h1, h0⟩, q_i H (ib_c (by rw [h2]; exact (c_w h3 (fun h => h4 t h0 h)).symm))⟩
theorem k235s38 {L c2 c3 c4 c5 c6 : Nat} {D : Dt} {Q : Out → Wd → Prop} {K : TK} {t : Int} (H : (MKp K (D 226 10) (D 321) (D 322) (D 320) ∧ 0 ≤ t) ∧ Q (.inl [vi (ib (K.w t 4))]) (D, SS L 1 c2 c3 c4 c5 c6)) : wp 235 0 [vr 226, vi t, vr 38, vu] [] (D, SS L 1 c2 c3 c4 c5 c6) Q := by
  obtain ⟨⟨⟨h1, h2, h3, h4⟩, h0⟩, H⟩ := H
  exact s235s38 ⟨⟨h1, h0⟩, q_i H (ib_c (by rw [h2]; exact (c_w h3 (fun h => h4 t h0 h)).symm))⟩
theorem k240 {L c2 c3 c4 c5 c6 : Nat} {D : Dt} {Q : Out → Wd → Prop} {K : TK} {t : Int} (H : (MKp K (D 226 10) (D 321) (D 322) (D 320) ∧ 0 ≤ t) ∧ Q (.inl [vi (ib (K.sn t))]) (D, SS L 1 c2 c3 c4 c5 c6)) : wp 240 0 [vr 226, vi t] [] (D, SS L 1 c2 c3 c4 c5 c6) Q := by
  obtain ⟨⟨⟨h1, h2, h3, h4⟩, h0⟩, H⟩ := H
  exact s240 ⟨⟨h1, h0⟩, q_i H (ib_c (by rw [h2]; exact (c_sn h3 (fun h => h4 t h0 h)).symm))⟩
theorem k237 {L c2 c3 c4 c5 c6 : Nat} {D : Dt} {Q : Out → Wd → Prop} {K : TK} {t : Int} (H : (MKp K (D 226 10) (D 321) (D 322) (D 320) ∧ 0 ≤ t) ∧ Q (.inl [vi (ib (K.cn t))]) (D, SS L 1 c2 c3 c4 c5 c6)) : wp 237 0 [vr 226, vi t] [] (D, SS L 1 c2 c3 c4 c5 c6) Q := by
  obtain ⟨⟨⟨h1, h2, h3, h4⟩, h0⟩, H⟩ := H
  exact s237 ⟨⟨h1, h0⟩, q_i H (ib_c (by rw [h2]; exact (c_cn h3 (fun h => h4 t h0 h)).symm))⟩
theorem k241 {L c2 c3 c4 c5 c6 : Nat} {D : Dt} {Q : Out → Wd → Prop} {K : TK} {t : Int} (H : (MKp K (D 226 10) (D 321) (D 322) (D 320) ∧ 0 ≤ t) ∧ Q (.inl [vi (ib (K.ty t))]) (D, SS L 1 c2 c3 c4 c5 c6)) : wp 241 0 [vr 226, vi t, vu, vu] [] (D, SS L 1 c2 c3 c4 c5 c6) Q := by
  obtain ⟨⟨⟨h1, h2, h3, h4⟩, h0⟩, H⟩ := H
  exact s241 ⟨⟨h1, h0⟩, q_i H (ib_c (by rw [h2]; exact (c_ty h3 (fun h => h4 t h0 h)).symm))⟩
theorem k243 {L c2 c3 c4 c5 c6 : Nat} {D : Dt} {Q : Out → Wd → Prop} {K : TK} {t : Int} (H : (MKp K (D 226 10) (D 321) (D 322) (D 320) ∧ 0 ≤ t) ∧ Q (.inl [vi (ib (K.num t))]) (D, SS L 1 c2 c3 c4 c5 c6)) : wp 243 0 [vr 226, vi t, vu, vu, vu] [] (D, SS L 1 c2 c3 c4 c5 c6) Q := by
  obtain ⟨⟨⟨h1, h2, h3, h4⟩, h0⟩, H⟩ := H
  exact s243 ⟨⟨h1, h0⟩, q_i H (ib_c (by rw [h2]; exact (c_num h3 (fun h => h4 t h0 h)).symm))⟩
theorem k249 {L c2 c3 c4 c5 c6 : Nat} {D : Dt} {Q : Out → Wd → Prop} {K : TK} {t : Int} (H : (MKp K (D 226 10) (D 321) (D 322) (D 320) ∧ 0 ≤ t) ∧ Q (.inl [vi (ib (K.ref t))]) (D, SS L 1 c2 c3 c4 c5 c6)) : wp 249 0 [vr 226, vi t, vu] [] (D, SS L 1 c2 c3 c4 c5 c6) Q := by
  obtain ⟨⟨⟨h1, h2, h3, h4⟩, h0⟩, H⟩ := H
  refine s249 ⟨⟨h1, h0⟩, q_i H (ib_c ?_)⟩
  rw [h2, h3]
  unfold TK.ref
  constructor
  · rintro ⟨g1, g2⟩; rw [← (h4 t h0 g1).1, ← (h4 t h0 g1).2] at g2; exact ⟨g1, g2⟩
  · rintro ⟨g1, g2⟩; rw [(h4 t h0 g1).1, (h4 t h0 g1).2] at g2; exact ⟨g1, g2⟩
theorem k250 {L c2 c3 c4 c5 c6 : Nat} {D : Dt} {Q : Out → Wd → Prop} {K : TK} {t : Int} (H : (MKp K (D 226 10) (D 321) (D 322) (D 320) ∧ 0 ≤ t ∧ t < K.n) ∧ Q (.inl [vi (pnt K.tx (K.tf t) (K.tt t))]) (D, SS L 1 c2 c3 c4 c5 c6)) : wp 250 0 [vr 226, vi t, vu] [] (D, SS L 1 c2 c3 c4 c5 c6) Q := by
  obtain ⟨⟨⟨h1, h2, h3, h4⟩, h0, h5⟩, H⟩ := H
  exact s250 ⟨⟨h1, h0, by omega⟩, q_i H (by rw [h2, (h4 t h0 h5).1, (h4 t h0 h5).2])⟩
theorem k247 {L c2 c3 c4 c5 c6 : Nat} {D : Dt} {Q : Out → Wd → Prop} {K : TK} {t : Int} (H : (MKp K (D 226 10) (D 321) (D 322) (D 320) ∧ 0 ≤ t ∧ t < K.n) ∧ Q (.inl [vi (K.op t)]) (D, SS L 1 c2 c3 c4 c5 c6)) : wp 247 0 [vr 226, vi t] [] (D, SS L 1 c2 c3 c4 c5 c6) Q := by
  obtain ⟨⟨⟨h1, h2, h3, h4⟩, h0, h5⟩, H⟩ := H
  exact s247 ⟨⟨h1, h0, by omega⟩, q_i H (by rw [h2, (h4 t h0 h5).1, (h4 t h0 h5).2]; rfl)⟩
theorem k244 {L c2 c3 c4 c5 c6 : Nat} {D : Dt} {Q : Out → Wd → Prop} {K : TK} {t : Int} (H : (MKp K (D 226 10) (D 321) (D 322) (D 320) ∧ 0 ≤ t ∧ K.num t) ∧ Q (.inl [vl (K.val t)]) (D, SS L 1 c2 c3 c4 c5 c6)) : wp 244 0 [vr 226, vi t, vu, vu, vu, vu] [] (D, SS L 1 c2 c3 c4 c5 c6) Q := by
  obtain ⟨⟨⟨h1, h2, h3, h4⟩, h0, h5⟩, H⟩ := H
  have h6 := h4 t h0 h5.1
  refine s244 ⟨⟨⟨h1, h0, by have := h5.1; omega⟩, ?_⟩, ?_⟩
  · rw [h2, h6.1, h6.2]; exact h5.2.2.1
  · rw [h2, h6.1, h6.2]; exact H
theorem k266 {L c2 c3 c4 c5 c6 : Nat} {D : Dt} {Q : Out → Wd → Prop} {K : TK} {t u : Int} (H : (MKp K (D 226 10) (D 321) (D 322) (D 320) ∧ 0 ≤ t ∧ t < K.n ∧ 0 ≤ u ∧ u < K.n) ∧ Q (.inl [vi (ib (K.same t u))]) (D, SS L 1 c2 c3 c4 c5 c6)) : wp 266 0 [vr 226, vi t, vi u] [] (D, SS L 1 c2 c3 c4 c5 c6) Q := by
  obtain ⟨⟨⟨h1, h2, h3, h4⟩, h0, h5, h6, h7⟩, H⟩ := H
  exact s266 ⟨⟨h1, h0, by omega, h6, by omega⟩, q_i H (by rw [h2, (h4 t h0 h5).1, (h4 t h0 h5).2, (h4 u h6 h7).1, (h4 u h6 h7).2]; rfl)⟩
theorem k246 {L c2 c3 c4 c5 c6 : Nat} {D : Dt} {Q : Out → Wd → Prop} {K : TK} {t : Int} (H : (MKp K (D 226 10) (D 321) (D 322) (D 320) ∧ 0 ≤ t ∧ t ≤ 20000) ∧ Q (.inl [vi (ib (K.w (t + 1) 15))]) (D, SS L 1 c2 c3 c4 c5 c6)) : wp 246 0 [vr 226, vi t] [] (D, SS L 1 c2 c3 c4 c5 c6) Q := by
  obtain ⟨⟨⟨h1, h2, h3, h4⟩, h0, h5⟩, H⟩ := H
  exact s246 ⟨⟨⟨h1, h0⟩, h5⟩, q_i H (ib_c (by rw [h2]; exact (c_w h3 (fun h => h4 (t + 1) (by omega) h)).symm))⟩
