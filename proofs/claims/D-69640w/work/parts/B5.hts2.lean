/-! heights: what can come to an instruction -/
set_option maxRecDepth 100000
/-- how many values an instruction takes, leaves -/
def tkV (op np : Int) : Int := if op = 39 ∨ op = 40 then np else if op = 0 ∨ op = 1 ∨ op = 2 ∨ op = 44 ∨ op = 4 ∨ op = 19 ∨ op = 43 ∨ op = 30 then 0 else if op = 34 then 3 else if op = 7 ∨ (8 ≤ op ∧ op ≤ 17) ∨ (20 ≤ op ∧ op ≤ 25) ∨ op = 28 ∨ op = 29 ∨ op = 33 ∨ op = 36 then 2 else 1
def lvV (op rs : Int) : Int := if op = 39 ∨ op = 40 then (if rs < 0 then 0 else 1) else if op = 5 ∨ op = 7 then 2 else if op = 3 ∨ op = 4 ∨ op = 6 ∨ (19 ≤ op ∧ op ≤ 29) ∨ op = 34 ∨ op = 36 ∨ (41 ≤ op ∧ op ≤ 43) ∨ op = 45 then 0 else 1
def tkF (X Y : XB) (i : Int) : Int := tkV (lf (Y 0) i) (lf (X 7) (lf (Y 1) i))
def lvF (X Y : XB) (i : Int) : Int := lvV (lf (Y 0) i) (lf (X 8) (lf (Y 1) i))
def isJ (op : Int) : Prop := 19 ≤ op ∧ op ≤ 29
/-- a height may come to an instruction; the height behind it -/
def hgd (X Y : XB) (i : Int) (h : Nat) : Prop := tkF X Y i ≤ h ∧ h - tkF X Y i + lvF X Y i ≤ 8
def hth (X Y : XB) (i : Int) (h : Nat) : Nat := (h - tkF X Y i + lvF X Y i).toNat
def cov (Y : XB) (b k i : Int) : Prop := lf (Y 10) k = b ∧ lf (Y 6) k ≤ i ∧ i < lf (Y 7) k
/-- P is closed under all steps of body b -/
def hcl (X Y : XB) (b : Int) (P : Int → Nat → Prop) : Prop := ∀ (i : Int) (h : Nat), lf (Y 11) b ≤ i → i < lf (Y 12) b → P i h → hgd X Y i h → (goOn (lf (Y 0) i) → P (i + 1) (hth X Y i h)) ∧ (isJ (lf (Y 0) i) → P (lf (Y 1) i) (hth X Y i h)) ∧ ∀ k : Int, 0 ≤ k → k < (Y 6).length → cov Y b k i → P (lf (Y 8) k) 1
/-- a height comes to an instruction -/
def Rch (X Y : XB) (b i : Int) (h : Nat) : Prop := ∀ P : Int → Nat → Prop, P (lf (Y 11) b) 0 → hcl X Y b P → P i h
theorem rch_0 {X Y : XB} {b : Int} : Rch X Y b (lf (Y 11) b) 0 := fun _ h _ => h
theorem rch_c {X Y : XB} {b : Int} : hcl X Y b (Rch X Y b) := fun i h i0 i1 hi hg => ⟨fun g P p0 pc => (pc i h i0 i1 (hi P p0 pc) hg).1 g, fun g P p0 pc => (pc i h i0 i1 (hi P p0 pc) hg).2.1 g, fun k k0 k1 hk P p0 pc => (pc i h i0 i1 (hi P p0 pc) hg).2.2 k k0 k1 hk⟩
/-- what is wrong with the heights of an instruction -/
def htB (X Y : XB) (b i : Int) : Prop := (∃ h h' : Nat, ¬ h = h' ∧ Rch X Y b i h ∧ Rch X Y b i h') ∨ ∃ h : Nat, Rch X Y b i h ∧ ¬ hgd X Y i h
/-- the height at an instruction, -1 if none comes -/
noncomputable def htF (X Y : XB) (b i : Int) : Int := fsF (fun h => Rch X Y b i h.toNat) 0 9
theorem tkv_b {op np : Int} (h : 0 ≤ np) (h1 : np ≤ 12) : 0 ≤ tkV op np ∧ tkV op np ≤ 12 := by
  unfold tkV
  repeat' split
  all_goals omega
theorem lvv_b {op rs : Int} : 0 ≤ lvV op rs ∧ lvV op rs ≤ 2 := by
  unfold lvV
  repeat' split
  all_goals omega
/-- what the checker needs of a program -/
def PH (ns ab : List Int) (X Y : XB) : Prop := WFB ns ab X (X 4).length Y ∧ BLn X ∧ (X 4).length ≤ 48 ∧ ∀ b : Int, 0 ≤ b → b < (X 4).length → 0 ≤ lf (X 7) b ∧ lf (X 7) b ≤ 12 ∧ -1 ≤ lf (X 8) b
section Ph
variable {ns ab : List Int} {X Y : XB}
theorem PH.tk (h : PH ns ab X Y) {i : Int} (i0 : 0 ≤ i) (i1 : i < (Y 0).length) : 0 ≤ tkF X Y i ∧ tkF X Y i ≤ 12 := by
  have hw := (h.1.2.2.1 i i0 i1).2.2.2
  unfold tkF
  by_cases g : lf (Y 0) i = 39 ∨ lf (Y 0) i = 40
  · have h1 := (hw.2.2.2.2.2.2.1 g).1
    have h2 := h.2.2.2 _ h1.1 h1.2
    exact tkv_b h2.1 h2.2.1
  · have : tkV (lf (Y 0) i) (lf (X 7) (lf (Y 1) i)) = tkV (lf (Y 0) i) 0 := by
      unfold tkV
      rw [if_neg g, if_neg g]
    rw [this]
    exact tkv_b (by decide) (by decide)
theorem PH.lv {i : Int} : 0 ≤ lvF X Y i ∧ lvF X Y i ≤ 2 := lvv_b
theorem PH.go (h : PH ns ab X Y) {b i : Int} (b0 : 0 ≤ b) (b1 : b < (X 4).length) (i0 : lf (Y 11) b ≤ i) (i1 : i < lf (Y 12) b) (g : goOn (lf (Y 0) i)) : i + 1 < lf (Y 12) b := by
  have hc := h.1.2.2.2.2.2 b b0 b1
  by_cases e : i + 1 = lf (Y 12) b
  · have : lf (Y 12) b - 1 = i := by omega
    rw [this] at hc
    exact absurd g hc.2.1
  · omega
theorem PH.jm (h : PH ns ab X Y) {b i : Int} (b0 : 0 ≤ b) (b1 : b < (X 4).length) (i0 : lf (Y 11) b ≤ i) (i1 : i < lf (Y 12) b) (g : isJ (lf (Y 0) i)) : lf (Y 11) b ≤ lf (Y 1) i ∧ lf (Y 1) i < lf (Y 12) b := by
  have hc := h.1.2.2.2.2.2 b b0 b1
  have e := hc.2.2 i i0 i1
  have hw := (h.1.2.2.1 i (by omega) (by omega)).2.2.2.2.2.1 g
  rw [e] at hw
  exact hw
theorem PH.ca (h : PH ns ab X Y) {b k : Int} (k0 : 0 ≤ k) (k1 : k < (Y 6).length) (e : lf (Y 10) k = b) : lf (Y 11) b ≤ lf (Y 8) k ∧ lf (Y 8) k < lf (Y 12) b := by
  have hw := (h.1.2.2.2.1 k k0 k1).2
  rw [e] at hw
  exact hw.2.2.2.1
theorem PH.rg (h : PH ns ab X Y) {b : Int} (b0 : 0 ≤ b) (b1 : b < (X 4).length) : 0 ≤ lf (Y 11) b ∧ lf (Y 11) b < lf (Y 12) b ∧ lf (Y 12) b ≤ (Y 0).length ∧ (Y 0).length ≤ 1024 := by
  have hc := (h.1.2.2.2.2.2 b b0 b1).1
  have := h.1.1.2.2.1
  omega
/-- whatever comes lies in the body, and is at most 8 -/
theorem rch_in (h : PH ns ab X Y) {b : Int} (b0 : 0 ≤ b) (b1 : b < (X 4).length) {i : Int} {n : Nat} (hr : Rch X Y b i n) : lf (Y 11) b ≤ i ∧ i < lf (Y 12) b ∧ n ≤ 8 := by
  have hg := h.rg b0 b1
  refine hr (fun i n => lf (Y 11) b ≤ i ∧ i < lf (Y 12) b ∧ n ≤ 8) ⟨Int.le_refl _, by omega, by decide⟩ (fun i n i0 i1 hp hgd => ⟨fun g => ?_, fun g => ?_, fun k k0 k1 hk => ?_⟩)
  · have := h.go b0 b1 i0 i1 g
    have h2 := hgd.2
    unfold hth
    omega
  · have := h.jm b0 b1 i0 i1 g
    have h2 := hgd.2
    unfold hth
    omega
  · have := h.ca k0 k1 hk.1
    omega
end Ph
theorem px_h {K : TK} {ns ab : List Int} {X Y : XB} (h : PX K ns ab X Y) : PH ns ab X Y := by
  have hw := wfp_i h
  obtain ⟨⟨⟨g1, g2, g3, g4, g5, g6⟩, gf, gb, _⟩, _⟩ := h
  refine ⟨hw, g2, g6, fun b b0 b1 => ?_⟩
  obtain ⟨_, hh, e7, e8, _⟩ := gb b b0 b1
  have ho := (g3 b b0 b1).2.1
  have h1 := ho.lt.1
  have hi := ib_01 (K.w (lf (X 12) b) 11)
  refine ⟨?_, ?_, ?_⟩
  · rw [e7]; unfold pcO; omega
  · rw [e7]; have := hh.2.2; omega
  · rw [e8]
    unfold rsO
    rcases Classical.em (K.w (bbp K (lf (X 12) b) + 1) 14) with y | y
    · rw [cit_t y]; decide
    · rw [cit_f y]
      rcases hh.2.1 with z | z
      · exact absurd z y
      · omega
/-! SafeCode -/
/-- the program that is checked, in SafeCode's places -/
def SCk (X Y : XB) (D : Dt) : Prop := CdS Y D ∧ FeS Y D ∧ L1 (D 206) (X 7) ∧ L1 (D 208) (X 8) ∧ D 197 7 = (X 4).length
theorem r218_0 {L c3 c4 c5 c6 : Nat} {D : Dt} {Q : Out → Wd → Prop} {i : Int} (H : (0 ≤ i ∧ i < 1024) ∧ ((D 212 i = 39 → ((0 ≤ i ∧ i < 1024) ∧ ((0 ≤ D 213 i ∧ D 213 i < 48) ∧ (Q (.inl [vi (D 206 (D 213 i))]) (D, SS L 1 2 c3 c4 c5 c6))))) ∧ (¬ (D 212 i = 39) → ((D 212 i = 40 → ((0 ≤ i ∧ i < 1024) ∧ ((0 ≤ D 213 i ∧ D 213 i < 48) ∧ (Q (.inl [vi (D 206 (D 213 i))]) (D, SS L 1 2 c3 c4 c5 c6))))) ∧ (¬ (D 212 i = 40) → ((D 212 i = 0 → (Q (.inl [vi 0]) (D, SS L 1 2 c3 c4 c5 c6))) ∧ (¬ (D 212 i = 0) → ((D 212 i = 1 → (Q (.inl [vi 0]) (D, SS L 1 2 c3 c4 c5 c6))) ∧ (¬ (D 212 i = 1) → ((D 212 i = 2 → (Q (.inl [vi 0]) (D, SS L 1 2 c3 c4 c5 c6))) ∧ (¬ (D 212 i = 2) → ((D 212 i = 44 → (Q (.inl [vi 0]) (D, SS L 1 2 c3 c4 c5 c6))) ∧ (¬ (D 212 i = 44) → ((D 212 i = 4 → (Q (.inl [vi 0]) (D, SS L 1 2 c3 c4 c5 c6))) ∧ (¬ (D 212 i = 4) → ((D 212 i = 19 → (Q (.inl [vi 0]) (D, SS L 1 2 c3 c4 c5 c6))) ∧ (¬ (D 212 i = 19) → ((D 212 i = 43 → (Q (.inl [vi 0]) (D, SS L 1 2 c3 c4 c5 c6))) ∧ (¬ (D 212 i = 43) → ((D 212 i = 30 → (Q (.inl [vi 0]) (D, SS L 1 2 c3 c4 c5 c6))) ∧ (¬ (D 212 i = 30) → ((D 212 i = 34 → (Q (.inl [vi 3]) (D, SS L 1 2 c3 c4 c5 c6))) ∧ (¬ (D 212 i = 34) → ((D 212 i = 7 → (Q (.inl [vi 2]) (D, SS L 1 2 c3 c4 c5 c6))) ∧ (¬ (D 212 i = 7) → ((D 212 i < 8 → ((D 212 i < 20 → ((D 212 i = 28 → (Q (.inl [vi 2]) (D, SS L 1 2 c3 c4 c5 c6))) ∧ (¬ (D 212 i = 28) → ((D 212 i = 29 → (Q (.inl [vi 2]) (D, SS L 1 2 c3 c4 c5 c6))) ∧ (¬ (D 212 i = 29) → ((D 212 i = 33 → (Q (.inl [vi 2]) (D, SS L 1 2 c3 c4 c5 c6))) ∧ (¬ (D 212 i = 33) → ((D 212 i = 36 → (Q (.inl [vi 2]) (D, SS L 1 2 c3 c4 c5 c6))) ∧ (¬ (D 212 i = 36) → (Q (.inl [vi 1]) (D, SS L 1 2 c3 c4 c5 c6))))))))))) ∧ (¬ (D 212 i < 20) → ((25 < D 212 i → ((D 212 i = 28 → (Q (.inl [vi 2]) (D, SS L 1 2 c3 c4 c5 c6))) ∧ (¬ (D 212 i = 28) → ((D 212 i = 29 → (Q (.inl [vi 2]) (D, SS L 1 2 c3 c4 c5 c6))) ∧ (¬ (D 212 i = 29) → ((D 212 i = 33 → (Q (.inl [vi 2]) (D, SS L 1 2 c3 c4 c5 c6))) ∧ (¬ (D 212 i = 33) → ((D 212 i = 36 → (Q (.inl [vi 2]) (D, SS L 1 2 c3 c4 c5 c6))) ∧ (¬ (D 212 i = 36) → (Q (.inl [vi 1]) (D, SS L 1 2 c3 c4 c5 c6))))))))))) ∧ (¬ (25 < D 212 i) → (Q (.inl [vi 2]) (D, SS L 1 2 c3 c4 c5 c6))))))) ∧ (¬ (D 212 i < 8) → ((17 < D 212 i → ((D 212 i < 20 → ((D 212 i = 28 → (Q (.inl [vi 2]) (D, SS L 1 2 c3 c4 c5 c6))) ∧ (¬ (D 212 i = 28) → ((D 212 i = 29 → (Q (.inl [vi 2]) (D, SS L 1 2 c3 c4 c5 c6))) ∧ (¬ (D 212 i = 29) → ((D 212 i = 33 → (Q (.inl [vi 2]) (D, SS L 1 2 c3 c4 c5 c6))) ∧ (¬ (D 212 i = 33) → ((D 212 i = 36 → (Q (.inl [vi 2]) (D, SS L 1 2 c3 c4 c5 c6))) ∧ (¬ (D 212 i = 36) → (Q (.inl [vi 1]) (D, SS L 1 2 c3 c4 c5 c6))))))))))) ∧ (¬ (D 212 i < 20) → ((25 < D 212 i → ((D 212 i = 28 → (Q (.inl [vi 2]) (D, SS L 1 2 c3 c4 c5 c6))) ∧ (¬ (D 212 i = 28) → ((D 212 i = 29 → (Q (.inl [vi 2]) (D, SS L 1 2 c3 c4 c5 c6))) ∧ (¬ (D 212 i = 29) → ((D 212 i = 33 → (Q (.inl [vi 2]) (D, SS L 1 2 c3 c4 c5 c6))) ∧ (¬ (D 212 i = 33) → ((D 212 i = 36 → (Q (.inl [vi 2]) (D, SS L 1 2 c3 c4 c5 c6))) ∧ (¬ (D 212 i = 36) → (Q (.inl [vi 1]) (D, SS L 1 2 c3 c4 c5 c6))))))))))) ∧ (¬ (25 < D 212 i) → (Q (.inl [vi 2]) (D, SS L 1 2 c3 c4 c5 c6))))))) ∧ (¬ (17 < D 212 i) → (Q (.inl [vi 2]) (D, SS L 1 2 c3 c4 c5 c6))))))))))))))))))))))))))))))) : wp 218 0 [vr 197, vi i, vu, vu] [] (D, SS L 1 2 c3 c4 c5 c6) Q := vc_wp [4] 200 _ _ _ _ _ _ (show wp 218 4 [vr 197, vi i, vu, vu] [vr 212] (D, SS L 1 2 c3 c4 c5 c6) Q from vc_wp [23] 200 _ _ _ _ _ _ (show (0 ≤ i ∧ i < 1024) ∧ ((D 212 i = 39 → (wp 218 23 [vr 197, vi i, vi (D 212 i), vu] [vr 206] (D, SS L 1 2 c3 c4 c5 c6) Q)) ∧ (¬ (D 212 i = 39) → ((D 212 i = 40 → (wp 218 23 [vr 197, vi i, vi (D 212 i), vu] [vr 206] (D, SS L 1 2 c3 c4 c5 c6) Q)) ∧ (¬ (D 212 i = 40) → ((D 212 i = 0 → (Q (.inl [vi 0]) (D, SS L 1 2 c3 c4 c5 c6))) ∧ (¬ (D 212 i = 0) → ((D 212 i = 1 → (Q (.inl [vi 0]) (D, SS L 1 2 c3 c4 c5 c6))) ∧ (¬ (D 212 i = 1) → ((D 212 i = 2 → (Q (.inl [vi 0]) (D, SS L 1 2 c3 c4 c5 c6))) ∧ (¬ (D 212 i = 2) → ((D 212 i = 44 → (Q (.inl [vi 0]) (D, SS L 1 2 c3 c4 c5 c6))) ∧ (¬ (D 212 i = 44) → ((D 212 i = 4 → (Q (.inl [vi 0]) (D, SS L 1 2 c3 c4 c5 c6))) ∧ (¬ (D 212 i = 4) → ((D 212 i = 19 → (Q (.inl [vi 0]) (D, SS L 1 2 c3 c4 c5 c6))) ∧ (¬ (D 212 i = 19) → ((D 212 i = 43 → (Q (.inl [vi 0]) (D, SS L 1 2 c3 c4 c5 c6))) ∧ (¬ (D 212 i = 43) → ((D 212 i = 30 → (Q (.inl [vi 0]) (D, SS L 1 2 c3 c4 c5 c6))) ∧ (¬ (D 212 i = 30) → ((D 212 i = 34 → (Q (.inl [vi 3]) (D, SS L 1 2 c3 c4 c5 c6))) ∧ (¬ (D 212 i = 34) → ((D 212 i = 7 → (((1 : Int) = 0 → (Q (.inl [vi 1]) (D, SS L 1 2 c3 c4 c5 c6))) ∧ (¬ ((1 : Int) = 0) → (Q (.inl [vi 2]) (D, SS L 1 2 c3 c4 c5 c6))))) ∧ (¬ (D 212 i = 7) → ((D 212 i < 8 → ((D 212 i < 20 → ((D 212 i = 28 → (((1 : Int) = 0 → (Q (.inl [vi 1]) (D, SS L 1 2 c3 c4 c5 c6))) ∧ (¬ ((1 : Int) = 0) → (Q (.inl [vi 2]) (D, SS L 1 2 c3 c4 c5 c6))))) ∧ (¬ (D 212 i = 28) → ((D 212 i = 29 → (((1 : Int) = 0 → (Q (.inl [vi 1]) (D, SS L 1 2 c3 c4 c5 c6))) ∧ (¬ ((1 : Int) = 0) → (Q (.inl [vi 2]) (D, SS L 1 2 c3 c4 c5 c6))))) ∧ (¬ (D 212 i = 29) → ((D 212 i = 33 → (((1 : Int) = 0 → (Q (.inl [vi 1]) (D, SS L 1 2 c3 c4 c5 c6))) ∧ (¬ ((1 : Int) = 0) → (Q (.inl [vi 2]) (D, SS L 1 2 c3 c4 c5 c6))))) ∧ (¬ (D 212 i = 33) → ((D 212 i = 36 → (((1 : Int) = 0 → (Q (.inl [vi 1]) (D, SS L 1 2 c3 c4 c5 c6))) ∧ (¬ ((1 : Int) = 0) → (Q (.inl [vi 2]) (D, SS L 1 2 c3 c4 c5 c6))))) ∧ (¬ (D 212 i = 36) → (((0 : Int) = 0 → (Q (.inl [vi 1]) (D, SS L 1 2 c3 c4 c5 c6))) ∧ (¬ ((0 : Int) = 0) → (Q (.inl [vi 2]) (D, SS L 1 2 c3 c4 c5 c6))))))))))))) ∧ (¬ (D 212 i < 20) → ((25 < D 212 i → ((D 212 i = 28 → (((1 : Int) = 0 → (Q (.inl [vi 1]) (D, SS L 1 2 c3 c4 c5 c6))) ∧ (¬ ((1 : Int) = 0) → (Q (.inl [vi 2]) (D, SS L 1 2 c3 c4 c5 c6))))) ∧ (¬ (D 212 i = 28) → ((D 212 i = 29 → (((1 : Int) = 0 → (Q (.inl [vi 1]) (D, SS L 1 2 c3 c4 c5 c6))) ∧ (¬ ((1 : Int) = 0) → (Q (.inl [vi 2]) (D, SS L 1 2 c3 c4 c5 c6))))) ∧ (¬ (D 212 i = 29) → ((D 212 i = 33 → (((1 : Int) = 0 → (Q (.inl [vi 1]) (D, SS L 1 2 c3 c4 c5 c6))) ∧ (¬ ((1 : Int) = 0) → (Q (.inl [vi 2]) (D, SS L 1 2 c3 c4 c5 c6))))) ∧ (¬ (D 212 i = 33) → ((D 212 i = 36 → (((1 : Int) = 0 → (Q (.inl [vi 1]) (D, SS L 1 2 c3 c4 c5 c6))) ∧ (¬ ((1 : Int) = 0) → (Q (.inl [vi 2]) (D, SS L 1 2 c3 c4 c5 c6))))) ∧ (¬ (D 212 i = 36) → (((0 : Int) = 0 → (Q (.inl [vi 1]) (D, SS L 1 2 c3 c4 c5 c6))) ∧ (¬ ((0 : Int) = 0) → (Q (.inl [vi 2]) (D, SS L 1 2 c3 c4 c5 c6))))))))))))) ∧ (¬ (25 < D 212 i) → (((1 : Int) = 0 → (Q (.inl [vi 1]) (D, SS L 1 2 c3 c4 c5 c6))) ∧ (¬ ((1 : Int) = 0) → (Q (.inl [vi 2]) (D, SS L 1 2 c3 c4 c5 c6))))))))) ∧ (¬ (D 212 i < 8) → ((17 < D 212 i → ((D 212 i < 20 → ((D 212 i = 28 → (((1 : Int) = 0 → (Q (.inl [vi 1]) (D, SS L 1 2 c3 c4 c5 c6))) ∧ (¬ ((1 : Int) = 0) → (Q (.inl [vi 2]) (D, SS L 1 2 c3 c4 c5 c6))))) ∧ (¬ (D 212 i = 28) → ((D 212 i = 29 → (((1 : Int) = 0 → (Q (.inl [vi 1]) (D, SS L 1 2 c3 c4 c5 c6))) ∧ (¬ ((1 : Int) = 0) → (Q (.inl [vi 2]) (D, SS L 1 2 c3 c4 c5 c6))))) ∧ (¬ (D 212 i = 29) → ((D 212 i = 33 → (((1 : Int) = 0 → (Q (.inl [vi 1]) (D, SS L 1 2 c3 c4 c5 c6))) ∧ (¬ ((1 : Int) = 0) → (Q (.inl [vi 2]) (D, SS L 1 2 c3 c4 c5 c6))))) ∧ (¬ (D 212 i = 33) → ((D 212 i = 36 → (((1 : Int) = 0 → (Q (.inl [vi 1]) (D, SS L 1 2 c3 c4 c5 c6))) ∧ (¬ ((1 : Int) = 0) → (Q (.inl [vi 2]) (D, SS L 1 2 c3 c4 c5 c6))))) ∧ (¬ (D 212 i = 36) → (((0 : Int) = 0 → (Q (.inl [vi 1]) (D, SS L 1 2 c3 c4 c5 c6))) ∧ (¬ ((0 : Int) = 0) → (Q (.inl [vi 2]) (D, SS L 1 2 c3 c4 c5 c6))))))))))))) ∧ (¬ (D 212 i < 20) → ((25 < D 212 i → ((D 212 i = 28 → (((1 : Int) = 0 → (Q (.inl [vi 1]) (D, SS L 1 2 c3 c4 c5 c6))) ∧ (¬ ((1 : Int) = 0) → (Q (.inl [vi 2]) (D, SS L 1 2 c3 c4 c5 c6))))) ∧ (¬ (D 212 i = 28) → ((D 212 i = 29 → (((1 : Int) = 0 → (Q (.inl [vi 1]) (D, SS L 1 2 c3 c4 c5 c6))) ∧ (¬ ((1 : Int) = 0) → (Q (.inl [vi 2]) (D, SS L 1 2 c3 c4 c5 c6))))) ∧ (¬ (D 212 i = 29) → ((D 212 i = 33 → (((1 : Int) = 0 → (Q (.inl [vi 1]) (D, SS L 1 2 c3 c4 c5 c6))) ∧ (¬ ((1 : Int) = 0) → (Q (.inl [vi 2]) (D, SS L 1 2 c3 c4 c5 c6))))) ∧ (¬ (D 212 i = 33) → ((D 212 i = 36 → (((1 : Int) = 0 → (Q (.inl [vi 1]) (D, SS L 1 2 c3 c4 c5 c6))) ∧ (¬ ((1 : Int) = 0) → (Q (.inl [vi 2]) (D, SS L 1 2 c3 c4 c5 c6))))) ∧ (¬ (D 212 i = 36) → (((0 : Int) = 0 → (Q (.inl [vi 1]) (D, SS L 1 2 c3 c4 c5 c6))) ∧ (¬ ((0 : Int) = 0) → (Q (.inl [vi 2]) (D, SS L 1 2 c3 c4 c5 c6))))))))))))) ∧ (¬ (25 < D 212 i) → (((1 : Int) = 0 → (Q (.inl [vi 1]) (D, SS L 1 2 c3 c4 c5 c6))) ∧ (¬ ((1 : Int) = 0) → (Q (.inl [vi 2]) (D, SS L 1 2 c3 c4 c5 c6))))))))) ∧ (¬ (17 < D 212 i) → (((1 : Int) = 0 → (Q (.inl [vi 1]) (D, SS L 1 2 c3 c4 c5 c6))) ∧ (¬ ((1 : Int) = 0) → (Q (.inl [vi 2]) (D, SS L 1 2 c3 c4 c5 c6)))))))))))))))))))))))))))))))) from ⟨H.1, ⟨fun h115 => vc_wp [27] 200 _ _ _ _ _ _ (show wp 218 27 [vr 197, vi i, vi (D 212 i), vu] [vr 213, vr 206] (D, SS L 1 2 c3 c4 c5 c6) Q from vc_wp [] 200 _ _ _ _ _ _ (show (0 ≤ i ∧ i < 1024) ∧ ((0 ≤ D 213 i ∧ D 213 i < 48) ∧ (Q (.inl [vi (D 206 (D 213 i))]) (D, SS L 1 2 c3 c4 c5 c6))) from ⟨(H.2.1 h115).1, ⟨(H.2.1 h115).2.1, (H.2.1 h115).2.2⟩⟩)), fun h116 => ⟨fun h113 => vc_wp [27] 200 _ _ _ _ _ _ (show wp 218 27 [vr 197, vi i, vi (D 212 i), vu] [vr 213, vr 206] (D, SS L 1 2 c3 c4 c5 c6) Q from vc_wp [] 200 _ _ _ _ _ _ (show (0 ≤ i ∧ i < 1024) ∧ ((0 ≤ D 213 i ∧ D 213 i < 48) ∧ (Q (.inl [vi (D 206 (D 213 i))]) (D, SS L 1 2 c3 c4 c5 c6))) from ⟨((H.2.2 h116).1 h113).1, ⟨((H.2.2 h116).1 h113).2.1, ((H.2.2 h116).1 h113).2.2⟩⟩)), fun h114 => ⟨fun h111 => (((H.2.2 h116).2 h114).1 h111), fun h112 => ⟨fun h109 => ((((H.2.2 h116).2 h114).2 h112).1 h109), fun h110 => ⟨fun h107 => (((((H.2.2 h116).2 h114).2 h112).2 h110).1 h107), fun h108 => ⟨fun h105 => ((((((H.2.2 h116).2 h114).2 h112).2 h110).2 h108).1 h105), fun h106 => ⟨fun h103 => (((((((H.2.2 h116).2 h114).2 h112).2 h110).2 h108).2 h106).1 h103), fun h104 => ⟨fun h101 => ((((((((H.2.2 h116).2 h114).2 h112).2 h110).2 h108).2 h106).2 h104).1 h101), fun h102 => ⟨fun h99 => (((((((((H.2.2 h116).2 h114).2 h112).2 h110).2 h108).2 h106).2 h104).2 h102).1 h99), fun h100 => ⟨fun h97 => ((((((((((H.2.2 h116).2 h114).2 h112).2 h110).2 h108).2 h106).2 h104).2 h102).2 h100).1 h97), fun h98 => ⟨fun h95 => (((((((((((H.2.2 h116).2 h114).2 h112).2 h110).2 h108).2 h106).2 h104).2 h102).2 h100).2 h98).1 h95), fun h96 => ⟨fun h93 => ⟨fun h1 => absurd h1 (by decide), fun _ => ((((((((((((H.2.2 h116).2 h114).2 h112).2 h110).2 h108).2 h106).2 h104).2 h102).2 h100).2 h98).2 h96).1 h93)⟩, fun h94 => ⟨fun h91 => ⟨fun h43 => ⟨fun h19 => ⟨fun h3 => absurd h3 (by decide), fun _ => (((((((((((((((H.2.2 h116).2 h114).2 h112).2 h110).2 h108).2 h106).2 h104).2 h102).2 h100).2 h98).2 h96).2 h94).1 h91).1 h43).1 h19)⟩, fun h20 => ⟨fun h17 => ⟨fun h5 => absurd h5 (by decide), fun _ => ((((((((((((((((H.2.2 h116).2 h114).2 h112).2 h110).2 h108).2 h106).2 h104).2 h102).2 h100).2 h98).2 h96).2 h94).1 h91).1 h43).2 h20).1 h17)⟩, fun h18 => ⟨fun h15 => ⟨fun h7 => absurd h7 (by decide), fun _ => (((((((((((((((((H.2.2 h116).2 h114).2 h112).2 h110).2 h108).2 h106).2 h104).2 h102).2 h100).2 h98).2 h96).2 h94).1 h91).1 h43).2 h20).2 h18).1 h15)⟩, fun h16 => ⟨fun h13 => ⟨fun h9 => absurd h9 (by decide), fun _ => ((((((((((((((((((H.2.2 h116).2 h114).2 h112).2 h110).2 h108).2 h106).2 h104).2 h102).2 h100).2 h98).2 h96).2 h94).1 h91).1 h43).2 h20).2 h18).2 h16).1 h13)⟩, fun h14 => ⟨fun _ => ((((((((((((((((((H.2.2 h116).2 h114).2 h112).2 h110).2 h108).2 h106).2 h104).2 h102).2 h100).2 h98).2 h96).2 h94).1 h91).1 h43).2 h20).2 h18).2 h16).2 h14), fun h12 => absurd (by decide) h12⟩⟩⟩⟩⟩, fun h44 => ⟨fun h41 => ⟨fun h37 => ⟨fun h21 => absurd h21 (by decide), fun _ => ((((((((((((((((H.2.2 h116).2 h114).2 h112).2 h110).2 h108).2 h106).2 h104).2 h102).2 h100).2 h98).2 h96).2 h94).1 h91).2 h44).1 h41).1 h37)⟩, fun h38 => ⟨fun h35 => ⟨fun h23 => absurd h23 (by decide), fun _ => (((((((((((((((((H.2.2 h116).2 h114).2 h112).2 h110).2 h108).2 h106).2 h104).2 h102).2 h100).2 h98).2 h96).2 h94).1 h91).2 h44).1 h41).2 h38).1 h35)⟩, fun h36 => ⟨fun h33 => ⟨fun h25 => absurd h25 (by decide), fun _ => ((((((((((((((((((H.2.2 h116).2 h114).2 h112).2 h110).2 h108).2 h106).2 h104).2 h102).2 h100).2 h98).2 h96).2 h94).1 h91).2 h44).1 h41).2 h38).2 h36).1 h33)⟩, fun h34 => ⟨fun h31 => ⟨fun h27 => absurd h27 (by decide), fun _ => (((((((((((((((((((H.2.2 h116).2 h114).2 h112).2 h110).2 h108).2 h106).2 h104).2 h102).2 h100).2 h98).2 h96).2 h94).1 h91).2 h44).1 h41).2 h38).2 h36).2 h34).1 h31)⟩, fun h32 => ⟨fun _ => (((((((((((((((((((H.2.2 h116).2 h114).2 h112).2 h110).2 h108).2 h106).2 h104).2 h102).2 h100).2 h98).2 h96).2 h94).1 h91).2 h44).1 h41).2 h38).2 h36).2 h34).2 h32), fun h30 => absurd (by decide) h30⟩⟩⟩⟩⟩, fun h42 => ⟨fun h39 => absurd h39 (by decide), fun _ => (((((((((((((((H.2.2 h116).2 h114).2 h112).2 h110).2 h108).2 h106).2 h104).2 h102).2 h100).2 h98).2 h96).2 h94).1 h91).2 h44).2 h42)⟩⟩⟩, fun h92 => ⟨fun h89 => ⟨fun h85 => ⟨fun h61 => ⟨fun h45 => absurd h45 (by decide), fun _ => ((((((((((((((((H.2.2 h116).2 h114).2 h112).2 h110).2 h108).2 h106).2 h104).2 h102).2 h100).2 h98).2 h96).2 h94).2 h92).1 h89).1 h85).1 h61)⟩, fun h62 => ⟨fun h59 => ⟨fun h47 => absurd h47 (by decide), fun _ => (((((((((((((((((H.2.2 h116).2 h114).2 h112).2 h110).2 h108).2 h106).2 h104).2 h102).2 h100).2 h98).2 h96).2 h94).2 h92).1 h89).1 h85).2 h62).1 h59)⟩, fun h60 => ⟨fun h57 => ⟨fun h49 => absurd h49 (by decide), fun _ => ((((((((((((((((((H.2.2 h116).2 h114).2 h112).2 h110).2 h108).2 h106).2 h104).2 h102).2 h100).2 h98).2 h96).2 h94).2 h92).1 h89).1 h85).2 h62).2 h60).1 h57)⟩, fun h58 => ⟨fun h55 => ⟨fun h51 => absurd h51 (by decide), fun _ => (((((((((((((((((((H.2.2 h116).2 h114).2 h112).2 h110).2 h108).2 h106).2 h104).2 h102).2 h100).2 h98).2 h96).2 h94).2 h92).1 h89).1 h85).2 h62).2 h60).2 h58).1 h55)⟩, fun h56 => ⟨fun _ => (((((((((((((((((((H.2.2 h116).2 h114).2 h112).2 h110).2 h108).2 h106).2 h104).2 h102).2 h100).2 h98).2 h96).2 h94).2 h92).1 h89).1 h85).2 h62).2 h60).2 h58).2 h56), fun h54 => absurd (by decide) h54⟩⟩⟩⟩⟩, fun h86 => ⟨fun h83 => ⟨fun h79 => ⟨fun h63 => absurd h63 (by decide), fun _ => (((((((((((((((((H.2.2 h116).2 h114).2 h112).2 h110).2 h108).2 h106).2 h104).2 h102).2 h100).2 h98).2 h96).2 h94).2 h92).1 h89).2 h86).1 h83).1 h79)⟩, fun h80 => ⟨fun h77 => ⟨fun h65 => absurd h65 (by decide), fun _ => ((((((((((((((((((H.2.2 h116).2 h114).2 h112).2 h110).2 h108).2 h106).2 h104).2 h102).2 h100).2 h98).2 h96).2 h94).2 h92).1 h89).2 h86).1 h83).2 h80).1 h77)⟩, fun h78 => ⟨fun h75 => ⟨fun h67 => absurd h67 (by decide), fun _ => (((((((((((((((((((H.2.2 h116).2 h114).2 h112).2 h110).2 h108).2 h106).2 h104).2 h102).2 h100).2 h98).2 h96).2 h94).2 h92).1 h89).2 h86).1 h83).2 h80).2 h78).1 h75)⟩, fun h76 => ⟨fun h73 => ⟨fun h69 => absurd h69 (by decide), fun _ => ((((((((((((((((((((H.2.2 h116).2 h114).2 h112).2 h110).2 h108).2 h106).2 h104).2 h102).2 h100).2 h98).2 h96).2 h94).2 h92).1 h89).2 h86).1 h83).2 h80).2 h78).2 h76).1 h73)⟩, fun h74 => ⟨fun _ => ((((((((((((((((((((H.2.2 h116).2 h114).2 h112).2 h110).2 h108).2 h106).2 h104).2 h102).2 h100).2 h98).2 h96).2 h94).2 h92).1 h89).2 h86).1 h83).2 h80).2 h78).2 h76).2 h74), fun h72 => absurd (by decide) h72⟩⟩⟩⟩⟩, fun h84 => ⟨fun h81 => absurd h81 (by decide), fun _ => ((((((((((((((((H.2.2 h116).2 h114).2 h112).2 h110).2 h108).2 h106).2 h104).2 h102).2 h100).2 h98).2 h96).2 h94).2 h92).1 h89).2 h86).2 h84)⟩⟩⟩, fun h90 => ⟨fun h87 => absurd h87 (by decide), fun _ => ((((((((((((((H.2.2 h116).2 h114).2 h112).2 h110).2 h108).2 h106).2 h104).2 h102).2 h100).2 h98).2 h96).2 h94).2 h92).2 h90)⟩⟩⟩⟩⟩⟩⟩⟩⟩⟩⟩⟩⟩⟩⟩⟩))
theorem s218 {L c3 c4 c5 c6 : Nat} {D : Dt} {Q : Out → Wd → Prop} {i : Int} (H : ∃ x : List Int × List Int × XB × XB, (SCk x.2.2.1 x.2.2.2 D ∧ PH x.1 x.2.1 x.2.2.1 x.2.2.2 ∧ 0 ≤ i ∧ i < (x.2.2.2 0).length) ∧ Q (.inl [vi (tkF x.2.2.1 x.2.2.2 i)]) (D, SS L 1 2 c3 c4 c5 c6)) : wp 218 0 [vr 197, vi i, vu, vu] [] (D, SS L 1 2 c3 c4 c5 c6) Q := by
  obtain ⟨⟨ns, ab, X, Y⟩, ⟨hS, hP, i0, i1⟩, H⟩ := H
  dsimp only at *
  have hr := hP.1.1.2.2.1
  have e0 : D 212 i = lf (Y 0) i := hS.1.2.1 i i0 i1
  have e1 : D 213 i = lf (Y 1) i := hS.1.2.2.1 i i0 (by have := hP.1.1.1.1; omega)
  have hw := (hP.1.2.2.1 i i0 i1).2.2.2
  have hb : (0 ≤ i ∧ i < 1024) := by omega
  have hop := hw.1
  have hcall : lf (Y 0) i = 39 ∨ lf (Y 0) i = 40 → (0 ≤ lf (Y 1) i ∧ lf (Y 1) i < 48) ∧ D 206 (lf (Y 1) i) = tkF X Y i := fun g => by
    have h1 := (hw.2.2.2.2.2.2.1 g).1
    have h48 := hP.2.2.1
    refine ⟨by omega, ?_⟩
    rw [hS.2.2.1 _ h1.1 (by have := hP.2.1.2.2.1; omega)]
    exact (if_pos g).symm
  have hv : ∀ n : Int, ¬ (lf (Y 0) i = 39 ∨ lf (Y 0) i = 40) → tkV (lf (Y 0) i) 0 = n → Q (.inl [vi n]) (D, SS L 1 2 c3 c4 c5 c6) := fun n g e => q_i H (by
    unfold tkF
    rw [← e]
    unfold tkV
    rw [if_neg g, if_neg g])
  refine r218_0 ?_
  rw [e0, e1]
  generalize lf (Y 0) i = op at *
  refine ⟨hb, fun g => ⟨hb, (hcall (Or.inl g)).1, q_i H (hcall (Or.inl g)).2.symm⟩, fun g => ⟨fun g1 => ⟨hb, (hcall (Or.inr g1)).1, q_i H (hcall (Or.inr g1)).2.symm⟩, fun g1 => ?_⟩⟩
  have hno : ¬ (op = 39 ∨ op = 40) := by omega
  have hv := fun n e => hv n hno e
  clear H hcall hw hS
  unfold tkV at hv
  rw [if_neg hno] at hv
  repeat' (first | (refine hv _ ?_; (repeat' split) <;> omega) | refine ⟨?_, ?_⟩ | intro _)
theorem r219_0 {L c3 c4 c5 c6 : Nat} {D : Dt} {Q : Out → Wd → Prop} {i : Int} (H : (0 ≤ i ∧ i < 1024) ∧ ((D 212 i = 39 → ((0 ≤ i ∧ i < 1024) ∧ ((0 ≤ D 213 i ∧ D 213 i < 48) ∧ ((D 208 (D 213 i) < 0 → (Q (.inl [vi 0]) (D, SS L 1 2 c3 c4 c5 c6))) ∧ (¬ (D 208 (D 213 i) < 0) → (Q (.inl [vi 1]) (D, SS L 1 2 c3 c4 c5 c6))))))) ∧ (¬ (D 212 i = 39) → ((D 212 i = 40 → ((0 ≤ i ∧ i < 1024) ∧ ((0 ≤ D 213 i ∧ D 213 i < 48) ∧ ((D 208 (D 213 i) < 0 → (Q (.inl [vi 0]) (D, SS L 1 2 c3 c4 c5 c6))) ∧ (¬ (D 208 (D 213 i) < 0) → (Q (.inl [vi 1]) (D, SS L 1 2 c3 c4 c5 c6))))))) ∧ (¬ (D 212 i = 40) → ((D 212 i = 5 → (Q (.inl [vi 2]) (D, SS L 1 2 c3 c4 c5 c6))) ∧ (¬ (D 212 i = 5) → ((D 212 i = 7 → (Q (.inl [vi 2]) (D, SS L 1 2 c3 c4 c5 c6))) ∧ (¬ (D 212 i = 7) → ((D 212 i = 3 → (Q (.inl [vi 0]) (D, SS L 1 2 c3 c4 c5 c6))) ∧ (¬ (D 212 i = 3) → ((D 212 i = 4 → (Q (.inl [vi 0]) (D, SS L 1 2 c3 c4 c5 c6))) ∧ (¬ (D 212 i = 4) → ((D 212 i = 6 → (Q (.inl [vi 0]) (D, SS L 1 2 c3 c4 c5 c6))) ∧ (¬ (D 212 i = 6) → ((D 212 i < 19 → ((D 212 i = 34 → (Q (.inl [vi 0]) (D, SS L 1 2 c3 c4 c5 c6))) ∧ (¬ (D 212 i = 34) → ((D 212 i = 36 → (Q (.inl [vi 0]) (D, SS L 1 2 c3 c4 c5 c6))) ∧ (¬ (D 212 i = 36) → ((D 212 i < 41 → ((D 212 i = 45 → (Q (.inl [vi 0]) (D, SS L 1 2 c3 c4 c5 c6))) ∧ (¬ (D 212 i = 45) → (Q (.inl [vi 1]) (D, SS L 1 2 c3 c4 c5 c6))))) ∧ (¬ (D 212 i < 41) → ((43 < D 212 i → ((D 212 i = 45 → (Q (.inl [vi 0]) (D, SS L 1 2 c3 c4 c5 c6))) ∧ (¬ (D 212 i = 45) → (Q (.inl [vi 1]) (D, SS L 1 2 c3 c4 c5 c6))))) ∧ (¬ (43 < D 212 i) → (Q (.inl [vi 0]) (D, SS L 1 2 c3 c4 c5 c6))))))))))) ∧ (¬ (D 212 i < 19) → ((29 < D 212 i → ((D 212 i = 34 → (Q (.inl [vi 0]) (D, SS L 1 2 c3 c4 c5 c6))) ∧ (¬ (D 212 i = 34) → ((D 212 i = 36 → (Q (.inl [vi 0]) (D, SS L 1 2 c3 c4 c5 c6))) ∧ (¬ (D 212 i = 36) → ((D 212 i < 41 → ((D 212 i = 45 → (Q (.inl [vi 0]) (D, SS L 1 2 c3 c4 c5 c6))) ∧ (¬ (D 212 i = 45) → (Q (.inl [vi 1]) (D, SS L 1 2 c3 c4 c5 c6))))) ∧ (¬ (D 212 i < 41) → ((43 < D 212 i → ((D 212 i = 45 → (Q (.inl [vi 0]) (D, SS L 1 2 c3 c4 c5 c6))) ∧ (¬ (D 212 i = 45) → (Q (.inl [vi 1]) (D, SS L 1 2 c3 c4 c5 c6))))) ∧ (¬ (43 < D 212 i) → (Q (.inl [vi 0]) (D, SS L 1 2 c3 c4 c5 c6))))))))))) ∧ (¬ (29 < D 212 i) → (Q (.inl [vi 0]) (D, SS L 1 2 c3 c4 c5 c6))))))))))))))))))))) : wp 219 0 [vr 197, vi i, vu, vu] [] (D, SS L 1 2 c3 c4 c5 c6) Q := vc_wp [4] 200 _ _ _ _ _ _ (show wp 219 4 [vr 197, vi i, vu, vu] [vr 212] (D, SS L 1 2 c3 c4 c5 c6) Q from vc_wp [23] 200 _ _ _ _ _ _ (show (0 ≤ i ∧ i < 1024) ∧ ((D 212 i = 39 → (wp 219 23 [vr 197, vi i, vi (D 212 i), vu] [vr 208] (D, SS L 1 2 c3 c4 c5 c6) Q)) ∧ (¬ (D 212 i = 39) → ((D 212 i = 40 → (wp 219 23 [vr 197, vi i, vi (D 212 i), vu] [vr 208] (D, SS L 1 2 c3 c4 c5 c6) Q)) ∧ (¬ (D 212 i = 40) → ((D 212 i = 5 → (Q (.inl [vi 2]) (D, SS L 1 2 c3 c4 c5 c6))) ∧ (¬ (D 212 i = 5) → ((D 212 i = 7 → (Q (.inl [vi 2]) (D, SS L 1 2 c3 c4 c5 c6))) ∧ (¬ (D 212 i = 7) → ((D 212 i = 3 → (((1 : Int) = 0 → (Q (.inl [vi 1]) (D, SS L 1 2 c3 c4 c5 c6))) ∧ (¬ ((1 : Int) = 0) → (Q (.inl [vi 0]) (D, SS L 1 2 c3 c4 c5 c6))))) ∧ (¬ (D 212 i = 3) → ((D 212 i = 4 → (((1 : Int) = 0 → (Q (.inl [vi 1]) (D, SS L 1 2 c3 c4 c5 c6))) ∧ (¬ ((1 : Int) = 0) → (Q (.inl [vi 0]) (D, SS L 1 2 c3 c4 c5 c6))))) ∧ (¬ (D 212 i = 4) → ((D 212 i = 6 → (((1 : Int) = 0 → (Q (.inl [vi 1]) (D, SS L 1 2 c3 c4 c5 c6))) ∧ (¬ ((1 : Int) = 0) → (Q (.inl [vi 0]) (D, SS L 1 2 c3 c4 c5 c6))))) ∧ (¬ (D 212 i = 6) → ((D 212 i < 19 → ((D 212 i = 34 → (((1 : Int) = 0 → (Q (.inl [vi 1]) (D, SS L 1 2 c3 c4 c5 c6))) ∧ (¬ ((1 : Int) = 0) → (Q (.inl [vi 0]) (D, SS L 1 2 c3 c4 c5 c6))))) ∧ (¬ (D 212 i = 34) → ((D 212 i = 36 → (((1 : Int) = 0 → (Q (.inl [vi 1]) (D, SS L 1 2 c3 c4 c5 c6))) ∧ (¬ ((1 : Int) = 0) → (Q (.inl [vi 0]) (D, SS L 1 2 c3 c4 c5 c6))))) ∧ (¬ (D 212 i = 36) → ((D 212 i < 41 → ((D 212 i = 45 → (((1 : Int) = 0 → (Q (.inl [vi 1]) (D, SS L 1 2 c3 c4 c5 c6))) ∧ (¬ ((1 : Int) = 0) → (Q (.inl [vi 0]) (D, SS L 1 2 c3 c4 c5 c6))))) ∧ (¬ (D 212 i = 45) → (((0 : Int) = 0 → (Q (.inl [vi 1]) (D, SS L 1 2 c3 c4 c5 c6))) ∧ (¬ ((0 : Int) = 0) → (Q (.inl [vi 0]) (D, SS L 1 2 c3 c4 c5 c6))))))) ∧ (¬ (D 212 i < 41) → ((43 < D 212 i → ((D 212 i = 45 → (((1 : Int) = 0 → (Q (.inl [vi 1]) (D, SS L 1 2 c3 c4 c5 c6))) ∧ (¬ ((1 : Int) = 0) → (Q (.inl [vi 0]) (D, SS L 1 2 c3 c4 c5 c6))))) ∧ (¬ (D 212 i = 45) → (((0 : Int) = 0 → (Q (.inl [vi 1]) (D, SS L 1 2 c3 c4 c5 c6))) ∧ (¬ ((0 : Int) = 0) → (Q (.inl [vi 0]) (D, SS L 1 2 c3 c4 c5 c6))))))) ∧ (¬ (43 < D 212 i) → (((1 : Int) = 0 → (Q (.inl [vi 1]) (D, SS L 1 2 c3 c4 c5 c6))) ∧ (¬ ((1 : Int) = 0) → (Q (.inl [vi 0]) (D, SS L 1 2 c3 c4 c5 c6))))))))))))) ∧ (¬ (D 212 i < 19) → ((29 < D 212 i → ((D 212 i = 34 → (((1 : Int) = 0 → (Q (.inl [vi 1]) (D, SS L 1 2 c3 c4 c5 c6))) ∧ (¬ ((1 : Int) = 0) → (Q (.inl [vi 0]) (D, SS L 1 2 c3 c4 c5 c6))))) ∧ (¬ (D 212 i = 34) → ((D 212 i = 36 → (((1 : Int) = 0 → (Q (.inl [vi 1]) (D, SS L 1 2 c3 c4 c5 c6))) ∧ (¬ ((1 : Int) = 0) → (Q (.inl [vi 0]) (D, SS L 1 2 c3 c4 c5 c6))))) ∧ (¬ (D 212 i = 36) → ((D 212 i < 41 → ((D 212 i = 45 → (((1 : Int) = 0 → (Q (.inl [vi 1]) (D, SS L 1 2 c3 c4 c5 c6))) ∧ (¬ ((1 : Int) = 0) → (Q (.inl [vi 0]) (D, SS L 1 2 c3 c4 c5 c6))))) ∧ (¬ (D 212 i = 45) → (((0 : Int) = 0 → (Q (.inl [vi 1]) (D, SS L 1 2 c3 c4 c5 c6))) ∧ (¬ ((0 : Int) = 0) → (Q (.inl [vi 0]) (D, SS L 1 2 c3 c4 c5 c6))))))) ∧ (¬ (D 212 i < 41) → ((43 < D 212 i → ((D 212 i = 45 → (((1 : Int) = 0 → (Q (.inl [vi 1]) (D, SS L 1 2 c3 c4 c5 c6))) ∧ (¬ ((1 : Int) = 0) → (Q (.inl [vi 0]) (D, SS L 1 2 c3 c4 c5 c6))))) ∧ (¬ (D 212 i = 45) → (((0 : Int) = 0 → (Q (.inl [vi 1]) (D, SS L 1 2 c3 c4 c5 c6))) ∧ (¬ ((0 : Int) = 0) → (Q (.inl [vi 0]) (D, SS L 1 2 c3 c4 c5 c6))))))) ∧ (¬ (43 < D 212 i) → (((1 : Int) = 0 → (Q (.inl [vi 1]) (D, SS L 1 2 c3 c4 c5 c6))) ∧ (¬ ((1 : Int) = 0) → (Q (.inl [vi 0]) (D, SS L 1 2 c3 c4 c5 c6))))))))))))) ∧ (¬ (29 < D 212 i) → (((1 : Int) = 0 → (Q (.inl [vi 1]) (D, SS L 1 2 c3 c4 c5 c6))) ∧ (¬ ((1 : Int) = 0) → (Q (.inl [vi 0]) (D, SS L 1 2 c3 c4 c5 c6)))))))))))))))))))))) from ⟨H.1, ⟨fun h81 => vc_wp [27] 200 _ _ _ _ _ _ (show wp 219 27 [vr 197, vi i, vi (D 212 i), vu] [vr 213, vr 208] (D, SS L 1 2 c3 c4 c5 c6) Q from vc_wp [] 200 _ _ _ _ _ _ (show (0 ≤ i ∧ i < 1024) ∧ ((0 ≤ D 213 i ∧ D 213 i < 48) ∧ ((D 208 (D 213 i) < 0 → (Q (.inl [vi 0]) (D, SS L 1 2 c3 c4 c5 c6))) ∧ (¬ (D 208 (D 213 i) < 0) → (Q (.inl [vi 1]) (D, SS L 1 2 c3 c4 c5 c6))))) from ⟨(H.2.1 h81).1, ⟨(H.2.1 h81).2.1, ⟨fun h1 => ((H.2.1 h81).2.2.1 h1), fun h2 => ((H.2.1 h81).2.2.2 h2)⟩⟩⟩)), fun h82 => ⟨fun h79 => vc_wp [27] 200 _ _ _ _ _ _ (show wp 219 27 [vr 197, vi i, vi (D 212 i), vu] [vr 213, vr 208] (D, SS L 1 2 c3 c4 c5 c6) Q from vc_wp [] 200 _ _ _ _ _ _ (show (0 ≤ i ∧ i < 1024) ∧ ((0 ≤ D 213 i ∧ D 213 i < 48) ∧ ((D 208 (D 213 i) < 0 → (Q (.inl [vi 0]) (D, SS L 1 2 c3 c4 c5 c6))) ∧ (¬ (D 208 (D 213 i) < 0) → (Q (.inl [vi 1]) (D, SS L 1 2 c3 c4 c5 c6))))) from ⟨((H.2.2 h82).1 h79).1, ⟨((H.2.2 h82).1 h79).2.1, ⟨fun h3 => (((H.2.2 h82).1 h79).2.2.1 h3), fun h4 => (((H.2.2 h82).1 h79).2.2.2 h4)⟩⟩⟩)), fun h80 => ⟨fun h77 => (((H.2.2 h82).2 h80).1 h77), fun h78 => ⟨fun h75 => ((((H.2.2 h82).2 h80).2 h78).1 h75), fun h76 => ⟨fun h73 => ⟨fun h5 => absurd h5 (by decide), fun _ => (((((H.2.2 h82).2 h80).2 h78).2 h76).1 h73)⟩, fun h74 => ⟨fun h71 => ⟨fun h7 => absurd h7 (by decide), fun _ => ((((((H.2.2 h82).2 h80).2 h78).2 h76).2 h74).1 h71)⟩, fun h72 => ⟨fun h69 => ⟨fun h9 => absurd h9 (by decide), fun _ => (((((((H.2.2 h82).2 h80).2 h78).2 h76).2 h74).2 h72).1 h69)⟩, fun h70 => ⟨fun h67 => ⟨fun h35 => ⟨fun h11 => absurd h11 (by decide), fun _ => (((((((((H.2.2 h82).2 h80).2 h78).2 h76).2 h74).2 h72).2 h70).1 h67).1 h35)⟩, fun h36 => ⟨fun h33 => ⟨fun h13 => absurd h13 (by decide), fun _ => ((((((((((H.2.2 h82).2 h80).2 h78).2 h76).2 h74).2 h72).2 h70).1 h67).2 h36).1 h33)⟩, fun h34 => ⟨fun h31 => ⟨fun h19 => ⟨fun h15 => absurd h15 (by decide), fun _ => ((((((((((((H.2.2 h82).2 h80).2 h78).2 h76).2 h74).2 h72).2 h70).1 h67).2 h36).2 h34).1 h31).1 h19)⟩, fun h20 => ⟨fun _ => ((((((((((((H.2.2 h82).2 h80).2 h78).2 h76).2 h74).2 h72).2 h70).1 h67).2 h36).2 h34).1 h31).2 h20), fun h18 => absurd (by decide) h18⟩⟩, fun h32 => ⟨fun h29 => ⟨fun h25 => ⟨fun h21 => absurd h21 (by decide), fun _ => (((((((((((((H.2.2 h82).2 h80).2 h78).2 h76).2 h74).2 h72).2 h70).1 h67).2 h36).2 h34).2 h32).1 h29).1 h25)⟩, fun h26 => ⟨fun _ => (((((((((((((H.2.2 h82).2 h80).2 h78).2 h76).2 h74).2 h72).2 h70).1 h67).2 h36).2 h34).2 h32).1 h29).2 h26), fun h24 => absurd (by decide) h24⟩⟩, fun h30 => ⟨fun h27 => absurd h27 (by decide), fun _ => ((((((((((((H.2.2 h82).2 h80).2 h78).2 h76).2 h74).2 h72).2 h70).1 h67).2 h36).2 h34).2 h32).2 h30)⟩⟩⟩⟩⟩, fun h68 => ⟨fun h65 => ⟨fun h61 => ⟨fun h37 => absurd h37 (by decide), fun _ => ((((((((((H.2.2 h82).2 h80).2 h78).2 h76).2 h74).2 h72).2 h70).2 h68).1 h65).1 h61)⟩, fun h62 => ⟨fun h59 => ⟨fun h39 => absurd h39 (by decide), fun _ => (((((((((((H.2.2 h82).2 h80).2 h78).2 h76).2 h74).2 h72).2 h70).2 h68).1 h65).2 h62).1 h59)⟩, fun h60 => ⟨fun h57 => ⟨fun h45 => ⟨fun h41 => absurd h41 (by decide), fun _ => (((((((((((((H.2.2 h82).2 h80).2 h78).2 h76).2 h74).2 h72).2 h70).2 h68).1 h65).2 h62).2 h60).1 h57).1 h45)⟩, fun h46 => ⟨fun _ => (((((((((((((H.2.2 h82).2 h80).2 h78).2 h76).2 h74).2 h72).2 h70).2 h68).1 h65).2 h62).2 h60).1 h57).2 h46), fun h44 => absurd (by decide) h44⟩⟩, fun h58 => ⟨fun h55 => ⟨fun h51 => ⟨fun h47 => absurd h47 (by decide), fun _ => ((((((((((((((H.2.2 h82).2 h80).2 h78).2 h76).2 h74).2 h72).2 h70).2 h68).1 h65).2 h62).2 h60).2 h58).1 h55).1 h51)⟩, fun h52 => ⟨fun _ => ((((((((((((((H.2.2 h82).2 h80).2 h78).2 h76).2 h74).2 h72).2 h70).2 h68).1 h65).2 h62).2 h60).2 h58).1 h55).2 h52), fun h50 => absurd (by decide) h50⟩⟩, fun h56 => ⟨fun h53 => absurd h53 (by decide), fun _ => (((((((((((((H.2.2 h82).2 h80).2 h78).2 h76).2 h74).2 h72).2 h70).2 h68).1 h65).2 h62).2 h60).2 h58).2 h56)⟩⟩⟩⟩⟩, fun h66 => ⟨fun h63 => absurd h63 (by decide), fun _ => (((((((((H.2.2 h82).2 h80).2 h78).2 h76).2 h74).2 h72).2 h70).2 h68).2 h66)⟩⟩⟩⟩⟩⟩⟩⟩⟩⟩⟩))
theorem s219 {L c3 c4 c5 c6 : Nat} {D : Dt} {Q : Out → Wd → Prop} {i : Int} (H : ∃ x : List Int × List Int × XB × XB, (SCk x.2.2.1 x.2.2.2 D ∧ PH x.1 x.2.1 x.2.2.1 x.2.2.2 ∧ 0 ≤ i ∧ i < (x.2.2.2 0).length) ∧ Q (.inl [vi (lvF x.2.2.1 x.2.2.2 i)]) (D, SS L 1 2 c3 c4 c5 c6)) : wp 219 0 [vr 197, vi i, vu, vu] [] (D, SS L 1 2 c3 c4 c5 c6) Q := by
  obtain ⟨⟨ns, ab, X, Y⟩, ⟨hS, hP, i0, i1⟩, H⟩ := H
  dsimp only at *
  have hr := hP.1.1.2.2.1
  have e0 : D 212 i = lf (Y 0) i := hS.1.2.1 i i0 i1
  have e1 : D 213 i = lf (Y 1) i := hS.1.2.2.1 i i0 (by have := hP.1.1.1.1; omega)
  have hw := (hP.1.2.2.1 i i0 i1).2.2.2
  have hb : (0 ≤ i ∧ i < 1024) := by omega
  have hop := hw.1
  have hcall : lf (Y 0) i = 39 ∨ lf (Y 0) i = 40 → (0 ≤ lf (Y 1) i ∧ lf (Y 1) i < 48) ∧ D 208 (lf (Y 1) i) = lf (X 8) (lf (Y 1) i) ∧ lvF X Y i = (if lf (X 8) (lf (Y 1) i) < 0 then 0 else 1) := fun g => by
    have h1 := (hw.2.2.2.2.2.2.1 g).1
    have h48 := hP.2.2.1
    exact ⟨by omega, hS.2.2.2.1 _ h1.1 (by have := hP.2.1.2.2.2.1; omega), if_pos g⟩
  have hv : ∀ n : Int, ¬ (lf (Y 0) i = 39 ∨ lf (Y 0) i = 40) → lvV (lf (Y 0) i) 0 = n → Q (.inl [vi n]) (D, SS L 1 2 c3 c4 c5 c6) := fun n g e => q_i H (by
    unfold lvF
    rw [← e]
    unfold lvV
    rw [if_neg g, if_neg g])
  have hc2 : lf (Y 0) i = 39 ∨ lf (Y 0) i = 40 → (0 ≤ i ∧ i < 1024) ∧ (0 ≤ lf (Y 1) i ∧ lf (Y 1) i < 48) ∧ (D 208 (lf (Y 1) i) < 0 → Q (.inl [vi 0]) (D, SS L 1 2 c3 c4 c5 c6)) ∧ (¬ D 208 (lf (Y 1) i) < 0 → Q (.inl [vi 1]) (D, SS L 1 2 c3 c4 c5 c6)) := fun g => by
    obtain ⟨q1, q2, q3⟩ := hcall g
    rw [q2]
    exact ⟨hb, q1, fun x => q_i H (by rw [q3, if_pos x]), fun x => q_i H (by rw [q3, if_neg x])⟩
  refine r219_0 ?_
  rw [e0, e1]
  generalize lf (Y 0) i = op at *
  refine ⟨hb, fun g => hc2 (Or.inl g), fun g => ⟨fun g1 => hc2 (Or.inr g1), fun g1 => ?_⟩⟩
  have hno : ¬ (op = 39 ∨ op = 40) := by omega
  have hv := fun n e => hv n hno e
  clear H hcall hw hS hc2
  unfold lvV at hv
  rw [if_neg hno] at hv
  repeat' (first | (refine hv _ ?_; (repeat' split) <;> omega) | refine ⟨?_, ?_⟩ | intro _)
theorem r220_0 {L c3 c4 c5 c6 : Nat} {D : Dt} {Q : Out → Wd → Prop} {i : Int} (H : (0 ≤ i ∧ i < 1024) ∧ ((D 212 i < 19 → (Q (.inl [vi 0]) (D, SS L 1 2 c3 c4 c5 c6))) ∧ (¬ (D 212 i < 19) → ((0 ≤ i ∧ i < 1024) ∧ ((29 < D 212 i → (Q (.inl [vi 0]) (D, SS L 1 2 c3 c4 c5 c6))) ∧ (¬ (29 < D 212 i) → (Q (.inl [vi 1]) (D, SS L 1 2 c3 c4 c5 c6)))))))) : wp 220 0 [vr 197, vi i] [] (D, SS L 1 2 c3 c4 c5 c6) Q := vc_wp [4] 200 _ _ _ _ _ _ (show wp 220 4 [vr 197, vi i] [vr 212] (D, SS L 1 2 c3 c4 c5 c6) Q from vc_wp [15] 200 _ _ _ _ _ _ (show (0 ≤ i ∧ i < 1024) ∧ ((D 212 i < 19 → (((0 : Int) ≤ 0 ∧ 0 ≤ (1 : Int)) ∧ (Q (.inl [vi 0]) (D, SS L 1 2 c3 c4 c5 c6)))) ∧ (¬ (D 212 i < 19) → (wp 220 15 [vr 197, vi i] [vr 212] (D, SS L 1 2 c3 c4 c5 c6) Q))) from ⟨H.1, ⟨fun h3 => ⟨(by decide), (H.2.1 h3)⟩, fun h4 => vc_wp [] 200 _ _ _ _ _ _ (show (0 ≤ i ∧ i < 1024) ∧ ((29 < D 212 i → (((0 : Int) ≤ 0 ∧ 0 ≤ (1 : Int)) ∧ (Q (.inl [vi 0]) (D, SS L 1 2 c3 c4 c5 c6)))) ∧ (¬ (29 < D 212 i) → (((0 : Int) ≤ 1 ∧ 1 ≤ (1 : Int)) ∧ (Q (.inl [vi 1]) (D, SS L 1 2 c3 c4 c5 c6))))) from ⟨(H.2.2 h4).1, ⟨fun h1 => ⟨(by decide), ((H.2.2 h4).2.1 h1)⟩, fun h2 => ⟨(by decide), ((H.2.2 h4).2.2 h2)⟩⟩⟩)⟩⟩))
theorem s220 {L c3 c4 c5 c6 : Nat} {D : Dt} {Q : Out → Wd → Prop} {i : Int} (H : (0 ≤ i ∧ i < 1024) ∧ Q (.inl [vi (ib (isJ (D 212 i)))]) (D, SS L 1 2 c3 c4 c5 c6)) : wp 220 0 [vr 197, vi i] [] (D, SS L 1 2 c3 c4 c5 c6) Q := by
  obtain ⟨hb, H⟩ := H
  exact r220_0 ⟨hb, fun g => q_i H (ib_f fun x => by unfold isJ at x; omega), fun g => ⟨hb, fun g1 => q_i H (ib_f fun x => by unfold isJ at x; omega), fun g1 => q_i H (ib_t (by unfold isJ; omega))⟩⟩
theorem r98_0 {L c4 c5 c6 : Nat} {D : Dt} {Q : Out → Wd → Prop} {c i : Int} (H : (0 ≤ c ∧ c < 64) ∧ ((i < D 219 c → (Q (.inl [vi 0]) (D, SS L 1 2 2 c4 c5 c6))) ∧ (¬ (i < D 219 c) → ((0 ≤ c ∧ c < 64) ∧ ((i < D 220 c → (Q (.inl [vi 1]) (D, SS L 1 2 2 c4 c5 c6))) ∧ (¬ (i < D 220 c) → (Q (.inl [vi 0]) (D, SS L 1 2 2 c4 c5 c6)))))))) : wp 98 0 [vr 87, vi c, vi i] [] (D, SS L 1 2 2 c4 c5 c6) Q := vc_wp [5] 200 _ _ _ _ _ _ (show wp 98 5 [vr 87, vi c, vi i] [vr 197, vi i] (D, SS L 1 2 2 c4 c5 c6) Q from vc_wp [8] 200 _ _ _ _ _ _ (show wp 98 8 [vr 87, vi c, vi i] [vr 219, vi i] (D, SS L 1 2 2 c4 c5 c6) Q from vc_wp [18] 200 _ _ _ _ _ _ (show (0 ≤ c ∧ c < 64) ∧ ((i < D 219 c → (((0 : Int) ≤ 0 ∧ 0 ≤ (1 : Int)) ∧ (Q (.inl [vi 0]) (D, SS L 1 2 2 c4 c5 c6)))) ∧ (¬ (i < D 219 c) → (wp 98 18 [vr 87, vi c, vi i] [vr 197, vi i] (D, SS L 1 2 2 c4 c5 c6) Q))) from ⟨H.1, ⟨fun h3 => ⟨(by decide), (H.2.1 h3)⟩, fun h4 => vc_wp [21] 200 _ _ _ _ _ _ (show wp 98 21 [vr 87, vi c, vi i] [vr 220, vi i] (D, SS L 1 2 2 c4 c5 c6) Q from vc_wp [] 200 _ _ _ _ _ _ (show (0 ≤ c ∧ c < 64) ∧ ((i < D 220 c → (((0 : Int) ≤ 1 ∧ 1 ≤ (1 : Int)) ∧ (Q (.inl [vi 1]) (D, SS L 1 2 2 c4 c5 c6)))) ∧ (¬ (i < D 220 c) → (((0 : Int) ≤ 0 ∧ 0 ≤ (1 : Int)) ∧ (Q (.inl [vi 0]) (D, SS L 1 2 2 c4 c5 c6))))) from ⟨(H.2.2 h4).1, ⟨fun h1 => ⟨(by decide), ((H.2.2 h4).2.1 h1)⟩, fun h2 => ⟨(by decide), ((H.2.2 h4).2.2 h2)⟩⟩⟩))⟩⟩)))
theorem s98 {L c4 c5 c6 : Nat} {D : Dt} {Q : Out → Wd → Prop} {c i : Int} (H : (0 ≤ c ∧ c < 64) ∧ Q (.inl [vi (ib (D 219 c ≤ i ∧ i < D 220 c))]) (D, SS L 1 2 2 c4 c5 c6)) : wp 98 0 [vr 87, vi c, vi i] [] (D, SS L 1 2 2 c4 c5 c6) Q := by
  obtain ⟨hb, H⟩ := H
  exact r98_0 ⟨hb, fun g => q_i H (ib_f fun x => by omega), fun g => ⟨hb, fun g1 => q_i H (ib_t ⟨by omega, g1⟩), fun g1 => q_i H (ib_f fun x => by omega)⟩⟩
/-- heights H at places f .. e-1 -/
def HR (f e : Int) (H : Int → Nat) (z : Int → Int) : Prop := ∀ i : Int, f ≤ i → i < e → z i = (H i : Int) ∧ H i < 512
def FrH (D E : Dt) : Prop := (∀ b, ¬ b = 87 → ¬ b = 88 → ¬ b = 89 → E b = D b) ∧ ∀ i, ¬ i = 7 → E 87 i = D 87 i
theorem FrH.r (D : Dt) : FrH D D := ⟨fun _ _ _ _ => rfl, fun _ _ => rfl⟩
theorem FrH.t {D E F : Dt} (h : FrH D E) (h2 : FrH E F) : FrH D F := ⟨fun b x y z => (h2.1 b x y z).trans (h.1 b x y z), fun i x => (h2.2 i x).trans (h.2 i x)⟩
theorem FrH.u {D E : Dt} (h : FrH D E) {a : Nat} {i v : Int} (ha : a = 88 ∨ a = 89 ∨ (a = 87 ∧ i = 7)) : FrH D (up E a i v) := by
  refine ⟨fun b x y z => ?_, fun j x => ?_⟩
  · rw [ub_a (by omega)]; exact h.1 b x y z
  · by_cases e : a = 87
    · subst e
      rw [ub_n (by omega)]; exact h.2 j x
    · rw [ub_a (by omega)]; exact h.2 j x
theorem SCk.h {X Y : XB} {D E : Dt} (h : SCk X Y D) (f : FrH D E) : SCk X Y E := by
  have g : ∀ b, ¬ b = 87 ∧ ¬ b = 88 ∧ ¬ b = 89 → E b = D b := fun b x => f.1 b x.1 x.2.1 x.2.2
  unfold SCk CdS FeS
  rw [g 197 (by decide), g 212 (by decide), g 213 (by decide), g 214 (by decide), g 215 (by decide), g 216 (by decide), g 218 (by decide), g 219 (by decide), g 220 (by decide), g 221 (by decide), g 222 (by decide), g 210 (by decide), g 211 (by decide), g 206 (by decide), g 208 (by decide)]
  exact h
/-- heights grew from H to H', by what R has; whether any did is told in m, m' -/
def RS (R : Int → Nat → Prop) (f e : Int) (H : Int → Nat) (m : Int) (H' : Int → Nat) (m' : Int) : Prop := (∀ j : Int, f ≤ j → j < e → H j ≤ H' j ∧ ∀ g : Nat, (H j).testBit g = true → (H' j).testBit g = true) ∧ (∀ (j : Int) (g : Nat), f ≤ j → j < e → (H' j).testBit g = true → (H j).testBit g = true ∨ R j g) ∧ ((m' = m ∧ ∀ j : Int, f ≤ j → j < e → H' j = H j) ∨ (m' = 1 ∧ ∃ j : Int, f ≤ j ∧ j < e ∧ H j < H' j))
theorem RS.r {R : Int → Nat → Prop} {f e : Int} {H : Int → Nat} {m : Int} : RS R f e H m H m := ⟨fun _ _ _ => ⟨Nat.le_refl _, fun _ h => h⟩, fun _ _ _ _ h => Or.inl h, Or.inl ⟨rfl, fun _ _ _ => rfl⟩⟩
theorem RS.t {R : Int → Nat → Prop} {f e : Int} {H H' H'' : Int → Nat} {m m' m'' : Int} (h : RS R f e H m H' m') (h2 : RS R f e H' m' H'' m'') : RS R f e H m H'' m'' := by
  refine ⟨fun j j0 j1 => ⟨Nat.le_trans (h.1 j j0 j1).1 (h2.1 j j0 j1).1, fun g x => (h2.1 j j0 j1).2 g ((h.1 j j0 j1).2 g x)⟩, fun j g j0 j1 x => (h2.2.1 j g j0 j1 x).elim (fun y => h.2.1 j g j0 j1 y) Or.inr, ?_⟩
  rcases h.2.2 with ⟨a1, a2⟩ | ⟨a1, j, j0, j1, a2⟩
  · rcases h2.2.2 with ⟨b1, b2⟩ | ⟨b1, j, j0, j1, b2⟩
    · exact Or.inl ⟨b1.trans a1, fun j j0 j1 => (b2 j j0 j1).trans (a2 j j0 j1)⟩
    · exact Or.inr ⟨b1, j, j0, j1, by rw [← a2 j j0 j1]; exact b2⟩
  · refine Or.inr ⟨?_, j, j0, j1, Nat.lt_of_lt_of_le a2 (h2.1 j j0 j1).1⟩
    rcases h2.2.2 with b | b
    · exact b.1.trans a1
    · exact b.1
theorem r96_0 {L c4 c5 c6 : Nat} {D : Dt} {Q : Out → Wd → Prop} {i h : Int} (H : (0 ≤ i ∧ i < 1024) ∧ ((band (ishr (D 88 i) h) 1 = 1 → (Q (.inl []) (D, SS L 1 2 2 c4 c5 c6))) ∧ (¬ (band (ishr (D 88 i) h) 1 = 1) → ((0 ≤ i ∧ i < 1024) ∧ ((0 ≤ i ∧ i < 1024) ∧ (Q (.inl []) (up (up D 88 i (bor (D 88 i) (ishl 1 h))) 87 7 1, SS L 1 2 2 c4 c5 c6))))))) : wp 96 0 [vr 87, vi i, vi h] [] (D, SS L 1 2 2 c4 c5 c6) Q := vc_wp [4] 200 _ _ _ _ _ _ (show wp 96 4 [vr 87, vi i, vi h] [vr 88] (D, SS L 1 2 2 c4 c5 c6) Q from vc_wp [19] 200 _ _ _ _ _ _ (show (0 ≤ i ∧ i < 1024) ∧ ((band (ishr (D 88 i) h) 1 = 1 → (Q (.inl []) (D, SS L 1 2 2 c4 c5 c6))) ∧ (¬ (band (ishr (D 88 i) h) 1 = 1) → (wp 96 19 [vr 87, vi i, vi h] [vr 88] (D, SS L 1 2 2 c4 c5 c6) Q))) from ⟨H.1, ⟨fun h1 => (H.2.1 h1), fun h2 => vc_wp [32] 200 _ _ _ _ _ _ (show (0 ≤ i ∧ i < 1024) ∧ ((0 ≤ i ∧ i < 1024) ∧ (((0 : Int) ≤ 1 ∧ 1 ≤ (1 : Int)) ∧ (wp 96 32 [vr 87, vi i, vi h] [] (up (up D 88 i (bor (D 88 i) (ishl 1 h))) 87 7 1, SS L 1 2 2 c4 c5 c6) Q))) from ⟨(H.2.2 h2).1, ⟨(H.2.2 h2).2.1, ⟨(by decide), vc_wp [] 200 _ _ _ _ _ _ (show Q (.inl []) (up (up D 88 i (bor (D 88 i) (ishl 1 h))) 87 7 1, SS L 1 2 2 c4 c5 c6) from (H.2.2 h2).2.2)⟩⟩⟩)⟩⟩))
theorem s96 {L c4 c5 c6 : Nat} {D : Dt} {Q : Out → Wd → Prop} {i h : Int} (H : ∃ x : (Int → Nat → Prop) × Int × Int × (Int → Nat), (HR x.2.1 x.2.2.1 x.2.2.2 (D 88) ∧ 0 ≤ x.2.1 ∧ x.2.2.1 ≤ 1024 ∧ x.2.1 ≤ i ∧ i < x.2.2.1 ∧ 0 ≤ h ∧ h ≤ 8 ∧ x.1 i h.toNat) ∧ ∀ (E : Dt) (G : Int → Nat), (FrH D E ∧ E 89 = D 89 ∧ HR x.2.1 x.2.2.1 G (E 88) ∧ RS x.1 x.2.1 x.2.2.1 x.2.2.2 (D 87 7) G (E 87 7) ∧ (G i).testBit h.toNat = true) → Q (.inl []) (E, SS L 1 2 2 c4 c5 c6)) : wp 96 0 [vr 87, vi i, vi h] [] (D, SS L 1 2 2 c4 c5 c6) Q := by
  obtain ⟨⟨R, f, e, Hh⟩, ⟨hH, f0, e0, i0, i1, h0, h8, hR⟩, H⟩ := H
  dsimp only at *
  have hi := hH i i0 i1
  have eh : h = ((h.toNat : Nat) : Int) := by omega
  have hb : 0 ≤ i ∧ i < 1024 := by omega
  have h9 : h.toNat < 9 := by omega
  refine r96_0 ?_
  rw [hi.1, eh, tb_i (by omega) (by omega), ishl_1 (by omega), bor_n (by omega) (Nat.pow_lt_pow_right (by decide) (by omega))]
  refine ⟨hb, fun g => ?_, fun g => ⟨hb, hb, ?_⟩⟩
  · have hbit : (Hh i).testBit h.toNat = true := by
      rcases Classical.em ((Hh i).testBit h.toNat = true) with x | x
      · exact x
      · rw [ib_f x] at g; omega
    exact H D Hh ⟨FrH.r D, rfl, hH, RS.r, hbit⟩
  · have hbit : ¬ (Hh i).testBit h.toNat = true := fun x => g (ib_t x)
    refine H _ (fun j => if j = i then Hh i ||| 2 ^ h.toNat else Hh j) ⟨((FrH.r D).u (Or.inl rfl)).u (Or.inr (Or.inr ⟨rfl, rfl⟩)), ?_, fun j j0 j1 => ?_, ⟨fun j j0 j1 => ?_, fun j n j0 j1 x => ?_, Or.inr ⟨ub_s, i, i0, i1, ?_⟩⟩, ?_⟩
    · rw [ub_a (by decide), ub_a (by decide)]
    · rw [ub_a (by decide)]
      dsimp only
      by_cases ej : j = i
      · rw [if_pos ej, ej, ub_s]
        exact ⟨rfl, or_512 hi.2 h9⟩
      · rw [if_neg ej, ub_n ej]; exact hH j j0 j1
    · dsimp only
      by_cases ej : j = i
      · rw [if_pos ej, ej]
        exact ⟨Nat.le_of_lt (or_gt hbit), fun n x => tb_or.mpr (Or.inl x)⟩
      · rw [if_neg ej]; exact ⟨Nat.le_refl _, fun n x => x⟩
    · dsimp only at x
      by_cases ej : j = i
      · rw [if_pos ej] at x
        rcases tb_or.mp x with y | y
        · rw [ej]; exact Or.inl y
        · rw [ej, y]; exact Or.inr hR
      · rw [if_neg ej] at x; exact Or.inl x
    · show Hh i < if i = i then Hh i ||| 2 ^ h.toNat else Hh i
      rw [if_pos rfl]; exact or_gt hbit
    · show (if i = i then Hh i ||| 2 ^ h.toNat else Hh i).testBit h.toNat = true
      rw [if_pos rfl]; exact tb_or.mpr (Or.inr rfl)
