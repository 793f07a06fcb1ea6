/-! the places where a few instructions are one step, over the making of the exception -/
/-- the making of the exception -/
def ExnOK (n : Nat) : Prop := Brg n → ∀ (p : Program) (l : Launch) (e : Env) (R : Room) (s : State) (mid : MethodId) (args : Array Value) (below : List Frame) (meth : Method) (c : Code) (dC : Nat → ClassId) (dI : Nat → Nat → Nat) (tc : Nat → ClassId) (A : Nat → Prop) (w0 : Wd) (θ0 θ : Nat → Nat) (fe : Nat → List Value) (w : Wd) (H : Heap) (locs : List Loc) (cells slots : Nat) (ls : List Vl) (lsJ : Array Slot) (Qm : Out → Wd → Prop), p.tables.exec = Jvm.exec → e.platform.stackTraces = false → Stc A s → (∀ w ∈ lw_all, w.before args s = true) → (∀ w ∈ nws, va_Nw w s) → (∀ q, s.heap.size ≤ q → A q) → Mth 26 s mid meth c → (inf 26).2.2.1 ≤ R.frames → 45 * (inf 26).2.2.1 ≤ R.locals → Fr dC dI tc A s R w0 θ fe w H locs cells slots → Ls θ (nx w) ls lsJ (inf 26).2.1 → Stb 26 w0 θ0 θ → exN ls w (fun w' => wpn n 26 15 ls [] w' Qm) → W p l e R s mid args below meth c H locs cells slots (Fin below s R dC dI tc A w0 θ0 26 Qm) (F0 mid 4 lsJ [])
theorem mac_cases {m pc : Nat} (h : mac m pc ≠ 0) : (m = 58 ∧ pc = 12) ∨ (m = 162 ∧ pc = 58) ∨ (m = 4 ∧ pc = 70) ∨ (m = 231 ∧ pc = 28) ∨ (m = 26 ∧ pc = 4) := by
  unfold mac at h
  by_cases h1 : m = 58 ∧ pc = 12
  · exact Or.inl h1
  by_cases h2 : m = 162 ∧ pc = 58
  · exact Or.inr (Or.inl h2)
  by_cases h3 : m = 4 ∧ pc = 70
  · exact Or.inr (Or.inr (Or.inl h3))
  by_cases h4 : m = 231 ∧ pc = 28
  · exact Or.inr (Or.inr (Or.inr (Or.inl h4)))
  by_cases h5 : m = 26 ∧ pc = 4
  · exact Or.inr (Or.inr (Or.inr (Or.inr h5)))
  exfalso
  have nb : ∀ a b x y : Nat, ¬ (a = x ∧ b = y) → (Nat.beq a x && Nat.beq b y) = false := fun a b x y h => by
    cases hb : (Nat.beq a x && Nat.beq b y) with
    | false => rfl
    | true =>
      rw [Bool.and_eq_true] at hb
      exact absurd ⟨Nat.eq_of_beq_eq_true hb.1, Nat.eq_of_beq_eq_true hb.2⟩ h
  rw [nb _ _ _ _ h1, nb _ _ _ _ h2, nb _ _ _ _ h3, nb _ _ _ _ h4, nb _ _ _ _ h5] at h
  exact h rfl
theorem mac_ok (n : Nat) (hE : ExnOK n) : MacOK n := by
  intro hB p l e R s mid args below meth c dC dI tc A w0 θ0 θ fe w H locs cells slots ls st lsJ m pc Qm hx htr hZ hts hnw hA hM hf1 hf2 hF hl hsb hst hmac hw
  subst hst
  have hnx : ∀ a, tg w (gr w a 0) = 55 → 50 ≤ gr w a 0 := fun a h => ((hF.2.2.2.2.1.2.1 _).mp (by rw [h]; rfl)).1
  have hgr : ∀ tag, exG tag ls w (fun _ => True) → 50 ≤ gr w (hd0 ls) 0 := fun tag h => by
    match ls, h with
    | .inr (.inr (.inl a)) :: t, h =>
      obtain ⟨hg, -⟩ := gd_e (b := Nat.beq (tg w a) tag && Nat.beq (tg w (gr w a 0)) 55 && (.inr (.inr (.inl a)) :: t : List Vl).all (stb w 58)) (P := (1 ≤ w.1 a 1 ∧ w.1 a 1 ≤ 4096 ∧ w.1 (gr w a 0) (-1) = w.1 a 1 ∧ ∀ a' f', w.2.1 a' f' = gr w a 0 → a' = a ∧ f' = 0) ∧ True) h
      rw [Bool.and_eq_true, Bool.and_eq_true] at hg
      exact hnx a (Nat.eq_of_beq_eq_true hg.1.2)
  rcases mac_cases hmac with ⟨rfl, rfl⟩ | ⟨rfl, rfl⟩ | ⟨rfl, rfl⟩ | ⟨rfl, rfl⟩ | ⟨rfl, rfl⟩
  · have hw : exG 4 ls w (fun w' => wpn n 58 29 ls [] w' Qm) := hw
    exact mac_1 hB hx htr hZ hts hnw hA hM hf1 hf2 rfl (hgr 4 (pt_le (exG_pt 4 ls w) (fun _ _ => trivial) hw)) hw θ fe H locs cells slots lsJ hF hl (fun v hv => by cases hv) hsb
  · have hw : exG 9 ls w (fun w' => wpn n 162 75 ls [] w' Qm) := hw
    exact mac_2 hB hx htr hZ hts hnw hA hM hf1 hf2 rfl (hgr 9 (pt_le (exG_pt 9 ls w) (fun _ _ => trivial) hw)) hw θ fe H locs cells slots lsJ hF hl (fun v hv => by cases hv) hsb
  · have hw : exW ls w 50 7 8 171 197 sg0 (fun ls' w' => wpn n 4 88 ls' [] w' Qm) := hw
    exact mac_3 hB hx htr hZ hts hnw hA hM hf1 hf2 rfl hw θ fe H locs cells slots lsJ hF hl (fun v hv => by cases hv) hsb
  · have hw : exW ls w 226 0 1 227 273 sg1 (fun ls' w' => wpn n 231 46 ls' [] w' Qm) := hw
    exact mac_4 hB hx htr hZ hts hnw hA hM hf1 hf2 rfl hw θ fe H locs cells slots lsJ hF hl (fun v hv => by cases hv) hsb
  · have hw : exN ls w (fun w' => wpn n 26 15 ls [] w' Qm) := hw
    exact hE hB p l e R s mid args below meth c dC dI tc A w0 θ0 θ fe w H locs cells slots ls lsJ Qm hx htr hZ hts hnw hA hM hf1 hf2 hF hl hsb hw
/-- THE BRIDGE, over the making of the exception alone -/
theorem brg (hE : ∀ n, ExnOK n) : ∀ n, Brg n := brg_all prim_ok fun n => mac_ok n (hE n)
