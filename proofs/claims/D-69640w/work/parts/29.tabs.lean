/-! small checks over all the tables -/
set_option maxRecDepth 100000
def rwI (m : Nat) (i : Jvm.ClassFile.Instr) : Bool := !(isRow m) || (match i with
  | .newarray t => (match t with
    | .int => true
    | _ => false)
  | _ => true)
def thI (m : Nat) (i : Jvm.ClassFile.Instr) : Bool := !(Nat.beq m 4) || (match i with
  | .athrow => false
  | _ => true)
def tbI (m : Nat) (i : Jvm.ClassFile.Instr) : Bool := stI (inf m).2.1 i && rwI m i && thI m i
theorem tbI_0 : ∀ m, 0 ≤ m → m < 40 → (tb m).all (fun x => tbI m x.2.1) = true := by
  intro m h1 h2
  have h : ∀ d, d < 40 → (tb (0 + d)).all (fun x => tbI (0 + d) x.2.1) = true := by decide +kernel
  have := h (m - 0) (by omega)
  rwa [show 0 + (m - 0) = m by omega] at this
theorem tbI_40 : ∀ m, 40 ≤ m → m < 80 → (tb m).all (fun x => tbI m x.2.1) = true := by
  intro m h1 h2
  have h : ∀ d, d < 40 → (tb (40 + d)).all (fun x => tbI (40 + d) x.2.1) = true := by decide +kernel
  have := h (m - 40) (by omega)
  rwa [show 40 + (m - 40) = m by omega] at this
theorem tbI_80 : ∀ m, 80 ≤ m → m < 120 → (tb m).all (fun x => tbI m x.2.1) = true := by
  intro m h1 h2
  have h : ∀ d, d < 40 → (tb (80 + d)).all (fun x => tbI (80 + d) x.2.1) = true := by decide +kernel
  have := h (m - 80) (by omega)
  rwa [show 80 + (m - 80) = m by omega] at this
theorem tbI_120 : ∀ m, 120 ≤ m → m < 160 → (tb m).all (fun x => tbI m x.2.1) = true := by
  intro m h1 h2
  have h : ∀ d, d < 40 → (tb (120 + d)).all (fun x => tbI (120 + d) x.2.1) = true := by decide +kernel
  have := h (m - 120) (by omega)
  rwa [show 120 + (m - 120) = m by omega] at this
theorem tbI_160 : ∀ m, 160 ≤ m → m < 200 → (tb m).all (fun x => tbI m x.2.1) = true := by
  intro m h1 h2
  have h : ∀ d, d < 40 → (tb (160 + d)).all (fun x => tbI (160 + d) x.2.1) = true := by decide +kernel
  have := h (m - 160) (by omega)
  rwa [show 160 + (m - 160) = m by omega] at this
theorem tbI_200 : ∀ m, 200 ≤ m → m < 240 → (tb m).all (fun x => tbI m x.2.1) = true := by
  intro m h1 h2
  have h : ∀ d, d < 40 → (tb (200 + d)).all (fun x => tbI (200 + d) x.2.1) = true := by decide +kernel
  have := h (m - 200) (by omega)
  rwa [show 200 + (m - 200) = m by omega] at this
theorem tbI_240 : ∀ m, 240 ≤ m → m < 280 → (tb m).all (fun x => tbI m x.2.1) = true := by
  intro m h1 h2
  have h : ∀ d, d < 40 → (tb (240 + d)).all (fun x => tbI (240 + d) x.2.1) = true := by decide +kernel
  have := h (m - 240) (by omega)
  rwa [show 240 + (m - 240) = m by omega] at this
theorem tbI_280 : ∀ m, 280 ≤ m → m < 320 → (tb m).all (fun x => tbI m x.2.1) = true := by
  intro m h1 h2
  have h : ∀ d, d < 40 → (tb (280 + d)).all (fun x => tbI (280 + d) x.2.1) = true := by decide +kernel
  have := h (m - 280) (by omega)
  rwa [show 280 + (m - 280) = m by omega] at this
theorem tbI_320 : ∀ m, 320 ≤ m → m < 360 → (tb m).all (fun x => tbI m x.2.1) = true := by
  intro m h1 h2
  have h : ∀ d, d < 40 → (tb (320 + d)).all (fun x => tbI (320 + d) x.2.1) = true := by decide +kernel
  have := h (m - 320) (by omega)
  rwa [show 320 + (m - 320) = m by omega] at this
theorem tbI_360 : ∀ m, 360 ≤ m → m < 400 → (tb m).all (fun x => tbI m x.2.1) = true := by
  intro m h1 h2
  have h : ∀ d, d < 40 → (tb (360 + d)).all (fun x => tbI (360 + d) x.2.1) = true := by decide +kernel
  have := h (m - 360) (by omega)
  rwa [show 360 + (m - 360) = m by omega] at this
theorem tbI_all {m pc len : Nat} {i : Jvm.ClassFile.Instr} (hm : m < 400) (h : lk (tb m) pc = some (i, len)) : tbI m i = true := by
  have key : (tb m).all (fun x => tbI m x.2.1) = true := by
    by_cases h40 : m < 40
    · exact tbI_0 m (by omega) h40
    by_cases h80 : m < 80
    · exact tbI_40 m (by omega) h80
    by_cases h120 : m < 120
    · exact tbI_80 m (by omega) h120
    by_cases h160 : m < 160
    · exact tbI_120 m (by omega) h160
    by_cases h200 : m < 200
    · exact tbI_160 m (by omega) h200
    by_cases h240 : m < 240
    · exact tbI_200 m (by omega) h240
    by_cases h280 : m < 280
    · exact tbI_240 m (by omega) h280
    by_cases h320 : m < 320
    · exact tbI_280 m (by omega) h320
    by_cases h360 : m < 360
    · exact tbI_320 m (by omega) h360
    exact tbI_360 m (by omega) hm
  exact (List.all_eq_true.mp key) _ (lk_mem h)
theorem kin_1 {i : Jvm.ClassFile.Instr} {kd j : Nat} (h : kin i = (1, kd, j)) : i = invI kd j := by
  unfold kin at h
  split at h <;> simp only [Prod.mk.injEq, Nat.reduceEqDiff, false_and, true_and] at h
  · obtain ⟨rfl, rfl⟩ := h; rfl
  · obtain ⟨rfl, rfl⟩ := h; rfl
  · obtain ⟨rfl, rfl⟩ := h; rfl
theorem kin_3 {i : Jvm.ClassFile.Instr} {k kd j : Nat} (h : kin i = (k + 3, kd, j)) : i = .athrow := by
  unfold kin at h
  split at h <;> first | rfl | (simp only [Prod.mk.injEq] at h; omega)
