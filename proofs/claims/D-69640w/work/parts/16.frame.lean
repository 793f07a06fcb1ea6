/-! what holds of the machine's world and the model's heap in a frame -/
theorem rsum_up {D : Dt} {a : Nat} {i v : Int} (hi : 0 ≤ i) : rsum (up D a i v) = rsum D := by
  unfold rsum
  congr 1
  apply List.map_congr_left
  intro b _
  have : ¬ ((-1 : Int) = i) := by omega
  simp [up, this]
theorem Wok.u_ {w : Wd} (h : Wok w) {a : Nat} {i v : Int} (hi : 0 ≤ i) (h64 : r64 v) (h32 : lng (tg w a) i = false → r32 v) (h52 : tg w a = 52 → -128 ≤ v ∧ v ≤ 127) (h53 : tg w a = 53 → 0 ≤ v ∧ v ≤ 1) : Wok (up w.1 a i v, w.2) := by
  obtain ⟨h1, h2, h3, h4, h5, h6⟩ := h
  refine ⟨h1, h2, h3, fun b => ?_, fun b j => ?_, h6⟩
  · have e : up w.1 a i v b (-1) = w.1 b (-1) := by
      have : ¬ ((-1 : Int) = i) := by omega
      simp [up, this]
    show 0 ≤ up w.1 a i v b (-1) ∧ up w.1 a i v b (-1) ≤ 8192 ∧ (_ → up w.1 a i v b (-1) = 0) ∧ _
    rw [e]
    exact h4 b
  · show r64 (up w.1 a i v b j) ∧ (_ → r32 (up w.1 a i v b j)) ∧ (_ → -128 ≤ up w.1 a i v b j ∧ up w.1 a i v b j ≤ 127) ∧ (_ → 0 ≤ up w.1 a i v b j ∧ up w.1 a i v b j ≤ 1)
    by_cases e : b = a ∧ j = i
    · obtain ⟨rfl, rfl⟩ := e
      have : up w.1 b j v b j = v := by simp [up]
      rw [this]
      exact ⟨h64, h32, h52, h53⟩
    · have : up w.1 a i v b j = w.1 b j := by simp [up, e]
      rw [this]
      exact h5 b j
theorem urf_ne {r : Nat → Nat → Nat} {a f v b : Nat} (h : b ≠ a) : urf r a f v b = r b := by
  funext g
  unfold urf
  rw [show Nat.beq b a = false from by cases hb : Nat.beq b a with | false => rfl | true => exact absurd (Nat.eq_of_beq_eq_true hb) h]
  rfl
theorem urf_at {r : Nat → Nat → Nat} {a f v g : Nat} : urf r a f v a g = if g = f then v else r a g := by
  unfold urf
  rw [Nat.beq_refl]
  by_cases h : g = f
  · subst h
    rw [Nat.beq_refl, if_pos rfl]
    rfl
  · rw [show Nat.beq g f = false from by cases hb : Nat.beq g f with | false => rfl | true => exact absurd (Nat.eq_of_beq_eq_true hb) h, if_neg h]
    rfl
theorem Wok.r_ {w : Wd} (h : Wok w) {a f v : Nat} (hv : v < nx w) : Wok (w.1, urf w.2.1 a f v, w.2.2) := by
  obtain ⟨h1, h2, h3, h4, h5, h6⟩ := h
  refine ⟨h1, h2, h3, h4, h5, fun b g => ?_⟩
  show urf w.2.1 a f v b g < nx w
  by_cases e : b = a
  · subst e
    rw [urf_at]
    split
    · exact hv
    · exact h6 b g
  · rw [urf_ne e]
    exact h6 b g
theorem nbeq {a b : Nat} (h : a ≠ b) : Nat.beq a b = false := by
  cases hb : Nat.beq a b with
  | false => rfl
  | true => exact absurd (Nat.eq_of_beq_eq_true hb) h
theorem utg_at {t : Nat → Nat × Nat} {a : Nat} {v : Nat × Nat} : utg t a v a = v := by
  unfold utg
  rw [Nat.beq_refl]
  rfl
theorem utg_ne {t : Nat → Nat × Nat} {a b : Nat} {v : Nat × Nat} (h : b ≠ a) : utg t a v b = t b := by
  unfold utg
  rw [nbeq h]
  rfl
theorem zrf_at {r : Nat → Nat → Nat} {a : Nat} : zrf r a a = fun _ => 0 := by
  funext f
  unfold zrf
  rw [Nat.beq_refl]
  rfl
theorem zrf_ne {r : Nat → Nat → Nat} {a b : Nat} (h : b ≠ a) : zrf r a b = r b := by
  funext f
  unfold zrf
  rw [nbeq h]
  rfl
theorem zr_at {D : Dt} {a : Nat} : zr D a a = fun _ => 0 := by
  funext j
  simp [zr]
theorem zr_ne {D : Dt} {a b : Nat} (h : b ≠ a) : zr D a b = D b := by
  funext j
  simp [zr, h]
theorem Wok.mc_ {w : Wd} (h : Wok w) {t n sl : Nat} (ht : tcell t = true) (h55 : t ≠ 55) (hn : n ≤ 100000) (hr : roomy w sl = true) : Wok (mkc w t n sl) ∧ rsum (mkc w t n sl).1 = rsum w.1 := by
  obtain ⟨h1, h2, h3, h4, h5, h6⟩ := h
  unfold roomy at hr
  rw [Bool.and_eq_true] at hr
  have r1 := Nat.le_of_ble_eq_true hr.1
  have r2 := Nat.le_of_ble_eq_true hr.2
  have tgE : ∀ b, b ≠ nx w → tg (mkc w t n sl) b = tg w b := fun b hb => by show (utg w.2.2.1 (nx w) (t, n) b).1 = _; rw [utg_ne hb]
  have tgN : tg (mkc w t n sl) (nx w) = t := by show (utg w.2.2.1 (nx w) (t, n) (nx w)).1 = _; rw [utg_at]
  have dE : ∀ b, b ≠ nx w → (mkc w t n sl).1 b = w.1 b := fun b hb => zr_ne hb
  have dN : ∀ j, (mkc w t n sl).1 (nx w) j = 0 := fun j => by show zr w.1 (nx w) (nx w) j = 0; rw [zr_at]
  refine ⟨⟨⟨?_, ?_, ?_⟩, fun b => ?_, fun b => ?_, fun b => ?_, fun b j => ?_, fun b g => ?_⟩, ?_⟩
  · show 50 ≤ nx w + 1
    omega
  · show nx w + 1 ≤ 1001
    omega
  · exact r2
  · show _ ↔ 50 ≤ b ∧ b < nx w + 1
    by_cases e : b = nx w
    · subst e
      rw [tgN]
      exact ⟨fun _ => ⟨h1.1, by omega⟩, fun _ => ht⟩
    · rw [tgE b e, h2 b]
      omega
  · show (utg w.2.2.1 (nx w) (t, n) b).2 ≤ _
    by_cases e : b = nx w
    · subst e
      rw [utg_at]
      exact hn
    · rw [utg_ne e]
      exact h3 b
  · by_cases e : b = nx w
    · subst e
      rw [dN, tgN]
      exact ⟨by omega, by omega, fun _ => rfl, fun e => absurd e h55⟩
    · rw [dE b e, tgE b e]
      exact ⟨(h4 b).1, (h4 b).2.1, fun hb => (h4 b).2.2.1 (by have hb : nx w + 1 ≤ b := hb; omega), (h4 b).2.2.2⟩
  · by_cases e : b = nx w
    · subst e
      rw [dN]
      exact ⟨by unfold r64; omega, fun _ => by unfold r32; omega, fun _ => by omega, fun _ => by omega⟩
    · rw [dE b e, tgE b e]
      exact h5 b j
  · show zrf w.2.1 (nx w) b g < nx w + 1
    by_cases e : b = nx w
    · subst e
      rw [zrf_at]
      exact Nat.succ_pos _
    · rw [zrf_ne e]
      exact Nat.lt_succ_of_lt (h6 b g)
  · unfold rsum
    congr 1
    apply List.map_congr_left
    intro b _
    by_cases e : b = nx w
    · subst e
      rw [dN, (h4 _).2.2.1 (Nat.le_refl _)]
    · rw [dE b e]
theorem lsum_le {l : List Nat} {f g : Nat → Nat} (h : ∀ a ∈ l, f a ≤ g a) : (l.map f).sum ≤ (l.map g).sum := by
  induction l with
  | nil => simp
  | cons a t ih =>
    simp only [List.map_cons, List.sum_cons]
    have h1 := h a List.mem_cons_self
    have h2 := ih fun b hb => h b (List.mem_cons_of_mem _ hb)
    omega
theorem Wok.mr_ {w : Wd} (h : Wok w) {n : Nat} (hn : n ≤ 8192) (hx : nx w ∈ rws) (hr : roomy w n = true) : Wok (mkr w n) ∧ rsum w.1 ≤ rsum (mkr w n).1 := by
  obtain ⟨h1, h2, h3, h4, h5, h6⟩ := h
  unfold roomy at hr
  rw [Bool.and_eq_true] at hr
  have r1 := Nat.le_of_ble_eq_true hr.1
  have r2 := Nat.le_of_ble_eq_true hr.2
  have tgE : ∀ b, b ≠ nx w → tg (mkr w n) b = tg w b := fun b hb => by show (utg w.2.2.1 (nx w) (55, 0) b).1 = _; rw [utg_ne hb]
  have tgN : tg (mkr w n) (nx w) = 55 := by show (utg w.2.2.1 (nx w) (55, 0) (nx w)).1 = _; rw [utg_at]
  have dE : ∀ b, b ≠ nx w → (mkr w n).1 b = w.1 b := fun b hb => (up_ne hb).trans (zr_ne hb)
  have dN : ∀ j, (mkr w n).1 (nx w) j = if j = -1 then (n : Int) else 0 := fun j => by
    show up (zr w.1 (nx w)) (nx w) (-1) n (nx w) j = _
    rw [up_at, zr_at]
  refine ⟨⟨⟨?_, ?_, ?_⟩, fun b => ?_, fun b => ?_, fun b => ?_, fun b j => ?_, fun b g => ?_⟩, ?_⟩
  · show 50 ≤ nx w + 1
    omega
  · show nx w + 1 ≤ 1001
    omega
  · exact r2
  · show _ ↔ 50 ≤ b ∧ b < nx w + 1
    by_cases e : b = nx w
    · subst e
      rw [tgN]
      exact ⟨fun _ => ⟨h1.1, by omega⟩, fun _ => rfl⟩
    · rw [tgE b e, h2 b]
      omega
  · show (utg w.2.2.1 (nx w) (55, 0) b).2 ≤ _
    by_cases e : b = nx w
    · subst e
      rw [utg_at]
      omega
    · rw [utg_ne e]
      exact h3 b
  · by_cases e : b = nx w
    · subst e
      rw [dN, tgN, if_pos rfl]
      exact ⟨by omega, by omega, fun hb => by have hb : nx w + 1 ≤ nx w := hb; omega, fun _ => hx⟩
    · rw [dE b e, tgE b e]
      exact ⟨(h4 b).1, (h4 b).2.1, fun hb => (h4 b).2.2.1 (by have hb : nx w + 1 ≤ b := hb; omega), (h4 b).2.2.2⟩
  · by_cases e : b = nx w
    · subst e
      rw [dN, tgN]
      have : -1 ≤ (if j = -1 then (n : Int) else 0) ∧ (if j = -1 then (n : Int) else 0) ≤ 8192 := by split <;> omega
      exact ⟨by unfold r64; omega, fun _ => by unfold r32; omega, fun e => absurd e (by decide), fun e => absurd e (by decide)⟩
    · rw [dE b e, tgE b e]
      exact h5 b j
  · show zrf w.2.1 (nx w) b g < nx w + 1
    by_cases e : b = nx w
    · subst e
      rw [zrf_at]
      exact Nat.succ_pos _
    · rw [zrf_ne e]
      exact Nat.lt_succ_of_lt (h6 b g)
  · unfold rsum
    refine lsum_le fun b _ => ?_
    by_cases e : b = nx w
    · subst e
      rw [(h4 _).2.2.1 (Nat.le_refl _)]
      exact Nat.zero_le _
    · rw [dE b e]
      exact Nat.le_refl _
theorem Wok.rs {w : Wd} (h : Wok w) : rsum w.1 ≤ 122880 := by
  have : rsum w.1 ≤ (rws.map fun _ => 8192).sum := lsum_le fun a _ => by
    have := (h.2.2.2.1 a).2.1
    omega
  exact this
theorem nb_clamp {i : Int} (h : r32 i) : (Int32.ofInt i).toNatClampNeg = i.toNat := by
  show (Int32.ofInt i).toInt.toNat = _
  rw [nb_id h]
theorem nb_in {i : Int} {n : Nat} (h : r32 i) (h0 : 0 ≤ i) (h1 : i < n) : vp_in (Int32.ofInt i) n := by
  rw [vp_in_iff, nb_id h]
  exact ⟨h0, h1⟩
/-- the String constants: where they lie, what they hold -/
def StrF (θ : Nat → Nat) (A : Nat → Prop) (s : State) : Prop := ∀ i, 2 ≤ i → i ≤ 38 → ∃ v : Nat, vk_R (owS (sq i / 1000)) (sq i % 1000) (stx i) (θ i) s ∧ va_O "java/lang/String" (θ i) A s s.heap ∧ va_OF "java/lang/String" "coder" "B" (.int 0) (θ i) A s s.heap ∧ va_OF "java/lang/String" "value" "[B" (.ref v) (θ i) A s s.heap ∧ va_T .byte v (sbt i).length (fun j => .int (Int32.ofInt ((sbt i).getD j 0))) A s s.heap
/-- the script -/
def ScrF (θ : Nat → Nat) (A : Nat → Prop) (s : State) (w : Wd) : Prop := ∃ (L : Nat) (xs : Nat → Int32), va_X (θ 1) L xs s s.heap ∧ θ 1 < s.heap.size ∧ ¬ A (θ 1) ∧ (∀ a, tg w a = 51 → a = 1) ∧ tg w 1 = 51 ∧ ln w 1 = L ∧ L ≤ 384 ∧ ∀ j : Nat, j < L → w.1 1 j = (xs j).toInt
/-- what was there keeps its kind -/
def Tp (w w' : Wd) : Prop := nx w ≤ nx w' ∧ ∀ a, a < nx w → w'.2.2.1 a = w.2.2.1 a
def Fr (dC : Nat → ClassId) (dI : Nat → Nat → Nat) (tc : Nat → ClassId) (A : Nat → Prop) (s : State) (R : Room) (w0 : Wd) (θ : Nat → Nat) (fe : Nat → List Value) (w : Wd) (H : Heap) (locs : List Loc) (cells slots : Nat) : Prop :=
  va_K (dC, dI) cls (tysf tc) s ∧ va_P (dC, dI) cls (wsf θ fe tc w) H ∧ va_D A (wsf θ fe tc w) ∧ va_S A s.heap H locs ∧ Wok w ∧ (cells + Cw w0 ≤ Cw w ∧ slots + Sw w0 ≤ Sw w ∧ Tp w0 w) ∧ (130000 ≤ R.cells + Cw w0 ∧ 1300000 ≤ R.slots + Sw w0) ∧ StrF θ A s ∧ ScrF θ A s w
