/-! the machine goes one way: what holds behind it holds of one state -/
def Pt1 {α : Type} (F : (α → Prop) → Prop) : Prop := ∀ k, F k → ∃ a, k a ∧ ∀ k', k' a → F k'
section Pts
variable {α : Type} {F G : (α → Prop) → Prop}
theorem pt_id (a : α) : Pt1 (fun k => k a) := fun _ h => ⟨a, h, fun _ h => h⟩
theorem pt_false : Pt1 (fun _ : α → Prop => False) := fun _ h => h.elim
theorem pt_and (c : Prop) (h : Pt1 F) : Pt1 (fun k => c ∧ F k) := fun k hk => by
  obtain ⟨a, h1, h2⟩ := h k hk.2
  exact ⟨a, h1, fun k' h' => ⟨hk.1, h2 k' h'⟩⟩
theorem pt_gd (b : Bool) (h : Pt1 F) : Pt1 (fun k => gd b (F k)) := by
  cases b
  · exact pt_false
  · exact h
theorem pt_bif (b : Bool) (h : Pt1 F) (h' : Pt1 G) : Pt1 (fun k => bif b then F k else G k) := by
  cases b
  · exact h'
  · exact h
theorem pt_br (c : Prop) (h : Pt1 F) (h' : Pt1 G) : Pt1 (fun k => br c (F k) (G k)) := fun k hk => by
  rcases Classical.em c with hc | hc
  · obtain ⟨a, h1, h2⟩ := h k (hk.1 hc)
    exact ⟨a, h1, fun k' h'' => ⟨fun _ => h2 k' h'', fun n => absurd hc n⟩⟩
  · obtain ⟨a, h1, h2⟩ := h' k (hk.2 hc)
    exact ⟨a, h1, fun k' h'' => ⟨fun n => absurd n hc, fun _ => h2 k' h''⟩⟩
theorem pt_br2 (c : Prop) (h : Pt1 F) (h' : Pt1 G) : Pt1 (fun k => (c → F k) ∧ (¬ c → G k)) := pt_br c h h'
theorem pt_sw1 (x : Int) (d : α) (f : Int → α) : ∀ (os : List Int) (v : Int), Pt1 (fun k => sw1 x v (k d) (fun o => k (f o)) os) := by
  intro os
  induction os with
  | nil => intro v; exact pt_id d
  | cons o os ih => intro v; exact pt_br2 _ (pt_id _) (ih (v + 1))
theorem pt_sw2 (x : Int) (d : α) (f : Int → α) : ∀ (os : List (Int × Int)), Pt1 (fun k => sw2 x (k d) (fun o => k (f o)) os) := by
  intro os
  induction os with
  | nil => exact pt_id d
  | cons o os ih => exact pt_br2 _ (pt_id _) ih
theorem pt_o1 (st : List Vl) {H : (α → Prop) → Int → List Vl → Prop} (h : ∀ x st', Pt1 (fun k => H k x st')) : Pt1 (fun k => o1 st (H k)) := by
  unfold o1
  split
  · exact h _ _
  · exact pt_false
theorem pt_oL (st : List Vl) {H : (α → Prop) → Int → List Vl → Prop} (h : ∀ x st', Pt1 (fun k => H k x st')) : Pt1 (fun k => oL st (H k)) := by
  unfold oL
  split
  · exact h _ _
  · exact pt_false
theorem pt_oA (st : List Vl) {H : (α → Prop) → Nat → List Vl → Prop} (h : ∀ x st', Pt1 (fun k => H k x st')) : Pt1 (fun k => oA st (H k)) := by
  unfold oA
  split
  · exact h _ _
  · exact pt_false
theorem pt_o2 (st : List Vl) {H : (α → Prop) → Int → Int → List Vl → Prop} (h : ∀ x y st', Pt1 (fun k => H k x y st')) : Pt1 (fun k => o2 st (H k)) := by
  unfold o2
  exact pt_o1 st fun y st' => pt_o1 st' fun x st'' => h x y st''
theorem pt_oLL (st : List Vl) {H : (α → Prop) → Int → Int → List Vl → Prop} (h : ∀ x y st', Pt1 (fun k => H k x y st')) : Pt1 (fun k => oLL st (H k)) := by
  unfold oLL
  exact pt_oL st fun y st' => pt_oL st' fun x st'' => h x y st''
theorem pt_ldI (ls : List Vl) (j : Nat) {H : (α → Prop) → Int → Prop} (h : ∀ x, Pt1 (fun k => H k x)) : Pt1 (fun k => ldI ls j (H k)) := by
  unfold ldI
  split
  · exact h _
  · exact pt_false
theorem pt_ldA (ls : List Vl) (j : Nat) {H : (α → Prop) → Nat → Prop} (h : ∀ x, Pt1 (fun k => H k x)) : Pt1 (fun k => ldA ls j (H k)) := by
  unfold ldA
  split
  · exact h _
  · exact pt_false
theorem pt_ldL (ls : List Vl) (j : Nat) {H : (α → Prop) → Int → Prop} (h : ∀ x, Pt1 (fun k => H k x)) : Pt1 (fun k => ldL ls j (H k)) := by
  unfold ldL
  split
  · split
    · exact h _
    · exact pt_false
  · exact pt_false
theorem pt_getF (w : Wd) (a f t : Nat) {H : (α → Prop) → Vl → Prop} (h : ∀ v, Pt1 (fun k => H k v)) : Pt1 (fun k => getF w a f t (H k)) := by
  unfold getF
  split
  · exact h _
  · exact pt_gd _ (h _)
  · exact h _
theorem pt_putF (w : Wd) (f t lo hi : Nat) (st : List Vl) {H : (α → Prop) → List Vl → Wd → Prop} (h : ∀ st w, Pt1 (fun k => H k st w)) : Pt1 (fun k => putF w f t lo hi st (H k)) := by
  unfold putF
  split
  · exact pt_o1 _ fun _ _ => pt_oA _ fun _ _ => pt_gd _ (h _ _)
  · exact pt_oL _ fun _ _ => pt_oA _ fun _ _ => pt_gd _ (h _ _)
  · exact pt_oA _ fun _ _ => pt_oA _ fun _ _ => pt_gd _ (h _ _)
  · exact pt_o1 _ fun _ _ => pt_oA _ fun _ _ => pt_gd _ (pt_and _ (h _ _))
theorem pt_newA (w : Wd) (m n t : Nat) {H : (α → Prop) → Vl → Wd → Prop} (h : ∀ v w, Pt1 (fun k => H k v w)) : Pt1 (fun k => newA w m n t (H k)) := by
  unfold newA
  exact pt_gd _ (pt_bif _ (pt_gd _ (h _ _)) (h _ _))
end Pts
abbrev St4 : Type := Nat × List Vl × List Vl × Wd
set_option maxHeartbeats 4000000 in
theorem exP_pt (m own ini pc len : Nat) (i : Jvm.ClassFile.Instr) (ls st : List Vl) (w : Wd) : Pt1 (fun k : St4 → Prop => exP m own ini pc len i ls st w fun a b c d => k (a, b, c, d)) := by
  cases i
  case ldc j => unfold exP; dsimp only; split <;> first | exact pt_id _ | exact pt_false
  case ldc_w j => unfold exP; dsimp only; split <;> first | exact pt_id _ | exact pt_false
  case ldc2_w j => unfold exP; dsimp only; split <;> first | exact pt_id _ | exact pt_false
  case dup => unfold exP; dsimp only; split <;> first | exact pt_id _ | exact pt_false
  case dup2 => unfold exP; dsimp only; split <;> first | exact pt_id _ | exact pt_false
  case ifCond c off => unfold exP; dsimp only; exact pt_o1 _ fun x st => by cases c <;> exact pt_br _ (pt_id _) (pt_id _)
  case if_icmp c off => unfold exP; dsimp only; exact pt_o2 _ fun x y st => by cases c <;> exact pt_br _ (pt_id _) (pt_id _)
  case tableswitch d lo hi offs => unfold exP; dsimp only; exact pt_o1 _ fun x st => pt_sw1 x (jmp pc d, ls, st, w) (fun o => (jmp pc o, ls, st, w)) _ _
  case lookupswitch d ps => unfold exP; dsimp only; exact pt_o1 _ fun x st => pt_sw2 x (jmp pc d, ls, st, w) (fun o => (jmp pc o, ls, st, w)) _
  case getfield j => unfold exP; dsimp only; split <;> first | exact pt_false | exact pt_oA _ fun _ _ => pt_gd _ (pt_getF _ _ _ _ fun _ => pt_id _)
  case putfield j => unfold exP; dsimp only; split <;> first | exact pt_false | exact pt_gd _ (pt_putF _ _ _ _ _ _ fun _ _ => pt_id _)
  case new j => unfold exP; dsimp only; split <;> first | exact pt_false | exact pt_gd _ (pt_id _)
  case newarray t => unfold exP; dsimp only; exact pt_o1 _ fun _ _ => pt_gd _ (pt_and _ (pt_newA _ _ _ _ fun _ _ => pt_id _))
  case arraylength => unfold exP; dsimp only; exact pt_oA _ fun _ _ => pt_gd _ (pt_id _)
  case iaload => unfold exP; dsimp only; exact pt_o1 _ fun _ _ => pt_oA _ fun _ _ => pt_gd _ (pt_and _ (pt_id _))
  case baload => unfold exP; dsimp only; exact pt_o1 _ fun _ _ => pt_oA _ fun _ _ => pt_gd _ (pt_and _ (pt_id _))
  case laload => unfold exP; dsimp only; exact pt_o1 _ fun _ _ => pt_oA _ fun _ _ => pt_gd _ (pt_and _ (pt_id _))
  case iastore => unfold exP; dsimp only; exact pt_o1 _ fun _ _ => pt_o1 _ fun _ _ => pt_oA _ fun _ _ => pt_gd _ (pt_and _ (pt_id _))
  case bastore => unfold exP; dsimp only; exact pt_o1 _ fun _ _ => pt_o1 _ fun _ _ => pt_oA _ fun _ _ => pt_gd _ (pt_and _ (pt_and _ (pt_id _)))
  case lastore => unfold exP; dsimp only; exact pt_oL _ fun _ _ => pt_o1 _ fun _ _ => pt_oA _ fun _ _ => pt_gd _ (pt_and _ (pt_id _))
  case idiv => unfold exP; dsimp only; exact pt_o2 _ fun _ _ _ => pt_and _ (pt_id _)
  case irem => unfold exP; dsimp only; exact pt_o2 _ fun _ _ _ => pt_and _ (pt_id _)
  case ldiv => unfold exP; dsimp only; exact pt_oLL _ fun _ _ _ => pt_and _ (pt_id _)
  case lshl => unfold exP; dsimp only; exact pt_o1 _ fun _ _ => pt_oL _ fun _ _ => pt_id _
  case lshr => unfold exP; dsimp only; exact pt_o1 _ fun _ _ => pt_oL _ fun _ _ => pt_id _
  all_goals unfold exP
  all_goals dsimp only
  all_goals first | exact pt_false | exact pt_id _ | exact pt_ldI _ _ fun _ => pt_id _ | exact pt_ldL _ _ fun _ => pt_id _ | exact pt_ldA _ _ fun _ => pt_id _ | exact pt_o1 _ fun _ _ => pt_id _ | exact pt_oL _ fun _ _ => pt_id _ | exact pt_oA _ fun _ _ => pt_id _ | exact pt_o2 _ fun _ _ _ => pt_id _ | exact pt_oLL _ fun _ _ _ => pt_id _
theorem exC_pt (m kd j : Nat) (ls st : List Vl) (w : Wd) : Pt1 (fun k : Nat × List Vl × List Vl → Prop => exC m kd j ls st w fun a b c => k (a, b, c)) := by
  unfold exC
  split
  · refine pt_gd _ ?_
    split
    · exact pt_id _
    · exact pt_gd _ (pt_id _)
    · exact pt_false
  · exact pt_false
theorem exR_pt (m : Nat) (i : Jvm.ClassFile.Instr) (st : List Vl) : Pt1 (fun k : List Vl → Prop => exR m i st k) := by
  unfold exR
  split
  · split
    · exact pt_gd _ (pt_id _)
    · exact pt_false
  · split
    · exact pt_bif _ (pt_id _) (pt_gd _ (pt_and _ (pt_id _)))
    · exact pt_false
  · split
    · exact pt_gd _ (pt_id _)
    · exact pt_false
  · split
    · exact pt_gd _ (pt_id _)
    · exact pt_false
  · exact pt_false
theorem exG_pt (tag : Nat) (ls : List Vl) (w : Wd) : Pt1 (fun k : Wd → Prop => exG tag ls w k) := by
  unfold exG
  split
  · exact pt_gd _ (pt_and _ (pt_id _))
  · exact pt_false
theorem exW_pt (ls : List Vl) (w : Wd) (oa f1 f2 p1 p2 : Nat) (sg : Nat → Nat) : Pt1 (fun k : List Vl × Wd → Prop => exW ls w oa f1 f2 p1 p2 sg fun a b => k (a, b)) := by
  unfold exW
  split
  · exact pt_gd _ (pt_and _ (pt_id _))
  · exact pt_false
theorem exN_pt (ls : List Vl) (w : Wd) : Pt1 (fun k : Wd → Prop => exN ls w k) := by
  unfold exN
  split
  · exact pt_gd _ (pt_id _)
  · exact pt_false
theorem prP_pt (m : Nat) (as : List Vl) (w : Wd) : Pt1 (fun k : Out × Wd → Prop => prP m as w fun a b => k (a, b)) := by
  unfold prP
  refine pt_bif _ ?_ (pt_bif _ ?_ (pt_bif _ ?_ pt_false))
  · split
    · exact pt_id _
    · exact pt_false
  · split
    · exact pt_gd _ (pt_id _)
    · exact pt_false
  · split
    · exact pt_gd _ (pt_and _ (pt_id _))
    · exact pt_false
/-- a way of going on that goes one way -/
def one (K : Kt) : Prop := ∀ m pc ls st w, Pt1 (fun Q : Out × Wd → Prop => K m pc ls st w fun o w' => Q (o, w'))
theorem one.mono {K : Kt} (h : one K) {m pc : Nat} {ls st : List Vl} {w : Wd} {Q Q' : Out → Wd → Prop} (hq : ∀ o w', Q o w' → Q' o w') (hk : K m pc ls st w Q) : K m pc ls st w Q' := by
  obtain ⟨a, h1, h2⟩ := h m pc ls st w (fun x => Q x.1 x.2) hk
  exact h2 (fun x => Q' x.1 x.2) (hq _ _ h1)
theorem aft_pt {K : Kt} (hK : one K) (m pc : Nat) (ls rest : List Vl) (o : Out) (w : Wd) : Pt1 (fun Q : Out × Wd → Prop => aft K m pc ls rest (fun o w' => Q (o, w')) o w) := by
  unfold aft
  split
  · exact hK _ _ _ _ _
  · unfold thr
    exact pt_bif _ (hK _ _ _ _ _) (pt_id _)
theorem pt_bind {α β : Type} {F : (α → Prop) → Prop} (h : Pt1 F) {G : α → (β → Prop) → Prop} (hG : ∀ a, Pt1 (G a)) : Pt1 (fun k => F fun a => G a k) := fun k hk => by
  obtain ⟨a, h1, h2⟩ := h _ hk
  obtain ⟨b, h3, h4⟩ := hG a k h1
  exact ⟨b, h3, fun k' h' => h2 _ (h4 k' h')⟩
theorem cK_pt {K : Kt} (hK : one K) (m : Nat) (as : List Vl) (w : Wd) : Pt1 (fun k : Out × Wd → Prop => cK K m as w fun a b => k (a, b)) := by
  unfold cK
  exact pt_bif _ (prP_pt m as w) (hK _ _ _ _ _)
theorem stp_one {K1 K2 : Kt} (h1 : one K1) (h2 : one K2) : one (stp K1 K2) := by
  intro m pc ls st w
  unfold stp
  refine pt_bif _ ?_ ?_
  · split
    · exact pt_false
    · split
      · exact pt_bind (exP_pt _ _ _ _ _ _ _ _ _) (G := fun a k => K1 m a.1 a.2.1 a.2.2.1 a.2.2.2 fun o w' => k (o, w')) fun a => h1 _ _ _ _ _
      · refine pt_bind (exC_pt _ _ _ _ _ _) (G := fun a k => cK K2 a.1 a.2.1 w (aft K2 m pc ls a.2.2 fun o w' => k (o, w'))) fun a => ?_
        exact pt_bind (cK_pt h2 a.1 a.2.1 w) (G := fun b k => aft K2 m pc ls a.2.2 (fun o w' => k (o, w')) b.1 b.2) fun b => aft_pt h2 _ _ _ _ _ _
      · exact pt_bind (exR_pt _ _ _) (G := fun a k => k ((Sum.inl a : Out), w)) fun a => pt_id _
      · refine pt_oA _ fun x _ => pt_gd _ ?_
        unfold thr
        exact pt_bif _ (h1 _ _ _ _ _) (pt_id _)
  · split
    · refine pt_bif _ ?_ (pt_bif _ ?_ (pt_bif _ ?_ (pt_bif _ ?_ ?_)))
      · exact pt_bind (exG_pt _ _ _) (G := fun a k => K1 m 29 ls [] a fun o w' => k (o, w')) fun a => h1 _ _ _ _ _
      · exact pt_bind (exG_pt _ _ _) (G := fun a k => K1 m 75 ls [] a fun o w' => k (o, w')) fun a => h1 _ _ _ _ _
      · exact pt_bind (exW_pt _ _ _ _ _ _ _ _) (G := fun a k => K1 m 88 a.1 [] a.2 fun o w' => k (o, w')) fun a => h1 _ _ _ _ _
      · exact pt_bind (exW_pt _ _ _ _ _ _ _ _) (G := fun a k => K1 m 46 a.1 [] a.2 fun o w' => k (o, w')) fun a => h1 _ _ _ _ _
      · exact pt_bind (exN_pt _ _) (G := fun a k => K1 m 15 ls [] a fun o w' => k (o, w')) fun a => h1 _ _ _ _ _
    · exact pt_false
theorem wpn_one : ∀ n, one (wpn n)
  | 0 => fun _ _ _ _ _ => pt_false
  | n + 1 => stp_one (wpn_one n) (wpn_one n)
def Kle (K K' : Kt) : Prop := ∀ m pc ls st w Q, K m pc ls st w Q → K' m pc ls st w Q
theorem aft_le {K K' : Kt} (h : Kle K K') {m pc : Nat} {ls rest : List Vl} {Q : Out → Wd → Prop} {o : Out} {w : Wd} (hk : aft K m pc ls rest Q o w) : aft K' m pc ls rest Q o w := by
  unfold aft at hk ⊢
  split at hk
  · exact h _ _ _ _ _ _ hk
  · unfold thr at hk ⊢
    cases hb : (Nat.beq m 4 && Nat.ble 17 pc && Nat.ble pc 57) with
    | true => rw [hb] at hk; exact h _ _ _ _ _ _ hk
    | false => rw [hb] at hk; exact hk
theorem pt_le {α : Type} {F : (α → Prop) → Prop} (h : Pt1 F) {k k' : α → Prop} (hk : ∀ a, k a → k' a) (x : F k) : F k' := by
  obtain ⟨a, h1, h2⟩ := h k x
  exact h2 k' (hk a h1)
theorem cK_le {K K' : Kt} (h : Kle K K') (hK : one K') {m : Nat} {as : List Vl} {w : Wd} {Q Q' : Out → Wd → Prop} (hq : ∀ o w', Q o w' → Q' o w') (hk : cK K m as w Q) : cK K' m as w Q' := by
  unfold cK at hk ⊢
  cases hb : Nat.ble 600 m with
  | true => rw [hb] at hk; exact pt_le (prP_pt m as w) (k := fun x => Q x.1 x.2) (k' := fun x => Q' x.1 x.2) (fun a => hq a.1 a.2) hk
  | false => rw [hb] at hk; exact hK.mono hq (h _ _ _ _ _ _ hk)
theorem gd_le {b : Bool} {A B : Prop} (h : A → B) (x : gd b A) : gd b B := by
  cases b
  · exact x
  · exact h x
theorem bif_le {b : Bool} {A B C D : Prop} (h : A → B) (h' : C → D) (x : bif b then A else C) : bif b then B else D := by
  cases b
  · exact h' x
  · exact h x
theorem oA_le {st : List Vl} {H H' : Nat → List Vl → Prop} (h : ∀ a st', H a st' → H' a st') (x : oA st H) : oA st H' := by
  unfold oA at x ⊢
  split
  · exact h _ _ x
  · next e =>
    split at x
    · exact absurd rfl (e _ _)
    · exact x
theorem stp_le {K1 K2 K1' K2' : Kt} (h1 : Kle K1 K1') (h2 : Kle K2 K2') (hK : one K2') : Kle (stp K1 K2) (stp K1' K2') := by
  intro m pc ls st w Q hk
  unfold stp at hk ⊢
  refine bif_le ?_ ?_ hk
  · clear hk
    intro hk
    split
    · next he => rw [he] at hk; exact hk
    · next i len he =>
      rw [he] at hk
      simp only at hk
      split
      · next he2 =>
        rw [he2] at hk
        exact pt_le (exP_pt m (inf m).1 (inf m).2.2.2.2 pc len i ls st w) (k := fun a => K1 m a.1 a.2.1 a.2.2.1 a.2.2.2 Q) (k' := fun a => K1' m a.1 a.2.1 a.2.2.1 a.2.2.2 Q) (fun a => h1 _ _ _ _ _ _) hk
      · next kd j he2 =>
        rw [he2] at hk
        exact pt_le (exC_pt m kd j ls st w) (k := fun a => cK K2 a.1 a.2.1 w (aft K2 m pc ls a.2.2 Q)) (k' := fun a => cK K2' a.1 a.2.1 w (aft K2' m pc ls a.2.2 Q)) (fun a ha => cK_le h2 hK (fun o w' => aft_le h2) ha) hk
      · next he2 => rw [he2] at hk; exact hk
      · next kx e0 e1 e2 =>
        split at hk
        · next he2 => exact (e0 _ _ he2).elim
        · next he2 => exact (e1 _ _ he2).elim
        · next he2 => exact (e2 _ _ he2).elim
        · exact oA_le (fun a st' => gd_le (bif_le (h1 _ _ _ _ _ _) id)) hk
  · clear hk
    intro hk
    cases st with
    | nil =>
      refine bif_le ?_ (bif_le ?_ (bif_le ?_ (bif_le ?_ ?_))) hk
      · exact pt_le (exG_pt 4 ls w) (fun a => h1 _ _ _ _ _ _)
      · exact pt_le (exG_pt 9 ls w) (fun a => h1 _ _ _ _ _ _)
      · exact pt_le (exW_pt ls w 50 7 8 171 197 sg0) (k := fun a => K1 m 88 a.1 [] a.2 Q) (k' := fun a => K1' m 88 a.1 [] a.2 Q) (fun a => h1 _ _ _ _ _ _)
      · exact pt_le (exW_pt ls w 226 0 1 227 273 sg1) (k := fun a => K1 m 46 a.1 [] a.2 Q) (k' := fun a => K1' m 46 a.1 [] a.2 Q) (fun a => h1 _ _ _ _ _ _)
      · exact pt_le (exN_pt ls w) (fun a => h1 _ _ _ _ _ _)
    | cons a t => exact hk
theorem wpn_succ : ∀ n, Kle (wpn n) (wpn (n + 1))
  | 0 => fun _ _ _ _ _ _ h => h.elim
  | n + 1 => stp_le (wpn_succ n) (wpn_succ n) (wpn_one (n + 1))
theorem wpn_le {n k : Nat} (h : n ≤ k) : Kle (wpn n) (wpn k) := by
  induction h with
  | refl => intro m pc ls st w Q h; exact h
  | step _ ih => intro m pc ls st w Q h; exact wpn_succ _ _ _ _ _ _ _ (ih _ _ _ _ _ _ h)
theorem wp_one : one wp := by
  intro m pc ls st w Q hk
  obtain ⟨n, hn⟩ := hk
  obtain ⟨a, h1, h2⟩ := wpn_one n m pc ls st w Q hn
  exact ⟨a, h1, fun k' h' => ⟨n, h2 k' h'⟩⟩
theorem wp_mono {m pc : Nat} {ls st : List Vl} {w : Wd} {Q Q' : Out → Wd → Prop} (h : wp m pc ls st w Q) (hq : ∀ o w', Q o w' → Q' o w') : wp m pc ls st w Q' := wp_one.mono hq h
theorem cl_mono {m : Nat} {as : List Vl} {w : Wd} {Q Q' : Out → Wd → Prop} (h : cl m as w Q) (hq : ∀ o w', Q o w' → Q' o w') : cl m as w Q' := cK_le (fun _ _ _ _ _ _ h => h) wp_one hq h
theorem aft_fin {m pc : Nat} {ls rest : List Vl} {Q : Out → Wd → Prop} {o : Out} {w : Wd} (h : aft wp m pc ls rest Q o w) : ∃ n, ∀ k, n ≤ k → aft (wpn k) m pc ls rest Q o w := by
  cases o with
  | inl r =>
    obtain ⟨n, hn⟩ := h
    exact ⟨n, fun k hk => wpn_le hk _ _ _ _ _ _ hn⟩
  | inr x =>
    have h : thr m pc (fun h => wp m h ls [vr x] w Q) (Q (.inr x) w) := h
    have g : ∀ k, thr m pc (fun h => wpn k m h ls [vr x] w Q) (Q (.inr x) w) → aft (wpn k) m pc ls rest Q (.inr x) w := fun k h => h
    unfold thr at h g
    cases hb : (Nat.beq m 4 && Nat.ble 17 pc && Nat.ble pc 57) with
    | true =>
      rw [hb] at h g
      obtain ⟨n, hn⟩ := h
      exact ⟨n, fun k hk => g k (wpn_le hk _ _ _ _ _ _ hn)⟩
    | false =>
      rw [hb] at h g
      exact ⟨0, fun k _ => g k h⟩
theorem wp_stp {m pc : Nat} {ls st : List Vl} {w : Wd} {Q : Out → Wd → Prop} (hk : stp wp wp m pc ls st w Q) : wp m pc ls st w Q := by
  suffices h : ∃ n, stp (wpn n) (wpn n) m pc ls st w Q by
    obtain ⟨n, hn⟩ := h
    exact ⟨n + 1, hn⟩
  unfold stp at hk ⊢
  cases hb : Nat.beq (mac m pc) 0 with
  | true =>
    rw [hb] at hk
    simp only [cond_true] at hk ⊢
    cases he : lk (tb m) pc with
    | none => rw [he] at hk; exact hk.elim
    | some x =>
      obtain ⟨i, len⟩ := x
      rw [he] at hk
      simp only at hk ⊢
      split at hk
      · obtain ⟨a, ⟨n, hn⟩, h2⟩ := exP_pt m (inf m).1 (inf m).2.2.2.2 pc len i ls st w (fun a => wp m a.1 a.2.1 a.2.2.1 a.2.2.2 Q) hk
        exact ⟨n, h2 (fun a => wpn n m a.1 a.2.1 a.2.2.1 a.2.2.2 Q) hn⟩
      · next kd j he2 =>
        obtain ⟨a, h1, h2⟩ := exC_pt m kd j ls st w (fun a => cK wp a.1 a.2.1 w (aft wp m pc ls a.2.2 Q)) hk
        suffices h : ∃ n, cK (wpn n) a.1 a.2.1 w (aft (wpn n) m pc ls a.2.2 Q) by
          obtain ⟨n, hn⟩ := h
          exact ⟨n, h2 (fun a => cK (wpn n) a.1 a.2.1 w (aft (wpn n) m pc ls a.2.2 Q)) hn⟩
        unfold cK at h1 ⊢
        cases hc : Nat.ble 600 a.1 with
        | true =>
          rw [hc] at h1
          obtain ⟨b, h3, h4⟩ := prP_pt a.1 a.2.1 w (fun x => aft wp m pc ls a.2.2 Q x.1 x.2) h1
          obtain ⟨n, hn⟩ := aft_fin h3
          exact ⟨n, h4 (fun x => aft (wpn n) m pc ls a.2.2 Q x.1 x.2) (hn n (Nat.le_refl n))⟩
        | false =>
          rw [hc] at h1
          obtain ⟨n1, h1⟩ := h1
          obtain ⟨b, h3, h4⟩ := wpn_one n1 _ _ _ _ _ (fun x => aft wp m pc ls a.2.2 Q x.1 x.2) h1
          obtain ⟨n, hn⟩ := aft_fin h3
          exact ⟨max n1 n, wpn_le (Nat.le_max_left n1 n) _ _ _ _ _ _ (h4 (fun x => aft (wpn (max n1 n)) m pc ls a.2.2 Q x.1 x.2) (hn _ (Nat.le_max_right n1 n)))⟩
      · exact ⟨0, hk⟩
      · next e0 e1 e2 =>
        unfold oA at hk ⊢
        split at hk
        · simp only at hk ⊢
          unfold gd at hk ⊢
          unfold thr at hk ⊢
          cases hg : Nat.beq (tg w _) 18 with
          | false => rw [hg] at hk; exact hk.elim
          | true =>
            rw [hg] at hk
            simp only [cond_true] at hk ⊢
            cases hh : (Nat.beq m 4 && Nat.ble 17 pc && Nat.ble pc 57) with
            | true =>
              rw [hh] at hk
              exact hk
            | false =>
              rw [hh] at hk
              exact ⟨0, hk⟩
        · exact hk.elim
  | false =>
    rw [hb] at hk
    simp only [cond_false] at hk ⊢
    cases st with
    | cons a t => exact hk.elim
    | nil =>
      simp only at hk ⊢
      cases b1 : Nat.beq (mac m pc) 1 with
      | true =>
        rw [b1] at hk
        obtain ⟨a, ⟨n, hn⟩, h2⟩ := exG_pt 4 ls w (fun w' => wp m 29 ls [] w' Q) hk
        exact ⟨n, h2 (fun w' => wpn n m 29 ls [] w' Q) hn⟩
      | false =>
        rw [b1] at hk
        cases b2 : Nat.beq (mac m pc) 2 with
        | true =>
          rw [b2] at hk
          obtain ⟨a, ⟨n, hn⟩, h2⟩ := exG_pt 9 ls w (fun w' => wp m 75 ls [] w' Q) hk
          exact ⟨n, h2 (fun w' => wpn n m 75 ls [] w' Q) hn⟩
        | false =>
          rw [b2] at hk
          cases b3 : Nat.beq (mac m pc) 3 with
          | true =>
            rw [b3] at hk
            obtain ⟨a, ⟨n, hn⟩, h2⟩ := exW_pt ls w 50 7 8 171 197 sg0 (fun a => wp m 88 a.1 [] a.2 Q) hk
            exact ⟨n, h2 (fun a => wpn n m 88 a.1 [] a.2 Q) hn⟩
          | false =>
            rw [b3] at hk
            cases b4 : Nat.beq (mac m pc) 4 with
            | true =>
              rw [b4] at hk
              obtain ⟨a, ⟨n, hn⟩, h2⟩ := exW_pt ls w 226 0 1 227 273 sg1 (fun a => wp m 46 a.1 [] a.2 Q) hk
              exact ⟨n, h2 (fun a => wpn n m 46 a.1 [] a.2 Q) hn⟩
            | false =>
              rw [b4] at hk
              obtain ⟨a, ⟨n, hn⟩, h2⟩ := exN_pt ls w (fun w' => wp m 15 ls [] w' Q) hk
              exact ⟨n, h2 (fun w' => wpn n m 15 ls [] w' Q) hn⟩
theorem vc_wp (cuts : List Nat) : ∀ k, Kle (vc cuts k) wp
  | 0 => fun _ _ _ _ _ _ h => h
  | k + 1 => fun m pc ls st w Q h => wp_stp (stp_le (K1 := fun m pc ls st w Q => bif cuts.any (Nat.beq pc) then wp m pc ls st w Q else vc cuts k m pc ls st w Q) (K2 := wp) (K1' := wp) (K2' := wp) (fun m pc ls st w Q h => by
      cases hb : cuts.any (Nat.beq pc) with
      | true => simp only [hb, cond_true] at h; exact h
      | false => simp only [hb, cond_false] at h; exact vc_wp cuts k _ _ _ _ _ _ h) (fun _ _ _ _ _ _ h => h) wp_one _ _ _ _ _ _ h)
