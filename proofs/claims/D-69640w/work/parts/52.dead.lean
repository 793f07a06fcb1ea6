/-! a local that holds nothing of its own may hold a number as well -/
set_option maxRecDepth 100000
def nref : Vl → Bool
  | .inr (.inr (.inl _)) => false
  | _ => true
def isL : Vl → Bool
  | .inr (.inl _) => true
  | _ => false
/-- the same locals, but where the first has nothing the second may have a number (not behind a long) -/
def Lle (ls ls' : List Vl) : Prop := ls.length = ls'.length ∧ ∀ j : Nat, ls[j]? = ls'[j]? ∨ (ls[j]? = some vu ∧ (∃ v, ls'[j]? = some v ∧ nref v = true) ∧ ∀ i v, i + 1 = j → ls[i]? = some v → isL v = false)
theorem Lle.refl (ls : List Vl) : Lle ls ls := ⟨rfl, fun _ => Or.inl rfl⟩
theorem Lle.ldI {ls ls' : List Vl} (h : Lle ls ls') {j : Nat} {k : Int → Prop} (x : ldI ls j k) : ldI ls' j k := by
  unfold Jvm.Pilot.CSafeCodeLaw_law_r6595_0d1464.ldI at x ⊢
  rcases h.2 j with e | ⟨e, _, _⟩
  · rw [← e]; exact x
  · rw [e] at x; exact x.elim
theorem Lle.ldA {ls ls' : List Vl} (h : Lle ls ls') {j : Nat} {k : Nat → Prop} (x : ldA ls j k) : ldA ls' j k := by
  unfold Jvm.Pilot.CSafeCodeLaw_law_r6595_0d1464.ldA at x ⊢
  rcases h.2 j with e | ⟨e, _, _⟩
  · rw [← e]; exact x
  · rw [e] at x; exact x.elim
theorem Lle.ldL {ls ls' : List Vl} (h : Lle ls ls') {j : Nat} {k : Int → Prop} (x : ldL ls j k) : ldL ls' j k := by
  unfold Jvm.Pilot.CSafeCodeLaw_law_r6595_0d1464.ldL at x ⊢
  split at x
  · next y hy =>
    split at x
    · next hz =>
      have e1 : ls'[j]? = some (.inr (.inl y)) := by
        rcases h.2 j with e | ⟨e, _, _⟩
        · rw [← e]; exact hy
        · rw [hy] at e; cases e
      have e2 : ls'[j + 1]? = some (.inr (.inr (.inr ()))) := by
        rcases h.2 (j + 1) with e | ⟨e, _, h3⟩
        · rw [← e]; exact hz
        · exact Bool.noConfusion (show true = false from h3 j _ rfl hy)
      rw [e1]
      dsimp only
      rw [e2]
      exact x
    · exact x.elim
  · exact x.elim
theorem Lle.set {ls ls' : List Vl} (h : Lle ls ls') (j : Nat) (v : Vl) (hv : isL v = false) : Lle (ls.set j v) (ls'.set j v) := by
  refine ⟨by rw [List.length_set, List.length_set]; exact h.1, fun i => ?_⟩
  rw [List.getElem?_set, List.getElem?_set]
  by_cases e : j = i
  · subst e
    rw [if_pos rfl, if_pos rfl, h.1]
    exact Or.inl rfl
  · rw [if_neg e, if_neg e]
    rcases h.2 i with h1 | ⟨h1, h2, h3⟩
    · exact Or.inl h1
    · refine Or.inr ⟨h1, h2, fun k u hk hu => ?_⟩
      rw [List.getElem?_set] at hu
      by_cases e2 : j = k
      · rw [if_pos e2] at hu
        split at hu
        · cases hu; exact hv
        · cases hu
      · rw [if_neg e2] at hu
        exact h3 k u hk hu
theorem Lle.setL {ls ls' : List Vl} (h : Lle ls ls') (j : Nat) (x : Int) : Lle ((ls.set j (vl x)).set (j + 1) vu) ((ls'.set j (vl x)).set (j + 1) vu) := by
  refine ⟨by simp only [List.length_set]; exact h.1, fun i => ?_⟩
  have g : ∀ (s : List Vl) (i : Nat), ((s.set j (vl x)).set (j + 1) vu)[i]? = if j + 1 = i then (if j + 1 < s.length then some vu else none) else if j = i then (if j < s.length then some (vl x) else none) else s[i]? := by
    intro s i
    simp only [List.getElem?_set, List.length_set]
  rw [g, g]
  by_cases e : j + 1 = i
  · rw [if_pos e, if_pos e, h.1]
    exact Or.inl rfl
  · rw [if_neg e, if_neg e]
    by_cases e1 : j = i
    · rw [if_pos e1, if_pos e1, h.1]
      exact Or.inl rfl
    · rw [if_neg e1, if_neg e1]
      rcases h.2 i with h1 | ⟨h1, h2, h3⟩
      · exact Or.inl h1
      · refine Or.inr ⟨h1, h2, fun k u hk hu => ?_⟩
        rw [g] at hu
        by_cases e2 : j + 1 = k
        · rw [if_pos e2] at hu
          split at hu
          · cases hu; rfl
          · cases hu
        · rw [if_neg e2, if_neg (by omega)] at hu
          exact h3 k u hk hu
theorem Lle.all {ls ls' : List Vl} (h : Lle ls ls') {w : Wd} {m : Nat} (x : ls.all (stb w m) = true) : ls'.all (stb w m) = true := by
  rw [List.all_eq_true] at x ⊢
  intro v hv
  obtain ⟨j, hj, rfl⟩ := List.mem_iff_getElem.mp hv
  have e0 : ls'[j]? = some ls'[j] := List.getElem?_eq_getElem hj
  rcases h.2 j with e | ⟨_, ⟨u, e, hu⟩, _⟩
  · rw [e0] at e
    exact x _ (List.mem_of_getElem? e)
  · rw [e0] at e
    cases e
    generalize ls'[j] = u at hu
    unfold stb
    split
    · cases hu
    · rfl
abbrev Kx : Type := Nat → List Vl → List Vl → Wd → Prop
/-- what goes on behind does so with more in the locals as well -/
def Kd (k k' : Kx) : Prop := ∀ pc ls ls' st w, Lle ls ls' → k pc ls st w → k' pc ls' st w
theorem o1_m {st : List Vl} {F G : Int → List Vl → Prop} (h : ∀ x st', F x st' → G x st') (x : o1 st F) : o1 st G := by
  unfold o1 at x ⊢
  split
  · exact h _ _ x
  · next e => split at x
              · exact absurd rfl (e _ _)
              · exact x
theorem oL_m {st : List Vl} {F G : Int → List Vl → Prop} (h : ∀ x st', F x st' → G x st') (x : oL st F) : oL st G := by
  unfold oL at x ⊢
  split
  · exact h _ _ x
  · next e => split at x
              · exact absurd rfl (e _ _)
              · exact x
theorem o2_m {st : List Vl} {F G : Int → Int → List Vl → Prop} (h : ∀ x y st', F x y st' → G x y st') (x : o2 st F) : o2 st G :=
  o1_m (fun _ _ => o1_m fun _ _ => h _ _ _) x
theorem oLL_m {st : List Vl} {F G : Int → Int → List Vl → Prop} (h : ∀ x y st', F x y st' → G x y st') (x : oLL st F) : oLL st G :=
  oL_m (fun _ _ => oL_m fun _ _ => h _ _ _) x
theorem br_m {c A B A' B' : Prop} (h : A → A') (h' : B → B') (x : br c A B) : br c A' B' := ⟨fun e => h (x.1 e), fun e => h' (x.2 e)⟩
theorem sw1_m {x : Int} {d d' : Prop} {k k' : Int → Prop} (h : d → d') (h' : ∀ o, k o → k' o) : ∀ (os : List Int) (v : Int), sw1 x v d k os → sw1 x v d' k' os
  | [], _, y => h y
  | _ :: os, v, y => ⟨fun e => h' _ (y.1 e), fun e => sw1_m h h' os (v + 1) (y.2 e)⟩
theorem sw2_m {x : Int} {d d' : Prop} {k k' : Int → Prop} (h : d → d') (h' : ∀ o, k o → k' o) : ∀ (os : List (Int × Int)), sw2 x d k os → sw2 x d' k' os
  | [], y => h y
  | _ :: os, y => ⟨fun e => h' _ (y.1 e), fun e => sw2_m h h' os (y.2 e)⟩
theorem getF_m {w : Wd} {a f t : Nat} {k k' : Vl → Prop} (h : ∀ v, k v → k' v) (x : getF w a f t k) : getF w a f t k' := by
  rcases t with _ | _ | _ | t
  · exact h _ x
  · exact h _ x
  · exact gd_le (h _) x
  · exact h _ x
theorem putF_m {w : Wd} {f t lo hi : Nat} {st : List Vl} {k k' : List Vl → Wd → Prop} (h : ∀ s v, k s v → k' s v) (x : putF w f t lo hi st k) : putF w f t lo hi st k' := by
  rcases t with _ | _ | _ | t
  · exact o1_m (fun _ _ => oA_le fun _ _ => gd_le (h _ _)) x
  · exact oL_m (fun _ _ => oA_le fun _ _ => gd_le (h _ _)) x
  · exact oA_le (fun _ _ => oA_le fun _ _ => gd_le (h _ _)) x
  · exact o1_m (fun _ _ => oA_le fun _ _ => gd_le fun y => ⟨y.1, h _ _ y.2⟩) x
theorem newA_m {w : Wd} {m n t : Nat} {k k' : Vl → Wd → Prop} (h : ∀ s v, k s v → k' s v) (x : newA w m n t k) : newA w m n t k' := by
  unfold newA at x ⊢
  exact gd_le (bif_le (gd_le (h _ _)) (h _ _)) x
theorem ldI_m {ls ls' : List Vl} (hl : Lle ls ls') {j : Nat} {k k' : Int → Prop} (h : ∀ x, k x → k' x) (x : ldI ls j k) : ldI ls' j k' := by
  have y := hl.ldI x
  unfold ldI at y ⊢
  split at y
  · exact h _ y
  · exact y.elim
theorem ldA_m {ls ls' : List Vl} (hl : Lle ls ls') {j : Nat} {k k' : Nat → Prop} (h : ∀ x, k x → k' x) (x : ldA ls j k) : ldA ls' j k' := by
  have y := hl.ldA x
  unfold ldA at y ⊢
  split at y
  · exact h _ y
  · exact y.elim
theorem ldL_m {ls ls' : List Vl} (hl : Lle ls ls') {j : Nat} {k k' : Int → Prop} (h : ∀ x, k x → k' x) (x : ldL ls j k) : ldL ls' j k' := by
  have y := hl.ldL x
  unfold ldL at y ⊢
  split at y
  · split at y
    · exact h _ y
    · exact y.elim
  · exact y.elim
set_option maxHeartbeats 4000000 in
theorem exP_m {m own ini pc len : Nat} {i : Jvm.ClassFile.Instr} {ls ls' st : List Vl} {w : Wd} {k k' : Kx} (hl : Lle ls ls') (hk : Kd k k') (x : exP m own ini pc len i ls st w k) : exP m own ini pc len i ls' st w k' := by
  have hk0 : ∀ {pc st w}, k pc ls st w → k' pc ls' st w := fun y => hk _ _ _ _ _ hl y
  cases i
  case ldc j => unfold exP at x ⊢; dsimp only at x ⊢; split at x <;> first | exact hk0 x | exact x.elim
  case ldc_w j => unfold exP at x ⊢; dsimp only at x ⊢; split at x <;> first | exact hk0 x | exact x.elim
  case ldc2_w j => unfold exP at x ⊢; dsimp only at x ⊢; split at x <;> first | exact hk0 x | exact x.elim
  case dup => unfold exP at x ⊢; dsimp only at x ⊢; split at x <;> first | exact hk0 x | exact x.elim
  case dup2 => unfold exP at x ⊢; dsimp only at x ⊢; split at x <;> first | exact hk0 x | exact x.elim
  case ifCond c off => unfold exP at x ⊢; dsimp only at x ⊢; exact o1_m (fun _ _ => by cases c <;> exact br_m hk0 hk0) x
  case if_icmp c off => unfold exP at x ⊢; dsimp only at x ⊢; exact o2_m (fun _ _ _ => by cases c <;> exact br_m hk0 hk0) x
  case tableswitch d lo hi offs => exact o1_m (fun _ _ => sw1_m hk0 (fun _ => hk0) _ _) x
  case lookupswitch d ps => exact o1_m (fun _ _ => sw2_m hk0 (fun _ => hk0) _) x
  case getfield j => unfold exP at x ⊢; dsimp only at x ⊢; split at x <;> first | exact x.elim | exact oA_le (fun _ _ => gd_le (getF_m fun _ => hk0)) x
  case putfield j => unfold exP at x ⊢; dsimp only at x ⊢; split at x <;> first | exact x.elim | exact gd_le (putF_m fun _ _ => hk0) x
  case new j => unfold exP at x ⊢; dsimp only at x ⊢; split at x <;> first | exact x.elim | exact gd_le hk0 x
  case newarray t => exact o1_m (fun _ _ => gd_le fun y => ⟨y.1, newA_m (fun _ _ => hk0) y.2⟩) x
  case arraylength => exact oA_le (fun _ _ => gd_le hk0) x
  case iaload => exact o1_m (fun _ _ => oA_le fun _ _ => gd_le fun y => ⟨y.1, hk0 y.2⟩) x
  case baload => exact o1_m (fun _ _ => oA_le fun _ _ => gd_le fun y => ⟨y.1, hk0 y.2⟩) x
  case laload => exact o1_m (fun _ _ => oA_le fun _ _ => gd_le fun y => ⟨y.1, hk0 y.2⟩) x
  case iastore => exact o1_m (fun _ _ => o1_m fun _ _ => oA_le fun _ _ => gd_le fun y => ⟨y.1, hk0 y.2⟩) x
  case bastore => exact o1_m (fun _ _ => o1_m fun _ _ => oA_le fun _ _ => gd_le fun y => ⟨y.1, y.2.1, hk0 y.2.2⟩) x
  case lastore => exact oL_m (fun _ _ => o1_m fun _ _ => oA_le fun _ _ => gd_le fun y => ⟨y.1, hk0 y.2⟩) x
  case idiv => exact o2_m (fun _ _ _ y => ⟨y.1, hk0 y.2⟩) x
  case irem => exact o2_m (fun _ _ _ y => ⟨y.1, hk0 y.2⟩) x
  case ldiv => exact oLL_m (fun _ _ _ y => ⟨y.1, hk0 y.2⟩) x
  case lshl => exact o1_m (fun _ _ => oL_m fun _ _ => hk0) x
  case lshr => exact o1_m (fun _ _ => oL_m fun _ _ => hk0) x
  case istore j => exact o1_m (fun _ _ y => hk _ _ _ _ _ (hl.set _ _ rfl) y) x
  case istore_n j => exact o1_m (fun _ _ y => hk _ _ _ _ _ (hl.set _ _ rfl) y) x
  case lstore j => exact oL_m (fun _ _ y => hk _ _ _ _ _ (hl.setL _ _) y) x
  case lstore_n j => exact oL_m (fun _ _ y => hk _ _ _ _ _ (hl.setL _ _) y) x
  case astore j => exact oA_le (fun _ _ y => hk _ _ _ _ _ (hl.set _ _ rfl) y) x
  case astore_n j => exact oA_le (fun _ _ y => hk _ _ _ _ _ (hl.set _ _ rfl) y) x
  case iinc j n => exact ldI_m hl (fun _ y => hk _ _ _ _ _ (hl.set _ _ rfl) y) x
  all_goals first | exact x.elim | exact hk0 x | exact ldI_m hl (fun _ => hk0) x | exact ldL_m hl (fun _ => hk0) x | exact ldA_m hl (fun _ => hk0) x | exact o1_m (fun _ _ => hk0) x | exact oL_m (fun _ _ => hk0) x | exact oA_le (fun _ _ => hk0) x | exact o2_m (fun _ _ _ => hk0) x | exact oLL_m (fun _ _ _ => hk0) x
theorem gd_t {P : Prop} (h : gd true P) : P := h
theorem exC_m {m kd j : Nat} {ls ls' st : List Vl} {w : Wd} {k k' : Nat → List Vl → List Vl → Prop} (hl : Lle ls ls') (hk : ∀ a b c, k a b c → k' a b c) (x : exC m kd j ls st w k) : exC m kd j ls' st w k' := by
  unfold exC at x ⊢
  split at x
  · next kd' np m2 lo hi hr =>
    cases hb : (Nat.beq kd' kd && Nat.ble np st.length && Nat.ble (pdep m2 + 1) (inf m).2.2.1 && Nat.ble (wt (st.drop np)) 8 && (Nat.ble 600 m2 || Nat.ble (wt (st.take np)) (inf m2).2.1) && (ls.all (stb w m2) && (st.drop np).all (stb w m2))) with
    | false => rw [hb] at x; exact x.elim
    | true =>
      rw [hb] at x
      obtain ⟨b1, b2⟩ := (Bool.and_eq_true _ _).mp hb
      obtain ⟨b3, b4⟩ := (Bool.and_eq_true _ _).mp b2
      refine gd_i (by rw [b1, hl.all b3, b4]; rfl) ?_
      have x' := gd_t x
      split at x'
      · exact hk _ _ _ x'
      · exact gd_le (hk _ _ _) x'
      · exact x'.elim
  · exact x.elim
theorem exG_m {tag : Nat} {ls ls' : List Vl} {w : Wd} {k k' : Wd → Prop} (hl : Lle ls ls') (hk : ∀ v, k v → k' v) (x : exG tag ls w k) : exG tag ls' w k' := by
  unfold exG at x ⊢
  split at x
  · next a t =>
    cases ls' with
    | nil => exact absurd hl.1 (by simp)
    | cons u t' =>
      have h0 := hl.2 0
      have e : u = .inr (.inr (.inl a)) := by
        rcases h0 with h0 | ⟨h0, _⟩
        · exact (Option.some.inj h0).symm
        · cases h0
      subst e
      dsimp only
      cases hb : (Nat.beq (tg w a) tag && Nat.beq (tg w (gr w a 0)) 55 && List.all (.inr (.inr (.inl a)) :: t) (stb w 58)) with
      | false => rw [hb] at x; exact x.elim
      | true =>
        rw [hb] at x
        obtain ⟨b1, b2⟩ := (Bool.and_eq_true _ _).mp hb
        refine gd_i (by rw [b1, hl.all b2]; rfl) ?_
        have x' := (show _ ∧ _ from x)
        exact ⟨x'.1, hk _ x'.2⟩
  · exact x.elim
theorem Lle.hd {v : Vl} {t ls' : List Vl} (h : Lle (v :: t) ls') (hv : v ≠ vu) : ∃ t', ls' = v :: t' ∧ t.length = t'.length := by
  cases ls' with
  | nil => exact absurd h.1 (by simp)
  | cons u t' =>
    refine ⟨t', ?_, by have := h.1; simpa using this⟩
    rcases h.2 0 with h0 | ⟨h0, _⟩
    · rw [(Option.some.inj h0 : v = u)]
    · exact absurd (Option.some.inj h0) hv
theorem Lle.snd {v u : Vl} {t t' : List Vl} (h : Lle (v :: u :: t) (v :: t')) (hu : u ≠ vu) : ∃ t'', t' = u :: t'' ∧ t.length = t''.length := by
  cases t' with
  | nil => exact absurd h.1 (by simp)
  | cons u' t'' =>
    refine ⟨t'', ?_, by have := h.1; simpa using this⟩
    rcases h.2 1 with h0 | ⟨h0, _⟩
    · rw [(Option.some.inj h0 : u = u')]
    · exact absurd (Option.some.inj h0) hu
theorem exW_m {ls ls' : List Vl} {w : Wd} {oa f1 f2 p1 p2 : Nat} {sg : Nat → Nat} {k k' : List Vl → Wd → Prop} (hl : Lle ls ls') (hk : ∀ a v, k a v → k' a v) (x : exW ls w oa f1 f2 p1 p2 sg k) : exW ls' w oa f1 f2 p1 p2 sg k' := by
  unfold exW at x ⊢
  split at x
  · next a n u =>
    obtain ⟨t1, rfl, e1⟩ := hl.hd (by intro h; cases h)
    obtain ⟨t2, rfl, e2⟩ := hl.snd (by intro h; cases h)
    match t2, e2 with
    | [u'], _ => exact gd_le (fun y => ⟨y.1, hk _ _ y.2⟩) x
  · exact x.elim
theorem exN_m {ls ls' : List Vl} {w : Wd} {k k' : Wd → Prop} (hl : Lle ls ls') (hk : ∀ v, k v → k' v) (x : exN ls w k) : exN ls' w k' := by
  unfold exN at x ⊢
  split at x
  · next a =>
    obtain ⟨t1, rfl, e1⟩ := hl.hd (by intro h; cases h)
    match t1, e1 with
    | [], _ => exact gd_le (hk _) x
  · exact x.elim
theorem wpn_d : ∀ (n m pc : Nat) (ls ls' st : List Vl) (w : Wd) (Q : Out → Wd → Prop), Lle ls ls' → wpn n m pc ls st w Q → wpn n m pc ls' st w Q
  | 0, _, _, _, _, _, _, _, _, h => h
  | n + 1, m, pc, ls, ls', st, w, Q, hl, h => by
    have ih := wpn_d n
    have h' : stp (wpn n) (wpn n) m pc ls st w Q := h
    show stp (wpn n) (wpn n) m pc ls' st w Q
    unfold stp at h' ⊢
    cases hm : Nat.beq (mac m pc) 0 with
    | true =>
      rw [hm, cond_true] at h'
      rw [cond_true]
      split at h'
      · exact h'.elim
      · next i len hlk =>
        split at h'
        · exact exP_m hl (fun pc1 l1 l2 st1 w1 hl1 y => ih m pc1 l1 l2 st1 w1 Q hl1 y) h'
        · next kd j hk =>
          refine exC_m hl (fun m2 as rest y => ?_) h'
          refine cK_le (K := wpn n) (K' := wpn n) (fun _ _ _ _ _ _ z => z) (wpn_one n) (fun o v z => ?_) y
          unfold aft at z ⊢
          split at z
          · exact ih _ _ _ _ _ _ _ hl z
          · unfold thr at z ⊢
            cases hb : (Nat.beq m 4 && Nat.ble 17 pc && Nat.ble pc 57) with
            | true => rw [hb] at z; exact ih _ _ _ _ _ _ _ hl z
            | false => rw [hb] at z; exact z
        · exact h'
        · refine oA_le (fun a _ => gd_le fun z => ?_) h'
          unfold thr at z ⊢
          cases hb : (Nat.beq m 4 && Nat.ble 17 pc && Nat.ble pc 57) with
          | true => rw [hb] at z; exact ih _ _ _ _ _ _ _ hl z
          | false => rw [hb] at z; exact z
    | false =>
      rw [hm, cond_false] at h'
      rw [cond_false]
      split at h'
      · revert h'
        refine bif_le (exG_m hl fun v => ih _ _ _ _ _ _ _ hl) (bif_le (exG_m hl fun v => ih _ _ _ _ _ _ _ hl) (bif_le (exW_m hl fun a v z => z) (bif_le (exW_m hl fun a v z => z) (exN_m hl fun v => ih _ _ _ _ _ _ _ hl))))
      · exact h'.elim
/-- a number where nothing was needed -/
theorem wp_d {m pc : Nat} {ls ls' st : List Vl} {w : Wd} {Q : Out → Wd → Prop} (hl : Lle ls ls') (h : wp m pc ls st w Q) : wp m pc ls' st w Q := by
  obtain ⟨n, h⟩ := h
  exact ⟨n, wpn_d n _ _ _ _ _ _ _ hl h⟩
theorem Lle.nil : Lle [] [] := Lle.refl []
theorem Lle.k {v : Vl} {s t : List Vl} (hv : isL v = false) (h : Lle s t) : Lle (v :: s) (v :: t) := by
  refine ⟨by simp only [List.length_cons]; rw [h.1], fun j => ?_⟩
  cases j with
  | zero => exact Or.inl rfl
  | succ j =>
    rcases h.2 j with h1 | ⟨h1, h2, h3⟩
    · exact Or.inl h1
    · refine Or.inr ⟨h1, h2, fun i u hi hu => ?_⟩
      cases i with
      | zero => cases (show some v = some u from hu); exact hv
      | succ i => exact h3 i u (by omega) hu
theorem Lle.l {x : Int} {s t : List Vl} (h : Lle s t) : Lle (vl x :: vu :: s) (vl x :: vu :: t) := by
  have h1 : Lle (vu :: s) (vu :: t) := Lle.k rfl h
  refine ⟨by simp only [List.length_cons]; rw [h.1], fun j => ?_⟩
  cases j with
  | zero => exact Or.inl rfl
  | succ j =>
    cases j with
    | zero => exact Or.inl rfl
    | succ j =>
      rcases h1.2 (j + 1) with h2 | ⟨h2, h3, h4⟩
      · exact Or.inl h2
      · refine Or.inr ⟨h2, h3, fun i u hi hu => ?_⟩
        cases i with
        | zero => omega
        | succ i => exact h4 i u (by omega) hu
theorem Lle.v {v : Vl} {s t : List Vl} (hv : nref v = true) (h : Lle s t) : Lle (vu :: s) (v :: t) := by
  refine ⟨by simp only [List.length_cons]; rw [h.1], fun j => ?_⟩
  cases j with
  | zero => exact Or.inr ⟨rfl, ⟨v, rfl, hv⟩, fun i u hi _ => by omega⟩
  | succ j =>
    rcases h.2 j with h1 | ⟨h1, h2, h3⟩
    · exact Or.inl h1
    · refine Or.inr ⟨h1, h2, fun i u hi hu => ?_⟩
      cases i with
      | zero => cases (show some vu = some u from hu); rfl
      | succ i => exact h3 i u (by omega) hu
