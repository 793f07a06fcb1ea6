/-! straight-line methods that answer nothing, run -/
set_option maxRecDepth 100000
def ex : Nat → Nat → Nat → List Vl → List Vl → Wd → Option Wd
  | 0, _, _, _, _, _ => none
  | n + 1, m, pc, ls, st, w =>
    bif Nat.beq (mac m pc) 5 then (match ls, st with
      | [.inr (.inr (.inl a))], [] => bif Nat.beq (tg w a) 2 && roomy w 6 then ex n m 15 [vr a] [] ((mkc w 18 0 6).1, urf (mkc w 18 0 6).2.1 a 0 (nx w), (mkc w 18 0 6).2.2) else none
      | _, _ => none)
    else bif Nat.beq (mac m pc) 0 then (match lk (tb m) pc with
      | none => none
      | some (i, len) => (match kin i with
        | (0, _, _) => (match exS m (inf m).1 (inf m).2.2.2.2 i ls st w with
          | some (st', w') => ex n m (pc + len) ls st' w'
          | none => none)
        | (1, kd, j) => (match rcl ((inf m).1 * 1000 + j) with
          | some (kd', np, m2, lo, hi) => bif Nat.beq kd' kd && Nat.ble np st.length && Nat.ble (pdep m2 + 1) (inf m).2.2.1 && Nat.ble (wt (st.drop np)) 8 && (Nat.ble 600 m2 || Nat.ble (wt (st.take np)) (inf m2).2.1) && (ls.all (stb w m2) && (st.drop np).all (stb w m2)) then
              (match kd, (st.take np).reverse with
                | _ + 1, .inr (.inr (.inl a)) :: as => bif Nat.ble lo (tg w a) && Nat.ble (tg w a) hi then
                    (bif Nat.beq m2 600 then (match as with
                      | [] => ex n m (pc + 3) ls (st.drop np) w
                      | _ => none)
                    else bif Nat.ble 600 m2 then none
                    else (match ex n m2 0 (ent m2 (vr a :: as)) [] w with
                      | some w' => ex n m (pc + 3) ls (st.drop np) w'
                      | none => none)) else none
                | _, _ => none) else none
          | none => none)
        | (2, _, _) => (match i, st with
          | .return_, [] => bif Nat.beq (inf m).2.2.2.1 0 then some w else none
          | _, _ => none)
        | _ => none))
    else none
theorem ex_ok : ∀ (n m pc : Nat) (ls st : List Vl) (w w' : Wd) (Q : Out → Wd → Prop), ex n m pc ls st w = some w' → Q (.inl []) w' → wpn n m pc ls st w Q
  | 0, _, _, _, _, _, _, _, h, _ => by cases h
  | n + 1, m, pc, ls, st, w, w', Q, h, hQ => by
    show stp (wpn n) (wpn n) m pc ls st w Q
    unfold ex at h
    unfold stp
    cases h5 : Nat.beq (mac m pc) 5 with
    | true =>
      have e5 := Nat.eq_of_beq_eq_true h5
      rw [h5, cond_true] at h
      rw [e5]
      split at h
      · next a =>
        obtain ⟨hb, h⟩ := bif_s h
        exact gd_i hb (ex_ok n m 15 _ _ _ _ Q h hQ)
      · cases h
    | false =>
      rw [h5, cond_false] at h
      obtain ⟨h0, h⟩ := bif_s h
      rw [h0, cond_true]
      split at h
      · cases h
      · next i len hlk =>
        rw [hlk]
        dsimp only
        split at h
        · next hk =>
          rw [hk]
          split at h
          · next st' w1 hs => exact exS_ok hs (ex_ok n m _ _ _ _ _ Q h hQ)
          · cases h
        · next kd j hk =>
          rw [hk]
          split at h
          · next kd' np m2 lo hi hr =>
            obtain ⟨hb, h⟩ := bif_s h
            show exC m kd j ls st w fun m2 as rest => cK (wpn n) m2 as w (aft (wpn n) m pc ls rest Q)
            unfold exC
            rw [hr]
            refine gd_i hb ?_
            split at h
            · next a as hE _ =>
              obtain ⟨hg, h⟩ := bif_s h
              rw [hE]
              refine gd_i hg ?_
              unfold cK
              cases h6 : Nat.beq m2 600 with
              | true =>
                have e6 := Nat.eq_of_beq_eq_true h6
                subst e6
                rw [h6, cond_true] at h
                split at h
                · show wpn n m (pc + 3) ls ([] ++ st.drop np) w Q
                  exact ex_ok n m _ _ _ _ _ Q h hQ
                · cases h
              | false =>
                rw [h6, cond_false] at h
                cases h7 : Nat.ble 600 m2 with
                | true => rw [h7] at h; cases h
                | false =>
                  rw [h7, cond_false] at h
                  split at h
                  · next w1 hc =>
                    refine ex_ok n m2 0 _ _ _ _ _ hc ?_
                    show wpn n m (pc + 3) ls ([] ++ st.drop np) w1 Q
                    exact ex_ok n m _ _ _ _ _ Q h hQ
                  · cases h
            · cases h
          · cases h
        · next hk =>
          rw [hk]
          split at h
          · obtain ⟨hb, h⟩ := bif_s h
            cases h
            exact gd_i hb hQ
          · cases h
        · cases h
