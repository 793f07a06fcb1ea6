/-! types: what must hold; the model's -/
set_option maxRecDepth 100000
/-- a type may be put into an array -/
def elP (ab : List Int) (a c : Int) : Prop := (a = 1 → ¬ c = 2) ∧ (¬ a = 1 → (a = 3 ∨ 64 ≤ a) ∧ tbl ab c (elT a))
theorem r302_0 {L c2 c3 c4 c5 c6 : Nat} {D : Dt} {Q : Out → Wd → Prop} {ar t : Int} (H : ((ar = 1 → ((t = 2 → (Q (.inl [vi 0]) (D, SS L 1 c2 c3 c4 c5 c6))) ∧ (¬ (t = 2) → (Q (.inl [vi 1]) (D, SS L 1 c2 c3 c4 c5 c6))))) ∧ (¬ (ar = 1) → (∃ (xe3 : Int × Int), (tyS xe3.1 xe3.2 ∧ xe3.1 ≤ 32 ∧ ar = mT xe3.2) ∧ ((((xe3.2 = 3 ∨ 64 ≤ xe3.2 → (∃ (xe6 : Int × Int), (tyS xe6.1 xe6.2 ∧ xe6.1 ≤ 32 ∧ ar = mT xe6.2) ∧ ((∃ (xe9 : List Int × Int × Int), (ABp (D 274) xe9.1 ∧ ABw xe9.1 ∧ xe9.1.length ≤ 24 ∧ tyS (8 + xe9.1.length) xe9.2.1 ∧ tyS (8 + xe9.1.length) xe9.2.2 ∧ t = mT xe9.2.1 ∧ (mT (elT xe6.2)) = mT xe9.2.2) ∧ ((((tbl xe9.1 xe9.2.1 xe9.2.2 → (Q (.inl [vi 1]) (D, SS L 1 c2 c3 c4 c5 c6))) ∧ (¬ (tbl xe9.1 xe9.2.1 xe9.2.2) → (Q (.inl [vi 0]) (D, SS L 1 c2 c3 c4 c5 c6)))))))))) ∧ (¬ (xe3.2 = 3 ∨ 64 ≤ xe3.2) → (Q (.inl [vi 0]) (D, SS L 1 c2 c3 c4 c5 c6)))))))))) : wp 302 0 [vr 273, vi ar, vi t] [] (D, SS L 1 c2 c3 c4 c5 c6) Q := vc_wp [] 200 _ _ _ _ _ _ (show ((ar = 1 → ((t = 2 → (((0 : Int) ≤ 0 ∧ 0 ≤ (1 : Int)) ∧ (Q (.inl [vi 0]) (D, SS L 1 c2 c3 c4 c5 c6)))) ∧ (¬ (t = 2) → (((0 : Int) ≤ 1 ∧ 1 ≤ (1 : Int)) ∧ (Q (.inl [vi 1]) (D, SS L 1 c2 c3 c4 c5 c6)))))) ∧ (¬ (ar = 1) → (wp 301 0 [vi ar] [] (D, SS L 1 c2 c3 c4 c5 c6) (aft wp 302 17 [vr 273, vi ar, vi t] [] Q)))) from ⟨fun h16 => ⟨fun h1 => ⟨(by decide), ((H.1 h16).1 h1)⟩, fun h2 => ⟨(by decide), ((H.1 h16).2 h2)⟩⟩, fun h17 => Exists.elim ((H.2 h17)) fun xe3 x4 => s301 ⟨xe3, x4.1, (show wp 302 20 [vr 273, vi ar, vi t] [vi (ib (xe3.2 = 3 ∨ 64 ≤ xe3.2))] (D, SS L 1 c2 c3 c4 c5 c6) Q from vc_wp [] 200 _ _ _ _ _ _ (show ((ib (xe3.2 = 3 ∨ 64 ≤ xe3.2) = 0 → (((0 : Int) ≤ 0 ∧ 0 ≤ (1 : Int)) ∧ (Q (.inl [vi 0]) (D, SS L 1 c2 c3 c4 c5 c6)))) ∧ (¬ (ib (xe3.2 = 3 ∨ 64 ≤ xe3.2) = 0) → (wp 298 0 [vi ar] [] (D, SS L 1 c2 c3 c4 c5 c6) (aft wp 302 26 [vr 273, vi ar, vi t] [vi t, vr 273] Q)))) from ⟨fun h14 => ⟨(by decide), (x4.2.2 ((ib_z).mp h14))⟩, fun h15 => Exists.elim ((x4.2.1 (Classical.not_not.mp (mt (ib_z).mpr h15)))) fun xe6 x7 => s298 ⟨xe6, x7.1, (show wp 302 29 [vr 273, vi ar, vi t] [vi (mT (elT xe6.2)), vi t, vr 273] (D, SS L 1 c2 c3 c4 c5 c6) Q from vc_wp [] 200 _ _ _ _ _ _ (show wp 294 0 [vr 273, vi t, vi (mT (elT xe6.2))] [] (D, SS L 1 c2 c3 c4 c5 c6) (aft wp 302 29 [vr 273, vi ar, vi t] [] Q) from Exists.elim (x7.2) fun xe9 x10 => s294p273 ⟨xe9, x10.1, (show wp 302 32 [vr 273, vi ar, vi t] [vi (ib (tbl xe9.1 xe9.2.1 xe9.2.2))] (D, SS L 1 c2 c3 c4 c5 c6) Q from vc_wp [] 200 _ _ _ _ _ _ (show ((ib (tbl xe9.1 xe9.2.1 xe9.2.2) = 0 → (((0 : Int) ≤ 0 ∧ 0 ≤ (1 : Int)) ∧ (Q (.inl [vi 0]) (D, SS L 1 c2 c3 c4 c5 c6)))) ∧ (¬ (ib (tbl xe9.1 xe9.2.1 xe9.2.2) = 0) → (((0 : Int) ≤ 1 ∧ 1 ≤ (1 : Int)) ∧ (Q (.inl [vi 1]) (D, SS L 1 c2 c3 c4 c5 c6))))) from ⟨fun h12 => ⟨(by decide), (x10.2.2 ((ib_z).mp h12))⟩, fun h13 => ⟨(by decide), (x10.2.1 (Classical.not_not.mp (mt (ib_z).mpr h13)))⟩⟩))⟩))⟩⟩))⟩⟩)
theorem s302 {L c2 c3 c4 c5 c6 : Nat} {D : Dt} {Q : Out → Wd → Prop} {ar t : Int} (H : ∃ x : List Int × Int × Int, (ABp (D 274) x.1 ∧ ABw x.1 ∧ x.1.length ≤ 24 ∧ tyS (8 + x.1.length) x.2.1 ∧ tyS (8 + x.1.length) x.2.2 ∧ ar = mT x.2.1 ∧ t = mT x.2.2) ∧ Q (.inl [vi (ib (elP x.1 x.2.1 x.2.2))]) (D, SS L 1 c2 c3 c4 c5 c6)) : wp 302 0 [vr 273, vi ar, vi t] [] (D, SS L 1 c2 c3 c4 c5 c6) Q := by
  obtain ⟨⟨ab, a, c⟩, ⟨hA, hw, hl, ha, hc, ea, ec⟩, H⟩ := H
  dsimp only at *
  have hn : (8 : Int) + ab.length ≤ 32 := by omega
  have va : mT a = 1 ↔ a = 1 := (mT_v hn ha).2.1
  have vc : mT c = 2 ↔ c = 2 := (mT_v hn hc).2.2.1
  subst ea ec
  have hel : (a = 3 ∨ 64 ≤ a) → tyS (8 + ab.length) (elT a) := fun y => by
    unfold tyS at ha ⊢
    unfold elT
    clear va vc
    repeat' split
    all_goals omega
  refine r302_0 ⟨fun g => ⟨fun g1 => q_i H (ib_f fun z => z.1 (va.mp g) (vc.mp g1)), fun g1 => q_i H (ib_t ⟨fun _ y => g1 (vc.mpr y), fun y => absurd (va.mp g) y⟩)⟩, fun g => ⟨(8 + ab.length, a), ⟨ha, hn, rfl⟩, fun g1 => ⟨(8 + ab.length, a), ⟨ha, hn, rfl⟩, (ab, c, elT a), ⟨hA, hw, hl, hc, hel g1, rfl, rfl⟩, fun g2 => q_i H (ib_t ⟨fun y => absurd (va.mpr y) g, fun _ => ⟨g1, g2⟩⟩), fun g2 => q_i H (ib_f fun z => g2 (z.2 (fun y => g (va.mpr y))).2)⟩, fun g1 => q_i H (ib_f fun z => g1 (z.2 (fun y => g (va.mpr y))).1)⟩⟩
/-- what stands before the model looks at the types of an instruction -/
def TNm (ns ab : List Int) (X Y : XB) (w : Int → Int) (h : Nat) (D : Dt) : Prop := MCt ab X Y D ∧ PT ns ab X Y ∧ h ≤ 8 ∧ D 226 25 = 12 + h ∧ ∀ k : Int, 0 ≤ k → k < 12 + h → D 333 k = mT (w k) ∧ tyS (8 + ab.length) (w k)
noncomputable def tol (X Y : XB) (i x k : Int) : Int := cit (k = 0 ∧ lf (Y 0) i = 40) (16 + lf (Y 2) i) (lf (X (20 + x.toNat)) k)
def argM (ab : List Int) (X Y : XB) (w : Int → Int) (tp i x : Int) : Prop := ∀ k : Int, 0 ≤ k → k < lf (X 7) x → tbl ab (w (tp - lf (X 7) x + k)) (tol X Y i x k)
theorem r303_0 {L c2 c3 c4 c5 c6 : Nat} {D : Dt} {Q : Out → Wd → Prop} {i b : Int} (H : (0 ≤ b ∧ b < 48) ∧ (wp 303 11 [vr 226, vr 273, vi i, vi b, vi (D 281 b), vi 0, vu] [] (D, SS L 1 c2 c3 c4 c5 c6) Q)) : wp 303 0 [vr 226, vr 273, vi i, vi b, vu, vu, vu] [] (D, SS L 1 c2 c3 c4 c5 c6) Q := vc_wp [4] 200 _ _ _ _ _ _ (show wp 303 4 [vr 226, vr 273, vi i, vi b, vu, vu, vu] [vr 281] (D, SS L 1 c2 c3 c4 c5 c6) Q from vc_wp [11] 200 _ _ _ _ _ _ (show (0 ≤ b ∧ b < 48) ∧ (wp 303 11 [vr 226, vr 273, vi i, vi b, vi (D 281 b), vi 0, vu] [] (D, SS L 1 c2 c3 c4 c5 c6) Q) from ⟨H.1, H.2⟩))
theorem r303_11 {L c2 c3 c4 c5 c6 : Nat} {D : Dt} {Q : Out → Wd → Prop} {i b n kq : Int} (H : ((kq < n → ((kq = 0 → ((0 ≤ i ∧ i < 1024) ∧ ((D 288 i = 40 → ((0 ≤ i ∧ i < 1024) ∧ (((-2147483648) ≤ 8 + (D 290 i) ∧ 8 + (D 290 i) ≤ 2147483647) ∧ (wp 303 60 [vr 226, vr 273, vi i, vi b, vi n, vi kq, vi (8 + (D 290 i))] [] (D, SS L 1 c2 c3 c4 c5 c6) Q)))) ∧ (¬ (D 288 i = 40) → (((-2147483648) ≤ b * 12 ∧ b * 12 ≤ 2147483647) ∧ (((-2147483648) ≤ (b * 12) + kq ∧ (b * 12) + kq ≤ 2147483647) ∧ ((0 ≤ (b * 12) + kq ∧ (b * 12) + kq < 576) ∧ (wp 303 60 [vr 226, vr 273, vi i, vi b, vi n, vi kq, vi (D 282 ((b * 12) + kq))] [] (D, SS L 1 c2 c3 c4 c5 c6) Q)))))))) ∧ (¬ (kq = 0) → (((-2147483648) ≤ b * 12 ∧ b * 12 ≤ 2147483647) ∧ (((-2147483648) ≤ (b * 12) + kq ∧ (b * 12) + kq ≤ 2147483647) ∧ ((0 ≤ (b * 12) + kq ∧ (b * 12) + kq < 576) ∧ (wp 303 60 [vr 226, vr 273, vi i, vi b, vi n, vi kq, vi (D 282 ((b * 12) + kq))] [] (D, SS L 1 c2 c3 c4 c5 c6) Q))))))) ∧ (¬ (kq < n) → (Q (.inl [vi 1]) (D, SS L 1 c2 c3 c4 c5 c6))))) : wp 303 11 [vr 226, vr 273, vi i, vi b, vi n, vi kq, vu] [] (D, SS L 1 c2 c3 c4 c5 c6) Q := vc_wp [27, 50] 200 _ _ _ _ _ _ (show ((kq < n → ((kq = 0 → (wp 303 27 [vr 226, vr 273, vi i, vi b, vi n, vi kq, vu] [vr 288] (D, SS L 1 c2 c3 c4 c5 c6) Q)) ∧ (¬ (kq = 0) → (wp 303 50 [vr 226, vr 273, vi i, vi b, vi n, vi kq, vu] [vr 282] (D, SS L 1 c2 c3 c4 c5 c6) Q)))) ∧ (¬ (kq < n) → (((0 : Int) ≤ 1 ∧ 1 ≤ (1 : Int)) ∧ (Q (.inl [vi 1]) (D, SS L 1 c2 c3 c4 c5 c6))))) from ⟨fun h10 => ⟨fun h8 => vc_wp [40, 50] 200 _ _ _ _ _ _ (show (0 ≤ i ∧ i < 1024) ∧ ((D 288 i = 40 → (wp 303 40 [vr 226, vr 273, vi i, vi b, vi n, vi kq, vu] [vr 290, vi 8] (D, SS L 1 c2 c3 c4 c5 c6) Q)) ∧ (¬ (D 288 i = 40) → (wp 303 50 [vr 226, vr 273, vi i, vi b, vi n, vi kq, vu] [vr 282] (D, SS L 1 c2 c3 c4 c5 c6) Q))) from ⟨((H.1 h10).1 h8).1, ⟨fun h4 => vc_wp [43] 200 _ _ _ _ _ _ (show (0 ≤ i ∧ i < 1024) ∧ (wp 303 43 [vr 226, vr 273, vi i, vi b, vi n, vi kq, vu] [vi (w32 (8 + (D 290 i)))] (D, SS L 1 c2 c3 c4 c5 c6) Q) from ⟨(((H.1 h10).1 h8).2.1 h4).1, w32_i (fun z1 : Int => wp 303 43 [vr 226, vr 273, vi i, vi b, vi n, vi kq, vu] [vi z1] (D, SS L 1 c2 c3 c4 c5 c6) Q) ((((H.1 h10).1 h8).2.1 h4).2).1 (vc_wp [60] 200 _ _ _ _ _ _ (show wp 303 60 [vr 226, vr 273, vi i, vi b, vi n, vi kq, vi (8 + (D 290 i))] [] (D, SS L 1 c2 c3 c4 c5 c6) Q from ((((H.1 h10).1 h8).2.1 h4).2).2))⟩), fun h5 => vc_wp [54] 200 _ _ _ _ _ _ (show wp 303 54 [vr 226, vr 273, vi i, vi b, vi n, vi kq, vu] [vi (w32 (b * 12)), vr 282] (D, SS L 1 c2 c3 c4 c5 c6) Q from w32_i (fun z3 : Int => wp 303 54 [vr 226, vr 273, vi i, vi b, vi n, vi kq, vu] [vi z3, vr 282] (D, SS L 1 c2 c3 c4 c5 c6) Q) ((((H.1 h10).1 h8).2.2 h5)).1 (vc_wp [57] 200 _ _ _ _ _ _ (show wp 303 57 [vr 226, vr 273, vi i, vi b, vi n, vi kq, vu] [vi (w32 ((b * 12) + kq)), vr 282] (D, SS L 1 c2 c3 c4 c5 c6) Q from w32_i (fun z2 : Int => wp 303 57 [vr 226, vr 273, vi i, vi b, vi n, vi kq, vu] [vi z2, vr 282] (D, SS L 1 c2 c3 c4 c5 c6) Q) (((((H.1 h10).1 h8).2.2 h5)).2).1 (vc_wp [60] 200 _ _ _ _ _ _ (show (0 ≤ (b * 12) + kq ∧ (b * 12) + kq < 576) ∧ (wp 303 60 [vr 226, vr 273, vi i, vi b, vi n, vi kq, vi (D 282 ((b * 12) + kq))] [] (D, SS L 1 c2 c3 c4 c5 c6) Q) from ⟨(((((H.1 h10).1 h8).2.2 h5)).2).2.1, (((((H.1 h10).1 h8).2.2 h5)).2).2.2⟩)))))⟩⟩), fun h9 => vc_wp [54] 200 _ _ _ _ _ _ (show wp 303 54 [vr 226, vr 273, vi i, vi b, vi n, vi kq, vu] [vi (w32 (b * 12)), vr 282] (D, SS L 1 c2 c3 c4 c5 c6) Q from w32_i (fun z7 : Int => wp 303 54 [vr 226, vr 273, vi i, vi b, vi n, vi kq, vu] [vi z7, vr 282] (D, SS L 1 c2 c3 c4 c5 c6) Q) (((H.1 h10).2 h9)).1 (vc_wp [57] 200 _ _ _ _ _ _ (show wp 303 57 [vr 226, vr 273, vi i, vi b, vi n, vi kq, vu] [vi (w32 ((b * 12) + kq)), vr 282] (D, SS L 1 c2 c3 c4 c5 c6) Q from w32_i (fun z6 : Int => wp 303 57 [vr 226, vr 273, vi i, vi b, vi n, vi kq, vu] [vi z6, vr 282] (D, SS L 1 c2 c3 c4 c5 c6) Q) ((((H.1 h10).2 h9)).2).1 (vc_wp [60] 200 _ _ _ _ _ _ (show (0 ≤ (b * 12) + kq ∧ (b * 12) + kq < 576) ∧ (wp 303 60 [vr 226, vr 273, vi i, vi b, vi n, vi kq, vi (D 282 ((b * 12) + kq))] [] (D, SS L 1 c2 c3 c4 c5 c6) Q) from ⟨((((H.1 h10).2 h9)).2).2.1, ((((H.1 h10).2 h9)).2).2.2⟩)))))⟩, fun h11 => ⟨(by decide), (H.2 h11)⟩⟩)
theorem r303_60 {L c2 c3 c4 c5 c6 : Nat} {D : Dt} {Q : Out → Wd → Prop} {i b n kq to : Int} (H : ((-2147483648) ≤ (D 226 25) - n ∧ (D 226 25) - n ≤ 2147483647) ∧ (((-2147483648) ≤ ((D 226 25) - n) + kq ∧ ((D 226 25) - n) + kq ≤ 2147483647) ∧ ((0 ≤ ((D 226 25) - n) + kq ∧ ((D 226 25) - n) + kq < 24) ∧ (∃ (xe1 : List Int × Int × Int), (ABp (D 274) xe1.1 ∧ ABw xe1.1 ∧ xe1.1.length ≤ 24 ∧ tyS (8 + xe1.1.length) xe1.2.1 ∧ tyS (8 + xe1.1.length) xe1.2.2 ∧ (D 333 (((D 226 25) - n) + kq)) = mT xe1.2.1 ∧ to = mT xe1.2.2) ∧ ((((tbl xe1.1 xe1.2.1 xe1.2.2 → (((-2147483648) ≤ kq + 1 ∧ kq + 1 ≤ 2147483647) ∧ (wp 303 11 [vr 226, vr 273, vi i, vi b, vi n, vi (kq + 1), vu] [] (D, SS L 1 c2 c3 c4 c5 c6) Q))) ∧ (¬ (tbl xe1.1 xe1.2.1 xe1.2.2) → (Q (.inl [vi 0]) (D, SS L 1 c2 c3 c4 c5 c6)))))))))) : wp 303 60 [vr 226, vr 273, vi i, vi b, vi n, vi kq, vi to] [] (D, SS L 1 c2 c3 c4 c5 c6) Q := vc_wp [65] 200 _ _ _ _ _ _ (show wp 303 65 [vr 226, vr 273, vi i, vi b, vi n, vi kq, vi to] [vr 333, vr 273] (D, SS L 1 c2 c3 c4 c5 c6) Q from vc_wp [72] 200 _ _ _ _ _ _ (show wp 303 72 [vr 226, vr 273, vi i, vi b, vi n, vi kq, vi to] [vi (w32 ((D 226 25) - n)), vr 333, vr 273] (D, SS L 1 c2 c3 c4 c5 c6) Q from w32_i (fun z8 : Int => wp 303 72 [vr 226, vr 273, vi i, vi b, vi n, vi kq, vi to] [vi z8, vr 333, vr 273] (D, SS L 1 c2 c3 c4 c5 c6) Q) (H).1 (vc_wp [75] 200 _ _ _ _ _ _ (show wp 303 75 [vr 226, vr 273, vi i, vi b, vi n, vi kq, vi to] [vi (w32 (((D 226 25) - n) + kq)), vr 333, vr 273] (D, SS L 1 c2 c3 c4 c5 c6) Q from w32_i (fun z7 : Int => wp 303 75 [vr 226, vr 273, vi i, vi b, vi n, vi kq, vi to] [vi z7, vr 333, vr 273] (D, SS L 1 c2 c3 c4 c5 c6) Q) ((H).2).1 (vc_wp [] 200 _ _ _ _ _ _ (show (0 ≤ ((D 226 25) - n) + kq ∧ ((D 226 25) - n) + kq < 24) ∧ (wp 294 0 [vr 273, vi (D 333 (((D 226 25) - n) + kq)), vi to] [] (D, SS L 1 c2 c3 c4 c5 c6) (aft wp 303 78 [vr 226, vr 273, vi i, vi b, vi n, vi kq, vi to] [] Q)) from ⟨((H).2).2.1, Exists.elim (((H).2).2.2) fun xe1 x2 => s294p273 ⟨xe1, x2.1, (show wp 303 81 [vr 226, vr 273, vi i, vi b, vi n, vi kq, vi to] [vi (ib (tbl xe1.1 xe1.2.1 xe1.2.2))] (D, SS L 1 c2 c3 c4 c5 c6) Q from vc_wp [89] 200 _ _ _ _ _ _ (show ((ib (tbl xe1.1 xe1.2.1 xe1.2.2) = 0 → (((0 : Int) ≤ 0 ∧ 0 ≤ (1 : Int)) ∧ (Q (.inl [vi 0]) (D, SS L 1 c2 c3 c4 c5 c6)))) ∧ (¬ (ib (tbl xe1.1 xe1.2.1 xe1.2.2) = 0) → (wp 303 89 [vr 226, vr 273, vi i, vi b, vi n, vi (w32 (kq + 1)), vi to] [] (D, SS L 1 c2 c3 c4 c5 c6) Q))) from ⟨fun h5 => ⟨(by decide), (x2.2.2 ((ib_z).mp h5))⟩, fun h6 => w32_i (fun z4 : Int => wp 303 89 [vr 226, vr 273, vi i, vi b, vi n, vi z4, vi to] [] (D, SS L 1 c2 c3 c4 c5 c6) Q) ((x2.2.1 (Classical.not_not.mp (mt (ib_z).mpr h6)))).1 (vc_wp [11] 200 _ _ _ _ _ _ (show wp 303 11 [vr 226, vr 273, vi i, vi b, vi n, vi (kq + 1), vi to] [] (D, SS L 1 c2 c3 c4 c5 c6) Q from wp_d (Lle.k rfl (Lle.k rfl (Lle.k rfl (Lle.k rfl (Lle.k rfl (Lle.k rfl (Lle.v rfl (Lle.nil)))))))) (((x2.2.1 (Classical.not_not.mp (mt (ib_z).mpr h6)))).2)))⟩))⟩⟩))))))
theorem s303 {L c2 c3 c4 c5 c6 : Nat} {D : Dt} {Q : Out → Wd → Prop} {i x : Int} (H : ∃ q : List Int × List Int × XB × XB × (Int → Int) × Nat, (TNm q.1 q.2.1 q.2.2.1 q.2.2.2.1 q.2.2.2.2.1 q.2.2.2.2.2 D ∧ (0 ≤ i ∧ i < (q.2.2.2.1 0).length) ∧ (0 ≤ x ∧ x < (q.2.2.1 4).length) ∧ lf (q.2.2.1 7) x ≤ q.2.2.2.2.2 ∧ (lf (q.2.2.2.1 0) i = 40 → 0 ≤ lf (q.2.2.2.1 2) i ∧ lf (q.2.2.2.1 2) i < 8 + q.1.length)) ∧ Q (.inl [vi (ib (argM q.2.1 q.2.2.1 q.2.2.2.1 q.2.2.2.2.1 (12 + q.2.2.2.2.2) i x))]) (D, SS L 1 c2 c3 c4 c5 c6)) : wp 303 0 [vr 226, vr 273, vi i, vi x, vu, vu, vu] [] (D, SS L 1 c2 c3 c4 c5 c6) Q := by
  obtain ⟨⟨ns, ab, X, Y, w, h⟩, ⟨⟨hS, hP, h8, e25, hw⟩, ⟨i0, i1⟩, ⟨x0, x1⟩, hle, hn40⟩, H⟩ := H
  dsimp only at *
  have hr := hP.1.1.1.2.2.1
  have ic : 0 ≤ i ∧ i < 1024 := by omega
  have hpb := hP.2.2.2.2 x x0 x1
  have h48 := hP.1.2.2.1
  have hal := hP.2.1.2.1
  have hln := hP.2.1.2.2
  have h7 := hP.1.2.2.2 x x0 x1
  have e281 : D 281 x = lf (X 7) x := hS.1.2.2.1 x x0 (by have := hP.1.2.1.2.2.1; omega)
  obtain ⟨e288, _, _, _⟩ := hS.1.v hP.1 i0 i1
  have e290 : lf (Y 0) i = 40 → D 290 i = lf (Y 2) i := fun g => by rw [(hS.1.1.2.2.1 i i0 i1).2]; unfold mB; rw [if_neg (by omega)]
  have e282 : ∀ k : Int, 0 ≤ k → k < lf (X 7) x → D 282 (x * 12 + k) = mT (lf (X (20 + x.toNat)) k) := fun k k0 k1 => hS.2.2.2 x k x0 x1 k0 (by omega)
  have hts : ∀ k : Int, 0 ≤ k → k < lf (X 7) x → tyS (8 + ab.length) (tol X Y i x k) := fun k k0 k1 => by
    unfold tol
    rcases Classical.em (k = 0 ∧ lf (Y 0) i = 40) with g | g
    · rw [cit_t g]
      have := hn40 g.2
      unfold tyS
      omega
    · rw [cit_f g]; exact hpb.2.2.1 k k0 k1
  have hL : ∀ (M : Nat) (k : Int), (lf (X 7) x - k).toNat = M → 0 ≤ k → k ≤ lf (X 7) x → (∀ q : Int, 0 ≤ q → q < k → tbl ab (w (12 + h - lf (X 7) x + q)) (tol X Y i x q)) → wp 303 11 [vr 226, vr 273, vi i, vi x, vi (lf (X 7) x), vi k, vu] [] (D, SS L 1 c2 c3 c4 c5 c6) Q := by
    intro M
    induction M with
    | zero =>
      intro k e k0 k1 hq
      exact r303_11 ⟨fun g => by omega, fun _ => q_i H (ib_t fun q q0 q1 => hq q q0 (by omega))⟩
    | succ M ih =>
      intro k e k0 k1 hq
      have kt : k < lf (X 7) x := by omega
      have h60 : ∀ v : Int, v = mT (tol X Y i x k) → wp 303 60 [vr 226, vr 273, vi i, vi x, vi (lf (X 7) x), vi k, vi v] [] (D, SS L 1 c2 c3 c4 c5 c6) Q := fun v hv => by
        have hwk := hw (12 + h - lf (X 7) x + k) (by omega) (by omega)
        refine r303_60 ?_
        rw [e25]
        refine ⟨by omega, by omega, by omega, (ab, w (12 + h - lf (X 7) x + k), tol X Y i x k), ⟨hS.2.1, hP.2.1.1, hal, hwk.2, hts k k0 kt, hwk.1, hv⟩, fun g => ⟨by omega, ih (k + 1) (by omega) (by omega) (by omega) (fun q q0 q1 => ?_)⟩, fun g => q_i H (ib_f fun y => g (y k k0 kt))⟩
        by_cases eq : q = k
        · rw [eq]; exact g
        · exact hq q q0 (by omega)
      refine r303_11 ⟨fun _ => ⟨fun g => ⟨ic, ?_⟩, fun g => ⟨by omega, by omega, by omega, h60 _ ?_⟩⟩, fun g => by omega⟩
      · rw [e288]
        refine ⟨fun g1 => ?_, fun g1 => ⟨by omega, by omega, by omega, h60 _ ?_⟩⟩
        · have hnn := hn40 g1
          rw [e290 g1]
          refine ⟨ic, by omega, h60 _ ?_⟩
          rw [show tol X Y i x k = 16 + lf (Y 2) i from cit_t ⟨g, g1⟩, mT_c (by omega) (by omega)]
        · rw [e282 k k0 kt, show tol X Y i x k = _ from cit_f fun y => g1 y.2]
      · rw [e282 k k0 kt, show tol X Y i x k = _ from cit_f fun y => g y.1]
  refine r303_0 ?_
  rw [e281]
  exact ⟨by omega, hL _ 0 rfl (by omega) (by omega) (fun q q0 q1 => by omega)⟩
/-- below a class is below what is above it -/
theorem tbl_up {ab : List Int} (hw : ABw ab) (hal : ab.length ≤ 24) {t n d : Int} (ht : tyS (8 + ab.length) t) (hn : 0 ≤ n ∧ n < 8 + ab.length) (hc : cbl ab n d) (h : tbl ab t (16 + n)) : tbl ab t (16 + d) := by
  have hd := cbl_le hw _ n (Nat.lt_succ_self _) hn.2 hc
  have hcl : (16 ≤ t ∧ t < 64) → cbl ab (t - 16) n → tbl ab t (16 + d) := fun g g1 => by
    unfold tyS at ht
    have := cbl_tr hw hc _ (t - 16) (Nat.lt_succ_self _) (by omega) g1
    exact Or.inr (Or.inr ⟨by omega, Or.inr (Or.inr ⟨by omega, Or.inl ⟨by omega, by omega, by rw [show 16 + d - 16 = d by omega]; exact this⟩⟩)⟩)
  rcases h with x | x | ⟨x, y | y | ⟨y, z | z⟩⟩
  · exact hcl (by omega) (by rw [x, show 16 + n - 16 = n by omega]; exact cbl_e hn.1)
  · omega
  · exact Or.inr (Or.inr ⟨by omega, Or.inl y⟩)
  · have : d = 0 := by omega
    exact Or.inr (Or.inr ⟨by omega, Or.inr (Or.inl (by omega))⟩)
  · have h0 := z.2.2.1
    exact hcl (by omega) (by have := z.2.2; rw [show 16 + n - 16 = n by omega] at this; exact this)
  · omega
theorem arg_40 {ns ab : List Int} {X Y : XB} (hP : PT ns ab X Y) {w : Int → Int} {tp i x : Int} (x0 : 0 ≤ x) (x1 : x < (X 4).length) (h6 : lf (X 6) x = 1) (g : lf (Y 0) i = 40) (hn : 0 ≤ lf (Y 2) i ∧ lf (Y 2) i < 8 + ns.length) (hc : cbl ab (lf (Y 2) i) (lf (X 4) x)) (ht : tyS (8 + ab.length) (w (tp - lf (X 7) x))) : argM ab X Y w tp i x ↔ (tbl ab (w (tp - lf (X 7) x)) (16 + lf (Y 2) i) ∧ argV ab X w tp x) := by
  have hpb := (hP.2.2.2.2 x x0 x1).2.2.2.2.2.1 h6
  have hln := hP.2.1.2.2
  constructor
  · intro h
    have h0 := h 0 (by decide) (by omega)
    rw [show tp - lf (X 7) x + 0 = tp - lf (X 7) x by omega, show tol X Y i x 0 = 16 + lf (Y 2) i from cit_t ⟨rfl, g⟩] at h0
    refine ⟨h0, fun k k0 k1 => ?_⟩
    by_cases ek : k = 0
    · rw [ek, show tp - lf (X 7) x + 0 = tp - lf (X 7) x by omega, hpb.2]
      exact tbl_up hP.2.1.1 hP.2.1.2.1 ht (by omega) hc h0
    · have := h k k0 k1
      rw [show tol X Y i x k = _ from cit_f fun y => ek y.1] at this
      exact this
  · rintro ⟨h0, h⟩ k k0 k1
    by_cases ek : k = 0
    · rw [ek, show tp - lf (X 7) x + 0 = tp - lf (X 7) x by omega, show tol X Y i x 0 = 16 + lf (Y 2) i from cit_t ⟨rfl, g⟩]; exact h0
    · rw [show tol X Y i x k = _ from cit_f fun y => ek y.1]; exact h k k0 k1
theorem arg_39 {ab : List Int} {X Y : XB} {w : Int → Int} {tp i x : Int} (g : ¬ lf (Y 0) i = 40) : argM ab X Y w tp i x ↔ argV ab X w tp x := by
  unfold argM argV
  constructor
  · intro h k k0 k1
    have := h k k0 k1
    rw [show tol X Y i x k = _ from cit_f fun y => g y.2] at this
    exact this
  · intro h k k0 k1
    rw [show tol X Y i x k = _ from cit_f fun y => g y.2]; exact h k k0 k1
