/-! types: the model's typesTo -/
set_option maxRecDepth 100000
/-- types in the model's places: z the types, c where anything has come -/
def TM (X Y : XB) (b : Int) (T : TyT) (c z : Int → Int) : Prop := ∀ i : Int, lf (Y 11) b ≤ i → i < lf (Y 12) b → (T i 0 < 0 → c i = 0) ∧ (¬ T i 0 < 0 → c i = 1 ∧ ∀ k : Int, 0 ≤ k → k < 12 + htF X Y b i → z (i * 20 + k) = mT (T i k))
def MoP (T : TyT) (j : Int) (v : Int → Int) (k m : Int) : Prop := (m = 0 ∧ ¬ T j 0 < 0 ∧ ∀ q : Int, 0 ≤ q → q < k → v q = T j q) ∨ (m = 1 ∧ (T j 0 < 0 ∨ ∃ q : Int, (0 ≤ q ∧ q < k) ∧ ¬ v q = T j q))
def FrS (D E : Dt) : Prop := ∀ a, ¬ (331 ≤ a ∧ a ≤ 332) → E a = D a
theorem r292_0 {L c2 c3 c4 c5 c6 : Nat} {D : Dt} {Q : Out → Wd → Prop} {j : Int} (H : (0 ≤ j ∧ j < 1024) ∧ ((D 331 j = 0 → (wp 292 18 [vr 226, vr 273, vi j, vi 1, vi 0, vu, vu] [] (D, SS L 1 c2 c3 c4 c5 c6) Q)) ∧ (¬ (D 331 j = 0) → (wp 292 18 [vr 226, vr 273, vi j, vi 0, vi 0, vu, vu] [] (D, SS L 1 c2 c3 c4 c5 c6) Q)))) : wp 292 0 [vr 226, vr 273, vi j, vu, vu, vu, vu] [] (D, SS L 1 c2 c3 c4 c5 c6) Q := vc_wp [4] 200 _ _ _ _ _ _ (show wp 292 4 [vr 226, vr 273, vi j, vu, vu, vu, vu] [vr 331] (D, SS L 1 c2 c3 c4 c5 c6) Q from vc_wp [18] 200 _ _ _ _ _ _ (show (0 ≤ j ∧ j < 1024) ∧ ((D 331 j = 0 → (wp 292 18 [vr 226, vr 273, vi j, vi 1, vi 0, vu, vu] [] (D, SS L 1 c2 c3 c4 c5 c6) Q)) ∧ (¬ (D 331 j = 0) → (wp 292 18 [vr 226, vr 273, vi j, vi 0, vi 0, vu, vu] [] (D, SS L 1 c2 c3 c4 c5 c6) Q))) from ⟨H.1, ⟨fun h1 => (H.2.1 h1), fun h2 => (H.2.2 h2)⟩⟩))
theorem r292_18 {L c2 c3 c4 c5 c6 : Nat} {D : Dt} {Q : Out → Wd → Prop} {j mo k : Int} (H : (0 ≤ j ∧ j < 1024) ∧ (((-2147483648) ≤ 12 + (D 292 j) ∧ 12 + (D 292 j) ≤ 2147483647) ∧ ((k < 12 + (D 292 j) → (((-2147483648) ≤ j * 20 ∧ j * 20 ≤ 2147483647) ∧ (((-2147483648) ≤ (j * 20) + k ∧ (j * 20) + k ≤ 2147483647) ∧ ((0 ≤ j ∧ j < 1024) ∧ ((D 331 j = 0 → ((0 ≤ k ∧ k < 24) ∧ ((mo = 0 → ((0 ≤ (j * 20) + k ∧ (j * 20) + k < 20480) ∧ ((D 333 k = D 332 ((j * 20) + k) → (wp 292 106 [vr 226, vr 273, vi j, vi 0, vi k, vi ((j * 20) + k), vi (D 333 k)] [vr 332] (D, SS L 1 c2 c3 c4 c5 c6) Q)) ∧ (¬ (D 333 k = D 332 ((j * 20) + k)) → (wp 292 106 [vr 226, vr 273, vi j, vi 1, vi k, vi ((j * 20) + k), vi (D 333 k)] [vr 332] (D, SS L 1 c2 c3 c4 c5 c6) Q))))) ∧ (¬ (mo = 0) → (wp 292 106 [vr 226, vr 273, vi j, vi 1, vi k, vi ((j * 20) + k), vi (D 333 k)] [vr 332] (D, SS L 1 c2 c3 c4 c5 c6) Q))))) ∧ (¬ (D 331 j = 0) → ((0 ≤ (j * 20) + k ∧ (j * 20) + k < 20480) ∧ ((0 ≤ k ∧ k < 24) ∧ (∃ (xe5 : List Int × Int × Int), (ABp (D 274) xe5.1 ∧ ABw xe5.1 ∧ xe5.1.length ≤ 24 ∧ tyS (8 + xe5.1.length) xe5.2.1 ∧ tyS (8 + xe5.1.length) xe5.2.2 ∧ (D 332 ((j * 20) + k)) = mT xe5.2.1 ∧ (D 333 k) = mT xe5.2.2) ∧ ((((mo = 0 → ((0 ≤ (j * 20) + k ∧ (j * 20) + k < 20480) ∧ ((mT (tjn xe5.1 xe5.2.1 xe5.2.2) = D 332 ((j * 20) + k) → (wp 292 106 [vr 226, vr 273, vi j, vi 0, vi k, vi ((j * 20) + k), vi (mT (tjn xe5.1 xe5.2.1 xe5.2.2))] [vr 332] (D, SS L 1 c2 c3 c4 c5 c6) Q)) ∧ (¬ (mT (tjn xe5.1 xe5.2.1 xe5.2.2) = D 332 ((j * 20) + k)) → (wp 292 106 [vr 226, vr 273, vi j, vi 1, vi k, vi ((j * 20) + k), vi (mT (tjn xe5.1 xe5.2.1 xe5.2.2))] [vr 332] (D, SS L 1 c2 c3 c4 c5 c6) Q))))) ∧ (¬ (mo = 0) → (wp 292 106 [vr 226, vr 273, vi j, vi 1, vi k, vi ((j * 20) + k), vi (mT (tjn xe5.1 xe5.2.1 xe5.2.2))] [vr 332] (D, SS L 1 c2 c3 c4 c5 c6) Q)))))))))))))) ∧ (¬ (k < 12 + (D 292 j)) → ((0 ≤ j ∧ j < 1024) ∧ (((0 : Int) ≤ mo ∧ mo ≤ (1 : Int)) ∧ (Q (.inl [vi mo]) (up D 331 j 1, SS L 1 c2 c3 c4 c5 c6)))))))) : wp 292 18 [vr 226, vr 273, vi j, vi mo, vi k, vu, vu] [] (D, SS L 1 c2 c3 c4 c5 c6) Q := vc_wp [26] 200 _ _ _ _ _ _ (show wp 292 26 [vr 226, vr 273, vi j, vi mo, vi k, vu, vu] [vr 292, vi 12, vi k] (D, SS L 1 c2 c3 c4 c5 c6) Q from vc_wp [29] 200 _ _ _ _ _ _ (show (0 ≤ j ∧ j < 1024) ∧ (wp 292 29 [vr 226, vr 273, vi j, vi mo, vi k, vu, vu] [vi (w32 (12 + (D 292 j))), vi k] (D, SS L 1 c2 c3 c4 c5 c6) Q) from ⟨H.1, w32_i (fun z18 : Int => wp 292 29 [vr 226, vr 273, vi j, vi mo, vi k, vu, vu] [vi z18, vi k] (D, SS L 1 c2 c3 c4 c5 c6) Q) (H.2).1 (vc_wp [36, 121] 200 _ _ _ _ _ _ (show ((k < 12 + (D 292 j) → (wp 292 36 [vr 226, vr 273, vi j, vi mo, vi k, vu, vu] [vi (w32 (j * 20))] (D, SS L 1 c2 c3 c4 c5 c6) Q)) ∧ (¬ (k < 12 + (D 292 j)) → (wp 292 121 [vr 226, vr 273, vi j, vi mo, vi k, vu, vu] [vr 331] (D, SS L 1 c2 c3 c4 c5 c6) Q))) from ⟨fun h16 => w32_i (fun z15 : Int => wp 292 36 [vr 226, vr 273, vi j, vi mo, vi k, vu, vu] [vi z15] (D, SS L 1 c2 c3 c4 c5 c6) Q) (((H.2).2.1 h16)).1 (vc_wp [39] 200 _ _ _ _ _ _ (show wp 292 39 [vr 226, vr 273, vi j, vi mo, vi k, vu, vu] [vi (w32 ((j * 20) + k))] (D, SS L 1 c2 c3 c4 c5 c6) Q from w32_i (fun z14 : Int => wp 292 39 [vr 226, vr 273, vi j, vi mo, vi k, vu, vu] [vi z14] (D, SS L 1 c2 c3 c4 c5 c6) Q) ((((H.2).2.1 h16)).2).1 (vc_wp [45] 200 _ _ _ _ _ _ (show wp 292 45 [vr 226, vr 273, vi j, vi mo, vi k, vi ((j * 20) + k), vu] [vr 331] (D, SS L 1 c2 c3 c4 c5 c6) Q from vc_wp [55, 75] 200 _ _ _ _ _ _ (show (0 ≤ j ∧ j < 1024) ∧ ((D 331 j = 0 → (wp 292 75 [vr 226, vr 273, vi j, vi mo, vi k, vi ((j * 20) + k), vu] [vr 333] (D, SS L 1 c2 c3 c4 c5 c6) Q)) ∧ (¬ (D 331 j = 0) → (wp 292 55 [vr 226, vr 273, vi j, vi mo, vi k, vi ((j * 20) + k), vu] [vr 332, vr 273] (D, SS L 1 c2 c3 c4 c5 c6) Q))) from ⟨((((H.2).2.1 h16)).2).2.1, ⟨fun h12 => vc_wp [90, 106] 200 _ _ _ _ _ _ (show (0 ≤ k ∧ k < 24) ∧ ((mo = 0 → (wp 292 90 [vr 226, vr 273, vi j, vi mo, vi k, vi ((j * 20) + k), vi (D 333 k)] [vr 332, vi (D 333 k)] (D, SS L 1 c2 c3 c4 c5 c6) Q)) ∧ (¬ (mo = 0) → (wp 292 106 [vr 226, vr 273, vi j, vi 1, vi k, vi ((j * 20) + k), vi (D 333 k)] [vr 332] (D, SS L 1 c2 c3 c4 c5 c6) Q))) from ⟨(((((H.2).2.1 h16)).2).2.2.1 h12).1, ⟨fun h3 => vc_wp [106] 200 _ _ _ _ _ _ (show (0 ≤ (j * 20) + k ∧ (j * 20) + k < 20480) ∧ ((D 333 k = D 332 ((j * 20) + k) → (wp 292 106 [vr 226, vr 273, vi j, vi 0, vi k, vi ((j * 20) + k), vi (D 333 k)] [vr 332] (D, SS L 1 c2 c3 c4 c5 c6) Q)) ∧ (¬ (D 333 k = D 332 ((j * 20) + k)) → (wp 292 106 [vr 226, vr 273, vi j, vi 1, vi k, vi ((j * 20) + k), vi (D 333 k)] [vr 332] (D, SS L 1 c2 c3 c4 c5 c6) Q))) from ⟨((((((H.2).2.1 h16)).2).2.2.1 h12).2.1 h3).1, ⟨fun h1 => (((((((H.2).2.1 h16)).2).2.2.1 h12).2.1 h3).2.1 h1), fun h2 => (((((((H.2).2.1 h16)).2).2.2.1 h12).2.1 h3).2.2 h2)⟩⟩), fun h4 => ((((((H.2).2.1 h16)).2).2.2.1 h12).2.2 h4)⟩⟩), fun h13 => vc_wp [62] 200 _ _ _ _ _ _ (show (0 ≤ (j * 20) + k ∧ (j * 20) + k < 20480) ∧ (wp 292 62 [vr 226, vr 273, vi j, vi mo, vi k, vi ((j * 20) + k), vu] [vr 333, vi (D 332 ((j * 20) + k)), vr 273] (D, SS L 1 c2 c3 c4 c5 c6) Q) from ⟨(((((H.2).2.1 h16)).2).2.2.2 h13).1, vc_wp [] 200 _ _ _ _ _ _ (show (0 ≤ k ∧ k < 24) ∧ (wp 293 0 [vr 273, vi (D 332 ((j * 20) + k)), vi (D 333 k), vu, vu, vu, vu] [] (D, SS L 1 c2 c3 c4 c5 c6) (aft wp 292 65 [vr 226, vr 273, vi j, vi mo, vi k, vi ((j * 20) + k), vu] [] Q)) from ⟨(((((H.2).2.1 h16)).2).2.2.2 h13).2.1, Exists.elim ((((((H.2).2.1 h16)).2).2.2.2 h13).2.2) fun xe5 x6 => s293 ⟨xe5, x6.1, (show wp 292 68 [vr 226, vr 273, vi j, vi mo, vi k, vi ((j * 20) + k), vu] [vi (mT (tjn xe5.1 xe5.2.1 xe5.2.2))] (D, SS L 1 c2 c3 c4 c5 c6) Q from vc_wp [90, 106] 200 _ _ _ _ _ _ (show ((mo = 0 → (wp 292 90 [vr 226, vr 273, vi j, vi mo, vi k, vi ((j * 20) + k), vi (mT (tjn xe5.1 xe5.2.1 xe5.2.2))] [vr 332, vi (mT (tjn xe5.1 xe5.2.1 xe5.2.2))] (D, SS L 1 c2 c3 c4 c5 c6) Q)) ∧ (¬ (mo = 0) → (wp 292 106 [vr 226, vr 273, vi j, vi 1, vi k, vi ((j * 20) + k), vi (mT (tjn xe5.1 xe5.2.1 xe5.2.2))] [vr 332] (D, SS L 1 c2 c3 c4 c5 c6) Q))) from ⟨fun h10 => vc_wp [106] 200 _ _ _ _ _ _ (show (0 ≤ (j * 20) + k ∧ (j * 20) + k < 20480) ∧ ((mT (tjn xe5.1 xe5.2.1 xe5.2.2) = D 332 ((j * 20) + k) → (wp 292 106 [vr 226, vr 273, vi j, vi 0, vi k, vi ((j * 20) + k), vi (mT (tjn xe5.1 xe5.2.1 xe5.2.2))] [vr 332] (D, SS L 1 c2 c3 c4 c5 c6) Q)) ∧ (¬ (mT (tjn xe5.1 xe5.2.1 xe5.2.2) = D 332 ((j * 20) + k)) → (wp 292 106 [vr 226, vr 273, vi j, vi 1, vi k, vi ((j * 20) + k), vi (mT (tjn xe5.1 xe5.2.1 xe5.2.2))] [vr 332] (D, SS L 1 c2 c3 c4 c5 c6) Q))) from ⟨(x6.2.1 h10).1, ⟨fun h8 => ((x6.2.1 h10).2.1 h8), fun h9 => ((x6.2.1 h10).2.2 h9)⟩⟩), fun h11 => (x6.2.2 h11)⟩))⟩⟩)⟩)⟩⟩))))), fun h17 => vc_wp [] 200 _ _ _ _ _ _ (show ((0 : Int) ≤ 1 ∧ 1 ≤ (1 : Int)) ∧ ((0 ≤ j ∧ j < 1024) ∧ (((0 : Int) ≤ mo ∧ mo ≤ (1 : Int)) ∧ (Q (.inl [vi mo]) (up D 331 j 1, SS L 1 c2 c3 c4 c5 c6)))) from ⟨(by decide), ⟨((H.2).2.2 h17).1, ⟨((H.2).2.2 h17).2.1, ((H.2).2.2 h17).2.2⟩⟩⟩)⟩))⟩))
theorem r292_106 {L c2 c3 c4 c5 c6 : Nat} {D : Dt} {Q : Out → Wd → Prop} {j mo k ai t : Int} (H : (0 ≤ ai ∧ ai < 20480) ∧ (((-2147483648) ≤ k + 1 ∧ k + 1 ≤ 2147483647) ∧ (wp 292 18 [vr 226, vr 273, vi j, vi mo, vi (k + 1), vu, vu] [] (up D 332 ai t, SS L 1 c2 c3 c4 c5 c6) Q))) : wp 292 106 [vr 226, vr 273, vi j, vi mo, vi k, vi ai, vi t] [vr 332] (D, SS L 1 c2 c3 c4 c5 c6) Q := vc_wp [114] 200 _ _ _ _ _ _ (show (0 ≤ ai ∧ ai < 20480) ∧ (wp 292 114 [vr 226, vr 273, vi j, vi mo, vi (w32 (k + 1)), vi ai, vi t] [] (up D 332 ai t, SS L 1 c2 c3 c4 c5 c6) Q) from ⟨H.1, w32_i (fun z1 : Int => wp 292 114 [vr 226, vr 273, vi j, vi mo, vi z1, vi ai, vi t] [] (up D 332 ai t, SS L 1 c2 c3 c4 c5 c6) Q) (H.2).1 (vc_wp [18] 200 _ _ _ _ _ _ (show wp 292 18 [vr 226, vr 273, vi j, vi mo, vi (k + 1), vi ai, vi t] [] (up D 332 ai t, SS L 1 c2 c3 c4 c5 c6) Q from wp_d (Lle.k rfl (Lle.k rfl (Lle.k rfl (Lle.k rfl (Lle.k rfl (Lle.v rfl (Lle.v rfl (Lle.nil)))))))) ((H.2).2)))⟩)
theorem s292 {L c2 c3 c4 c5 c6 : Nat} {D : Dt} {Q : Out → Wd → Prop} {j : Int} (H : ∃ x : List Int × List Int × XB × XB × Int × TyT × (Int → Int), (ABp (D 274) x.2.1 ∧ TC x.1 x.2.1 x.2.2.1 x.2.2.2.1 x.2.2.2.2.1 ∧ TV x.2.1 x.2.2.1 x.2.2.2.1 x.2.2.2.2.1 x.2.2.2.2.2.1 ∧ TM x.2.2.1 x.2.2.2.1 x.2.2.2.2.1 x.2.2.2.2.2.1 (D 331) (D 332) ∧ (lf (x.2.2.2.1 11) x.2.2.2.2.1 ≤ j ∧ j < lf (x.2.2.2.1 12) x.2.2.2.2.1) ∧ D 292 j = htF x.2.2.1 x.2.2.2.1 x.2.2.2.2.1 j ∧ 0 ≤ htF x.2.2.1 x.2.2.2.1 x.2.2.2.2.1 j ∧ (∀ k : Int, 0 ≤ k → k < 12 + htF x.2.2.1 x.2.2.2.1 x.2.2.2.2.1 j → D 333 k = mT (x.2.2.2.2.2.2 k) ∧ tyS (8 + x.2.1.length) (x.2.2.2.2.2.2 k))) ∧ ∀ (E : Dt) (m : Int), ((m = 0 ∨ m = 1) ∧ FrS D E ∧ TM x.2.2.1 x.2.2.2.1 x.2.2.2.2.1 (jnT x.2.1 x.2.2.2.2.2.1 j x.2.2.2.2.2.2 (12 + htF x.2.2.1 x.2.2.2.1 x.2.2.2.2.1 j)) (E 331) (E 332) ∧ TyG (lf (x.2.2.2.1 11) x.2.2.2.2.1) (lf (x.2.2.2.1 12) x.2.2.2.2.1) x.2.2.2.2.2.1 0 (jnT x.2.1 x.2.2.2.2.2.1 j x.2.2.2.2.2.2 (12 + htF x.2.2.1 x.2.2.2.1 x.2.2.2.2.1 j)) m) → Q (.inl [vi m]) (E, SS L 1 c2 c3 c4 c5 c6)) : wp 292 0 [vr 226, vr 273, vi j, vu, vu, vu, vu] [] (D, SS L 1 c2 c3 c4 c5 c6) Q := by
  obtain ⟨⟨ns, ab, X, Y, b, T, w⟩, ⟨hA, hC, hV, hM, ⟨j0, j1⟩, e292, hj0, hw⟩, H⟩ := H
  dsimp only at *
  have hr := hC.1.1.rg hC.2.1.1 hC.2.1.2
  have hb := ht_b (X := X) (Y := Y) (b := b) (i := j)
  have hal := hC.1.2.1.2.1
  have hn : (8 : Int) + ab.length ≤ 32 := by omega
  have jc : 0 ≤ j ∧ j < 1024 := by omega
  have hMj := hM j j0 j1
  have hjs : ∀ k : Int, 0 ≤ k → k < 12 + htF X Y b j → tyS (8 + ab.length) (jnV ab (T j k) (w k)) := fun k k0 k1 => jnV_s hC.1.2.1.1 hal (TV.o hC hV j0 j1 k0 k1) (hw k k0 k1).2
  have hjk : ∀ k : Int, 0 ≤ k → k < 12 + htF X Y b j → ¬ jnV ab (T j k) (w k) = T j k → rkT (T j k) < rkT (jnV ab (T j k) (w k)) := fun k k0 k1 h => jnV_k hC.1.2.1.1 hal (TV.o hC hV j0 j1 k0 k1) (hw k k0 k1).2 h
  have hjle : ∀ k : Int, 0 ≤ k → k < 12 + htF X Y b j → rkT (T j k) ≤ rkT (jnV ab (T j k) (w k)) := fun k k0 k1 => by
    by_cases e : jnV ab (T j k) (w k) = T j k
    · rw [e]; exact Nat.le_refl _
    · exact Nat.le_of_lt (hjk k k0 k1 e)
  have hjt : ∀ k : Int, 0 ≤ k → k < 12 + htF X Y b j → jnT ab T j w (12 + htF X Y b j) j k = jnV ab (T j k) (w k) := fun k k0 k1 => cit_t ⟨rfl, k0, k1⟩
  have hjo : ∀ i k : Int, ¬ (i = j ∧ 0 ≤ k ∧ k < 12 + htF X Y b j) → jnT ab T j w (12 + htF X Y b j) i k = T i k := fun i k h => cit_f h
  have hvis : TV ab X Y b (jnT ab T j w (12 + htF X Y b j)) := TV.j hC hV j0 j1 hj0 (fun k k0 k1 => (hw k k0 k1).2)
  have hvj : ¬ jnT ab T j w (12 + htF X Y b j) j 0 < 0 := by
    rw [hjt 0 (by decide) (by omega)]
    have := (tyS_b (hjs 0 (by decide) (by omega)) hn).1
    omega
  -- the loop
  have hL : ∀ (M : Nat) (k m : Int) (z : Int → Int), (12 + htF X Y b j - k).toNat = M → 0 ≤ k → k ≤ 12 + htF X Y b j → (∀ q : Int, ¬ (j * 20 ≤ q ∧ q < j * 20 + k) → z q = D 332 q) → (∀ q : Int, 0 ≤ q → q < k → z (j * 20 + q) = mT (jnV ab (T j q) (w q))) → MoP T j (fun q => jnV ab (T j q) (w q)) k m → wp 292 18 [vr 226, vr 273, vi j, vi m, vi k, vu, vu] [] (sp D 332 z, SS L 1 c2 c3 c4 c5 c6) Q := by
    intro M
    induction M with
    | zero =>
      intro k m z e k0 k1 hz1 hz2 hm
      have ek : k = 12 + htF X Y b j := by omega
      have q292 : sp D 332 z 292 j = htF X Y b j := by rw [sp_a (by decide)]; exact e292
      refine r292_18 ?_
      rw [q292]
      refine ⟨jc, by omega, fun x => by omega, fun _ => ⟨jc, ?_, ?_⟩⟩
      · rcases hm with x | x
        · omega
        · omega
      · refine H _ m ⟨?_, fun a ha => ?_, fun i i0 i1 => ⟨fun g => ?_, fun g => ⟨?_, fun q q0 q1 => ?_⟩⟩, ⟨fun i q i0 i1 q0 q1 => ?_, ?_⟩⟩
        · rcases hm with x | x
          · exact Or.inl x.1
          · exact Or.inr x.1
        · rw [ub_a (by omega), sp_a (by omega)]
        · have hij : ¬ i = j := fun x => by rw [x] at g; exact hvj g
          rw [hjo i 0 (fun x => hij x.1)] at g
          rw [ub_n hij, sp_a (by decide)]; exact (hM i i0 i1).1 g
        · by_cases hij : i = j
          · rw [hij, ub_s]
          · rw [hjo i 0 (fun x => hij x.1)] at g
            rw [ub_n hij, sp_a (by decide)]; exact ((hM i i0 i1).2 g).1
        · rw [ub_a (by decide), sp_s]
          by_cases hij : i = j
          · rw [hij] at q1 ⊢
            rw [hjt q q0 q1]; exact hz2 q q0 (by omega)
          · rw [hjo i 0 (fun x => hij x.1)] at g
            rw [hjo i q (fun x => hij x.1)]
            have hbi := ht_b (X := X) (Y := Y) (b := b) (i := i)
            rw [hz1 _ (by omega)]
            exact ((hM i i0 i1).2 g).2 q q0 q1
        · by_cases c : i = j ∧ 0 ≤ q ∧ q < 12 + htF X Y b j
          · rw [c.1, hjt q c.2.1 c.2.2]; exact hjle q c.2.1 c.2.2
          · rw [hjo i q c]; exact Nat.le_refl _
        · rcases hm with ⟨x1, _, x2⟩ | ⟨x1, x2⟩
          · refine Or.inl ⟨x1, fun i q i0 i1 q0 q1 => ?_⟩
            by_cases c : i = j ∧ 0 ≤ q ∧ q < 12 + htF X Y b j
            · rw [c.1, hjt q c.2.1 c.2.2]; exact x2 q c.2.1 (by omega)
            · exact hjo i q c
          · refine Or.inr ⟨x1, ?_⟩
            rcases x2 with x2 | ⟨q, q1, q2⟩
            · refine ⟨j, 0, ⟨j0, j1, by decide, by decide⟩, ?_⟩
              rw [hjt 0 (by decide) (by omega)]
              refine hjk 0 (by decide) (by omega) (fun y => ?_)
              have := (tyS_b (hjs 0 (by decide) (by omega)) hn).1
              omega
            · refine ⟨j, q, ⟨j0, j1, q1.1, by omega⟩, ?_⟩
              rw [hjt q q1.1 (by omega)]
              exact hjk q q1.1 (by omega) q2
    | succ M ih =>
      intro k m z e k0 k1 hz1 hz2 hm
      have kt : k < 12 + htF X Y b j := by omega
      have q292 : sp D 332 z 292 j = htF X Y b j := by rw [sp_a (by decide)]; exact e292
      have q331 : sp D 332 z 331 j = D 331 j := by rw [sp_a (by decide)]
      have q333 : sp D 332 z 333 k = mT (w k) := by rw [sp_a (by decide)]; exact (hw k k0 kt).1
      have q332 : sp D 332 z 332 (j * 20 + k) = D 332 (j * 20 + k) := by rw [sp_s]; exact hz1 _ (by omega)
      have hnx : ∀ m' : Int, ((m' = 0 ∧ m = 0 ∧ ¬ T j 0 < 0 ∧ jnV ab (T j k) (w k) = T j k) ∨ (m' = 1 ∧ (m = 1 ∨ T j 0 < 0 ∨ ¬ jnV ab (T j k) (w k) = T j k))) → wp 292 106 [vr 226, vr 273, vi j, vi m', vi k, vi (j * 20 + k), vi (mT (jnV ab (T j k) (w k)))] [vr 332] (sp D 332 z, SS L 1 c2 c3 c4 c5 c6) Q := fun m' hm' => by
        have ew : up (sp D 332 z) 332 (j * 20 + k) (mT (jnV ab (T j k) (w k))) = sp D 332 (fun q => if q = j * 20 + k then mT (jnV ab (T j k) (w k)) else z q) := by
          funext a q
          by_cases ea : a = 332
          · subst ea
            rw [sp_s]
            by_cases eq : q = j * 20 + k
            · rw [eq, ub_s, if_pos rfl]
            · rw [ub_n eq, sp_s, if_neg eq]
          · rw [ub_a ea, sp_a ea, sp_a ea]
        refine r292_106 ⟨by omega, by omega, ?_⟩
        rw [ew]
        refine ih (k + 1) m' _ (by omega) (by omega) (by omega) (fun q hq => ?_) (fun q q0 q1 => ?_) ?_
        · rw [if_neg (by omega)]; exact hz1 q (by omega)
        · by_cases eq : q = k
          · rw [eq, if_pos rfl]
          · rw [if_neg (by omega)]; exact hz2 q q0 (by omega)
        · rcases hm' with ⟨x1, x2, x3, x4⟩ | ⟨x1, x2⟩
          · refine Or.inl ⟨x1, x3, fun q q0 q1 => ?_⟩
            by_cases eq : q = k
            · rw [eq]; exact x4
            · rcases hm with y | y
              · exact y.2.2 q q0 (by omega)
              · omega
          · refine Or.inr ⟨x1, ?_⟩
            rcases x2 with x2 | x2 | x2
            · rcases hm with y | y
              · omega
              · rcases y.2 with y2 | ⟨q, q1, q2⟩
                · exact Or.inl y2
                · exact Or.inr ⟨q, by omega, q2⟩
            · exact Or.inl x2
            · exact Or.inr ⟨k, by omega, x2⟩
      refine r292_18 ?_
      rw [q292, q331, q333, q332]
      refine ⟨jc, by omega, fun _ => ⟨by omega, by omega, jc, fun g => ⟨by omega, ?_⟩, fun g => ?_⟩, fun x => by omega⟩
      · have hT : T j 0 < 0 := Classical.byContradiction fun y => by have := (hMj.2 y).1; omega
        have hm1 : ¬ m = 0 := fun y => by
          rcases hm with x | x
          · exact x.2.1 hT
          · omega
        have hTk : T j k < 0 := by
          rcases hV j j0 j1 with x | x
          · rw [x k k0 (by omega)]; decide
          · have := (tyS_b (x.2.1 0 (by decide) (by omega)) hn).1; omega
        have ej : jnV ab (T j k) (w k) = w k := cit_t hTk
        rw [ej] at hnx
        exact ⟨fun y => absurd y hm1, fun _ => hnx 1 (Or.inr ⟨rfl, Or.inr (Or.inl hT)⟩)⟩
      · have hT : ¬ T j 0 < 0 := fun y => g (hMj.1 y)
        have hTs := (TV.c hC hV j0 j1 hT).2 k k0 kt
        have hTk : ¬ T j k < 0 := by have := (tyS_b hTs hn).1; omega
        have ej : jnV ab (T j k) (w k) = tjn ab (T j k) (w k) := cit_f hTk
        have eD : D 332 (j * 20 + k) = mT (T j k) := (hMj.2 hT).2 k k0 kt
        rw [ej] at hnx
        have hts := tjn_s hC.1.2.1.1 hTs (hw k k0 kt).2 hal
        refine ⟨by omega, by omega, (ab, T j k, w k), ⟨by rw [sp_a (by decide)]; exact hA, hC.1.2.1.1, hal, hTs, (hw k k0 kt).2, eD, rfl⟩, ?_⟩
        dsimp only
        rw [eD]
        refine ⟨fun y => ⟨by omega, fun y1 => hnx 0 (Or.inl ⟨rfl, y, hT, (mT_i hn hts hTs).mp y1⟩), fun y1 => hnx 1 (Or.inr ⟨rfl, Or.inr (Or.inr fun y2 => y1 (by rw [y2]))⟩)⟩, fun y => hnx 1 (Or.inr ⟨rfl, Or.inl ?_⟩)⟩
        rcases hm with x | x
        · exact absurd x.1 y
        · exact x.1
  have e0 : D = sp D 332 (D 332) := by
    funext a
    by_cases ea : a = 332
    · subst ea; rw [sp_s]
    · rw [sp_a ea]
  have h18 := fun m hm => hL _ 0 m (D 332) rfl (Int.le_refl _) (by omega) (fun _ _ => rfl) (fun q q0 q1 => by omega) hm
  rw [← e0] at h18
  refine r292_0 ⟨jc, fun g => h18 1 (Or.inr ⟨rfl, Or.inl (Classical.byContradiction fun y => by have := (hMj.2 y).1; omega)⟩), fun g => h18 0 (Or.inl ⟨rfl, fun y => g (hMj.1 y), fun q q0 q1 => by omega⟩)⟩
