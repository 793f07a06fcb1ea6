section Sim5
variable {p : Program} {l : Launch} {e : Env} {R : Room} {s : State} {mid : MethodId} {args : Array Value} {below : List Frame} {meth : Method} {c : Code} {Q : State → Prop} {dC : Nat → ClassId} {dI : Nat → Nat → Nat} {tc : Nat → ClassId} {A : Nat → Prop} {w0 : Wd}
variable {θ : Nat → Nat} {fe : Nat → List Value} {w : Wd} {H : Heap} {locs : List Loc} {cells slots : Nat} {ls st : List Vl} {lsJ : Array Slot} {nL m pc len own ini : Nat} {k : Nat → List Vl → List Vl → Wd → Prop}
/-- where a value is stored is a local -/
def stI (nL : Nat) (i : Jvm.ClassFile.Instr) : Bool := match i with
  | .istore j => Nat.blt j nL
  | .istore_n j => Nat.blt j.val nL
  | .astore j => Nat.blt j nL
  | .astore_n j => Nat.blt j.val nL
  | .lstore j => Nat.blt (j + 1) nL
  | .lstore_n j => Nat.blt (j.val + 1) nL
  | .iinc j _ => Nat.blt j nL
  | _ => true
theorem blt_e {a b : Nat} (h : Nat.blt a b = true) : a < b := Nat.le_of_ble_eq_true h
theorem sw1_e {x v : Int} {d : Prop} {k : Int → Prop} : ∀ {os : List Int}, sw1 x v d k os → ((x < v ∨ v + os.length ≤ x) ∧ d) ∨ (v ≤ x ∧ x < v + os.length ∧ ∃ o, os[(x - v).toNat]? = some o ∧ k o) := by
  intro os
  induction os generalizing v with
  | nil => intro h; exact Or.inl ⟨by simp; omega, h⟩
  | cons o os ih =>
    intro h
    by_cases e : x = v
    · refine Or.inr ⟨by omega, by simp; omega, o, ?_, h.1 e⟩
      rw [show (x - v).toNat = 0 by omega]
      rfl
    · rcases ih (h.2 e) with ⟨h1, h2⟩ | ⟨h1, h2, o', h3, h4⟩
      · refine Or.inl ⟨?_, h2⟩
        simp only [List.length_cons]
        omega
      · refine Or.inr ⟨by omega, by simp only [List.length_cons]; omega, o', ?_, h4⟩
        rw [show (x - v).toNat = (x - (v + 1)).toNat + 1 by omega]
        exact h3
theorem sw2_e {x : Int} {d : Prop} {k : Int → Prop} {dd : Int} (hd : d → k dd) : ∀ {os : List (Int × Int)}, sw2 x d k os → k (Op.lookupswitch.offset os dd x) := by
  intro os
  induction os with
  | nil => intro h; exact hd h
  | cons o os ih =>
    intro h
    obtain ⟨a, b⟩ := o
    rw [Op.lookupswitch.offset_cons]
    by_cases q : x = a
    · rw [if_pos q.symm]
      exact h.1 q
    · rw [if_neg (fun z => q z.symm)]
      exact ih (h.2 q)
theorem lo_mem {x dd : Int} : ∀ {os : List (Int × Int)}, Op.lookupswitch.offset os dd x = dd ∨ ∃ o ∈ os, Op.lookupswitch.offset os dd x = o.2 := by
  intro os
  induction os with
  | nil => exact Or.inl rfl
  | cons o os ih =>
    obtain ⟨a, b⟩ := o
    rw [Op.lookupswitch.offset_cons]
    split
    · exact Or.inr ⟨(a, b), List.mem_cons_self, rfl⟩
    · rcases ih with h | ⟨o, ho, h⟩
      · exact Or.inl h
      · exact Or.inr ⟨o, List.mem_cons_of_mem _ ho, h⟩
theorem ex_sim (hx : p.tables.exec = Jvm.exec) (hts : ∀ w ∈ lw_all, w.before args s = true) (hown : s.vm.findClass (owS own) = some mid.cls) (hA : ∀ q, s.heap.size ≤ q → A q) (hin : 1 ≤ ini → meth.name = "<init>") (hF : Fr dC dI tc A s R w0 θ fe w H locs cells slots) (hl : Ls θ (nx w) ls lsJ nL) (hs : ∀ v ∈ st, okv (nx w) v) (G : Go p l e R s mid args below meth c Q dC dI tc A w0 nL θ (nx w) k) (i : Jvm.ClassFile.Instr) (hd : decode c.code pc = .ok (i, len)) (ho : okI pc i len = true) (hsm : smI own i = true) (hst : stI nL i = true) (hrw : isRow m = true → ∀ t, i = .newarray t → t = .int) (he : exP m own ini pc len i ls st w k) : W p l e R s mid args below meth c H locs cells slots Q (F0 mid pc lsJ (st.map (vlv θ))) := by
  cases i
  case iconst n =>
    unfold okI at ho
    simp only [Bool.and_eq_true] at ho
    obtain rfl := lenK ho.1
    have h1 := of_decide_eq_true ho.2.1
    have h2 := of_decide_eq_true ho.2.2
    exact lv_iconst hx rfl hd rfl (go1 G hF hl (st' := vi n :: st) he (ok_c (by show r32 n; unfold r32; omega) hs))
  case bipush n =>
    unfold okI at ho
    simp only [Bool.and_eq_true] at ho
    obtain rfl := lenK ho.1
    have h1 := of_decide_eq_true ho.2.1
    have h2 := of_decide_eq_true ho.2.2
    refine lv_bipush hx rfl hd (v := Int32.ofInt n) ?_ (go1 G hF hl (st' := vi n :: st) he (ok_c (by show r32 n; unfold r32; omega) hs))
    apply Int32.toInt_inj.mp
    rw [Int8.toInt_toInt32, nb_id (by unfold r32; omega)]
    exact Int8.toInt_ofInt_of_le h1 (by omega)
  case sipush n =>
    unfold okI at ho
    simp only [Bool.and_eq_true] at ho
    obtain rfl := lenK ho.1
    have h1 := of_decide_eq_true ho.2.1
    have h2 := of_decide_eq_true ho.2.2
    refine lv_sipush hx rfl hd (v := Int32.ofInt n) ?_ (go1 G hF hl (st' := vi n :: st) he (ok_c (by show r32 n; unfold r32; omega) hs))
    apply Int32.toInt_inj.mp
    rw [Int16.toInt_toInt32, nb_id (by unfold r32; omega)]
    exact Int16.toInt_ofInt_of_le h1 (by omega)
  case lconst n =>
    obtain rfl := lenK (K := 1) ho
    refine lv_lconst hx rfl hd (v := Int64.ofInt (n.val : Int)) (by match n with | 0 => rfl | 1 => rfl) (go1 G hF hl (st' := vl (n.val : Int) :: st) he (ok_c (by show r64 _; have := n.isLt; unfold r64; omega) hs))
  case ldc j => obtain rfl := lenK (K := 2) ho; exact sim_ldc hx hts hown hA hin hF hl hs G _ (Or.inl ⟨rfl, rfl⟩) hd hsm he
  case ldc_w j => obtain rfl := lenK (K := 3) ho; exact sim_ldc hx hts hown hA hin hF hl hs G _ (Or.inr ⟨rfl, rfl⟩) hd hsm he
  case ldc2_w j =>
    obtain rfl := lenK (K := 3) ho
    obtain ⟨e1, e2⟩ := q_own (own := own) hsm
    unfold exP at he
    dsimp only at he
    split at he
    · next n hr =>
      obtain ⟨hn, hc⟩ := l2_all hr
      rw [e1, e2] at hc
      exact lv_ldc2 hx rfl hown (hts _ hc) hd (go1 G hF hl (st' := vl n :: st) he (ok_c hn hs))
    · exact he.elim
  case iload j =>
    obtain rfl := lenK (K := 2) ho
    obtain ⟨x, hj, he⟩ := ldI_e he
    obtain ⟨h1, h2⟩ := hl.i hj
    exact lv_iload hx rfl hd h1 (go1 G hF hl (st' := vi x :: st) he (ok_c h2 hs))
  case iload_n j =>
    obtain rfl := lenK (K := 1) ho
    obtain ⟨x, hj, he⟩ := ldI_e he
    obtain ⟨h1, h2⟩ := hl.i hj
    exact lv_iload_n hx rfl hd rfl h1 (go1 G hF hl (st' := vi x :: st) he (ok_c h2 hs))
  case lload j =>
    obtain rfl := lenK (K := 2) ho
    obtain ⟨x, hj, hk, he⟩ := ldL_e he
    obtain ⟨h1, h2⟩ := hl.l hj hk
    exact lv_lload hx rfl hd h1 (go1 G hF hl (st' := vl x :: st) he (ok_c h2 hs))
  case lload_n j =>
    obtain rfl := lenK (K := 1) ho
    obtain ⟨x, hj, hk, he⟩ := ldL_e he
    obtain ⟨h1, h2⟩ := hl.l hj hk
    exact lv_lload_n hx rfl hd rfl h1 (go1 G hF hl (st' := vl x :: st) he (ok_c h2 hs))
  case aload j =>
    obtain rfl := lenK (K := 2) ho
    obtain ⟨x, hj, he⟩ := ldA_e he
    obtain ⟨h1, h2⟩ := hl.a hj
    exact lv_aload hx rfl hd h1 (go1 G hF hl (st' := vr x :: st) he (ok_c h2 hs))
  case aload_n j =>
    obtain rfl := lenK (K := 1) ho
    obtain ⟨x, hj, he⟩ := ldA_e he
    obtain ⟨h1, h2⟩ := hl.a hj
    exact lv_aload_n hx rfl hd rfl h1 (go1 G hF hl (st' := vr x :: st) he (ok_c h2 hs))
  case istore j =>
    obtain rfl := lenK (K := 2) ho
    obtain ⟨x, st', rfl, he⟩ := o1_e he
    exact lv_istore hx rfl hd hl.2.1 (blt_e hst) rfl fun ls' hls => G _ _ _ _ _ _ _ _ _ _ _ he hF (hl.sti (ok_h hs) hls) (ok_t hs) (fun _ _ => rfl) (Nat.le_refl _)
  case istore_n j =>
    obtain rfl := lenK (K := 1) ho
    obtain ⟨x, st', rfl, he⟩ := o1_e he
    exact lv_istore_n hx rfl hd rfl hl.2.1 (blt_e hst) rfl fun ls' hls => G _ _ _ _ _ _ _ _ _ _ _ he hF (hl.sti (ok_h hs) hls) (ok_t hs) (fun _ _ => rfl) (Nat.le_refl _)
  case lstore j =>
    obtain rfl := lenK (K := 2) ho
    obtain ⟨x, st', rfl, he⟩ := oL_e he
    exact lv_lstore hx rfl hd hl.2.1 (blt_e hst) rfl fun ls' hls => G _ _ _ _ _ _ _ _ _ _ _ he hF (hl.stl (ok_h hs) hls) (ok_t hs) (fun _ _ => rfl) (Nat.le_refl _)
  case lstore_n j =>
    obtain rfl := lenK (K := 1) ho
    obtain ⟨x, st', rfl, he⟩ := oL_e he
    exact lv_lstore_n hx rfl hd rfl hl.2.1 (blt_e hst) rfl fun ls' hls => G _ _ _ _ _ _ _ _ _ _ _ he hF (hl.stl (ok_h hs) hls) (ok_t hs) (fun _ _ => rfl) (Nat.le_refl _)
  case astore j =>
    obtain rfl := lenK (K := 2) ho
    obtain ⟨x, st', rfl, he⟩ := oA_e he
    exact lv_astore hx rfl hd hl.2.1 (blt_e hst) rfl fun ls' hls => G _ _ _ _ _ _ _ _ _ _ _ he hF (hl.sta (ok_h hs) hls) (ok_t hs) (fun _ _ => rfl) (Nat.le_refl _)
  case astore_n j =>
    obtain rfl := lenK (K := 1) ho
    obtain ⟨x, st', rfl, he⟩ := oA_e he
    exact lv_astore_n hx rfl hd rfl hl.2.1 (blt_e hst) rfl fun ls' hls => G _ _ _ _ _ _ _ _ _ _ _ he hF (hl.sta (ok_h hs) hls) (ok_t hs) (fun _ _ => rfl) (Nat.le_refl _)
  case iinc j n =>
    unfold okI at ho
    simp only [Bool.and_eq_true] at ho
    obtain rfl := lenK ho.1
    obtain ⟨x, hj, he⟩ := ldI_e he
    obtain ⟨h1, h2⟩ := hl.i hj
    have hm : (j, Value.int (Int32.ofInt x)) ∈ prs θ ls := prs_mem.mpr (by unfold prl; rw [hj])
    obtain ⟨k', hk'⟩ := List.getElem?_of_mem hm
    exact lv_iinc hx rfl hd hl.2.1 hk' (v := Int32.ofInt (w32 (x + n))) (nb_add x n) (blt_e hst) rfl fun ls' hls => G _ _ _ _ _ _ _ _ _ _ _ he hF (hl.sti (r32_w _) hls) hs (fun _ _ => rfl) (Nat.le_refl _)
  case iadd =>
    obtain rfl := lenK (K := 1) ho
    obtain ⟨x, y, st', rfl, he⟩ := o2_e he
    have hy : r32 y := ok_h hs
    have hxx : r32 x := ok_h (ok_t hs)
    refine lv_iadd hx rfl hd ?_
    rw [nb_add]
    exact go1 G hF hl (st' := vi (w32 (x + y)) :: st') he (ok_c (r32_w _) (ok_t (ok_t hs)))
  case isub =>
    obtain rfl := lenK (K := 1) ho
    obtain ⟨x, y, st', rfl, he⟩ := o2_e he
    have hy : r32 y := ok_h hs
    have hxx : r32 x := ok_h (ok_t hs)
    refine lv_isub hx rfl hd ?_
    rw [nb_sub]
    exact go1 G hF hl (st' := vi (w32 (x - y)) :: st') he (ok_c (r32_w _) (ok_t (ok_t hs)))
  case imul =>
    obtain rfl := lenK (K := 1) ho
    obtain ⟨x, y, st', rfl, he⟩ := o2_e he
    have hy : r32 y := ok_h hs
    have hxx : r32 x := ok_h (ok_t hs)
    refine lv_imul hx rfl hd ?_
    rw [nb_mul]
    exact go1 G hF hl (st' := vi (w32 (x * y)) :: st') he (ok_c (r32_w _) (ok_t (ok_t hs)))
  case iand =>
    obtain rfl := lenK (K := 1) ho
    obtain ⟨x, y, st', rfl, he⟩ := o2_e he
    have hy : r32 y := ok_h hs
    have hxx : r32 x := ok_h (ok_t hs)
    refine lv_iand hx rfl hd ?_
    rw [nb_and hxx hy]
    exact go1 G hF hl (st' := vi (band x y) :: st') he (ok_c (r32_and hxx hy) (ok_t (ok_t hs)))
  case ior =>
    obtain rfl := lenK (K := 1) ho
    obtain ⟨x, y, st', rfl, he⟩ := o2_e he
    have hy : r32 y := ok_h hs
    have hxx : r32 x := ok_h (ok_t hs)
    refine lv_ior hx rfl hd ?_
    rw [nb_or hxx hy]
    exact go1 G hF hl (st' := vi (bor x y) :: st') he (ok_c (r32_or hxx hy) (ok_t (ok_t hs)))
  case ixor =>
    obtain rfl := lenK (K := 1) ho
    obtain ⟨x, y, st', rfl, he⟩ := o2_e he
    have hy : r32 y := ok_h hs
    have hxx : r32 x := ok_h (ok_t hs)
    refine lv_ixor hx rfl hd ?_
    rw [nb_xor hxx hy]
    exact go1 G hF hl (st' := vi (bxor x y) :: st') he (ok_c (r32_xor hxx hy) (ok_t (ok_t hs)))
  case ishl =>
    obtain rfl := lenK (K := 1) ho
    obtain ⟨x, y, st', rfl, he⟩ := o2_e he
    have hy : r32 y := ok_h hs
    have hxx : r32 x := ok_h (ok_t hs)
    refine lv_ishl hx rfl hd ?_
    rw [nb_shl]
    exact go1 G hF hl (st' := vi (ishl x y) :: st') he (ok_c (r32_w _) (ok_t (ok_t hs)))
  case ishr =>
    obtain rfl := lenK (K := 1) ho
    obtain ⟨x, y, st', rfl, he⟩ := o2_e he
    have hy : r32 y := ok_h hs
    have hxx : r32 x := ok_h (ok_t hs)
    refine lv_ishr hx rfl hd ?_
    rw [nb_shr hxx]
    exact go1 G hF hl (st' := vi (ishr x y) :: st') he (ok_c (r32_shr hxx y) (ok_t (ok_t hs)))
  case idiv =>
    obtain rfl := lenK (K := 1) ho
    obtain ⟨x, y, st', rfl, hne, he⟩ := o2_e he
    have hy : r32 y := ok_h hs
    have hxx : r32 x := ok_h (ok_t hs)
    refine lv_idiv hx rfl hd (fun q => hne ((nb_inj hy (by unfold r32; omega)).mp q)) ?_
    rw [nb_div hxx hy]
    exact go1 G hF hl (st' := vi (w32 (x.tdiv y)) :: st') he (ok_c (r32_w _) (ok_t (ok_t hs)))
  case irem =>
    obtain rfl := lenK (K := 1) ho
    obtain ⟨x, y, st', rfl, hne, he⟩ := o2_e he
    have hy : r32 y := ok_h hs
    have hxx : r32 x := ok_h (ok_t hs)
    refine lv_irem hx rfl hd (fun q => hne ((nb_inj hy (by unfold r32; omega)).mp q)) ?_
    rw [nb_rem hxx hy]
    exact go1 G hF hl (st' := vi (x.tmod y) :: st') he (ok_c (r32_tmod hxx) (ok_t (ok_t hs)))
  case ineg =>
    obtain rfl := lenK (K := 1) ho
    obtain ⟨x, st', rfl, he⟩ := o1_e he
    refine lv_ineg hx rfl hd ?_
    rw [nb_neg]
    exact go1 G hF hl (st' := vi (w32 (-x)) :: st') he (ok_c (r32_w _) (ok_t hs))
  case i2b =>
    obtain rfl := lenK (K := 1) ho
    obtain ⟨x, st', rfl, he⟩ := o1_e he
    exact lv_i2b hx rfl hd (nb_i2b (ok_h hs)) (go1 G hF hl (st' := vi (w8 x) :: st') he (ok_c (r32_w8 x) (ok_t hs)))
  case i2l =>
    obtain rfl := lenK (K := 1) ho
    obtain ⟨x, st', rfl, he⟩ := o1_e he
    exact lv_i2l hx rfl hd (nb_i2l (ok_h hs)) (go1 G hF hl (st' := vl x :: st') he (ok_c (r64_32 (ok_h hs)) (ok_t hs)))
  case l2i =>
    obtain rfl := lenK (K := 1) ho
    obtain ⟨x, st', rfl, he⟩ := oL_e he
    exact lv_l2i hx rfl hd (nb_l2i x) (go1 G hF hl (st' := vi (w32 x) :: st') he (ok_c (r32_w _) (ok_t hs)))
  case lneg =>
    obtain rfl := lenK (K := 1) ho
    obtain ⟨x, st', rfl, he⟩ := oL_e he
    refine lv_lneg hx rfl hd ?_
    rw [nb_lneg]
    exact go1 G hF hl (st' := vl (w64 (-x)) :: st') he (ok_c (r64_w _) (ok_t hs))
  case ladd =>
    obtain rfl := lenK (K := 1) ho
    obtain ⟨x, y, st', rfl, he⟩ := oLL_e he
    have hy : r64 y := ok_h hs
    have hxx : r64 x := ok_h (ok_t hs)
    refine lv_ladd hx rfl hd ?_
    rw [nb_ladd]
    exact go1 G hF hl (st' := vl (w64 (x + y)) :: st') he (ok_c (r64_w _) (ok_t (ok_t hs)))
  case lsub =>
    obtain rfl := lenK (K := 1) ho
    obtain ⟨x, y, st', rfl, he⟩ := oLL_e he
    have hy : r64 y := ok_h hs
    have hxx : r64 x := ok_h (ok_t hs)
    refine lv_lsub hx rfl hd ?_
    rw [nb_lsub]
    exact go1 G hF hl (st' := vl (w64 (x - y)) :: st') he (ok_c (r64_w _) (ok_t (ok_t hs)))
  case lmul =>
    obtain rfl := lenK (K := 1) ho
    obtain ⟨x, y, st', rfl, he⟩ := oLL_e he
    have hy : r64 y := ok_h hs
    have hxx : r64 x := ok_h (ok_t hs)
    refine lv_lmul hx rfl hd ?_
    rw [nb_lmul]
    exact go1 G hF hl (st' := vl (w64 (x * y)) :: st') he (ok_c (r64_w _) (ok_t (ok_t hs)))
  case land =>
    obtain rfl := lenK (K := 1) ho
    obtain ⟨x, y, st', rfl, he⟩ := oLL_e he
    have hy : r64 y := ok_h hs
    have hxx : r64 x := ok_h (ok_t hs)
    refine lv_land hx rfl hd ?_
    rw [nb_land]
    exact go1 G hF hl (st' := vl (band x y) :: st') he (ok_c (bv_rng _) (ok_t (ok_t hs)))
  case lor =>
    obtain rfl := lenK (K := 1) ho
    obtain ⟨x, y, st', rfl, he⟩ := oLL_e he
    have hy : r64 y := ok_h hs
    have hxx : r64 x := ok_h (ok_t hs)
    refine lv_lor hx rfl hd ?_
    rw [nb_lor]
    exact go1 G hF hl (st' := vl (bor x y) :: st') he (ok_c (bv_rng _) (ok_t (ok_t hs)))
  case lxor =>
    obtain rfl := lenK (K := 1) ho
    obtain ⟨x, y, st', rfl, he⟩ := oLL_e he
    have hy : r64 y := ok_h hs
    have hxx : r64 x := ok_h (ok_t hs)
    refine lv_lxor hx rfl hd ?_
    rw [nb_lxor]
    exact go1 G hF hl (st' := vl (bxor x y) :: st') he (ok_c (bv_rng _) (ok_t (ok_t hs)))
  case ldiv =>
    obtain rfl := lenK (K := 1) ho
    obtain ⟨x, y, st', rfl, hne, he⟩ := oLL_e he
    have hy : r64 y := ok_h hs
    have hxx : r64 x := ok_h (ok_t hs)
    refine lv_ldiv hx rfl hd (fun q => hne ((nb_linj hy (by unfold r64; omega)).mp q)) ?_
    rw [nb_ldiv hxx hy]
    exact go1 G hF hl (st' := vl (w64 (x.tdiv y)) :: st') he (ok_c (r64_w _) (ok_t (ok_t hs)))
  case lshl =>
    obtain rfl := lenK (K := 1) ho
    obtain ⟨y, st1, rfl, he1⟩ := o1_e he
    obtain ⟨x, st', rfl, he2⟩ := oL_e he1
    exact lv_lshl hx rfl hd (nb_lshl x y (ok_h hs)) (go1 G hF hl (st' := vl (lshl x y) :: st') he2 (ok_c (r64_w _) (ok_t (ok_t hs))))
  case lshr =>
    obtain rfl := lenK (K := 1) ho
    obtain ⟨y, st1, rfl, he1⟩ := o1_e he
    obtain ⟨x, st', rfl, he2⟩ := oL_e he1
    exact lv_lshr hx rfl hd (nb_lshr (ok_h (ok_t hs)) y (ok_h hs)) (go1 G hF hl (st' := vl (lshr x y) :: st') he2 (ok_c (r64_shr (ok_h (ok_t hs)) y (ok_h hs)) (ok_t (ok_t hs))))
  case lcmp =>
    obtain rfl := lenK (K := 1) ho
    obtain ⟨x, y, st', rfl, he⟩ := oLL_e he
    refine W.lcmp hx rfl hd ?_
    rw [nb_cmp (ok_h (ok_t hs)) (ok_h hs)]
    exact go1 G hF hl (st' := vi (lcmp x y) :: st') he (ok_c (r32_cmp x y) (ok_t (ok_t hs)))
  case dup =>
    obtain rfl := lenK (K := 1) ho
    unfold exP at he
    dsimp only at he
    split at he
    · next x st' => exact lv_dup hx rfl hd rfl (go1 G hF hl (st' := vi x :: vi x :: st') he (ok_c (ok_h hs) hs))
    · next x st' => exact lv_dup hx rfl hd rfl (go1 G hF hl (st' := vr x :: vr x :: st') he (ok_c (ok_h hs) hs))
    · exact he.elim
  case dup2 =>
    obtain rfl := lenK (K := 1) ho
    unfold exP at he
    dsimp only at he
    split at he
    · next x st' => exact lv_dup2_2 hx rfl hd rfl (go1 G hF hl (st' := vl x :: vl x :: st') he (ok_c (ok_h hs) hs))
    · next x y st' => exact lv_dup2_11 hx rfl hd rfl rfl (go1 G hF hl (st' := vi x :: vi y :: vi x :: vi y :: st') he (ok_c (ok_h hs) (ok_c (ok_h (ok_t hs)) hs)))
    · next x y st' => exact lv_dup2_11 hx rfl hd rfl rfl (go1 G hF hl (st' := vi x :: vr y :: vi x :: vr y :: st') he (ok_c (ok_h hs) (ok_c (ok_h (ok_t hs)) hs)))
    · exact he.elim
  case pop =>
    obtain rfl := lenK (K := 1) ho
    obtain ⟨x, st', rfl, he⟩ := o1_e he
    exact lv_pop hx rfl hd rfl (go1 G hF hl (st' := st') he (ok_t hs))
  case goto off =>
    unfold okI at ho
    simp only [Bool.and_eq_true] at ho
    obtain rfl := lenK ho.1
    exact lv_goto hx rfl hd (jmp_e ho.2) (go1 G hF hl (st' := st) he hs)
  case ifCond cc off =>
    unfold okI at ho
    simp only [Bool.and_eq_true] at ho
    obtain rfl := lenK ho.1
    obtain ⟨x, st', rfl, he⟩ := o1_e he
    have hxx : r32 x := ok_h hs
    have h0 : r32 0 := by unfold r32; omega
    have z : (0 : Int32) = Int32.ofInt 0 := rfl
    cases cc with
    | eq => exact lv_if_eq hx rfl hd (jmp_e ho.2) (fun q => go1 G hF hl (st' := st') (he.1 ((nb_inj hxx h0).mp q)) (ok_t hs)) (fun q => go1 G hF hl (st' := st') (he.2 fun r => q ((nb_inj hxx h0).mpr r)) (ok_t hs))
    | ne => exact lv_if_ne hx rfl hd (jmp_e ho.2) (fun q => go1 G hF hl (st' := st') (he.2 fun r => q ((nb_inj hxx h0).mpr r)) (ok_t hs)) (fun q => go1 G hF hl (st' := st') (he.1 ((nb_inj hxx h0).mp q)) (ok_t hs))
    | lt => exact lv_if_lt hx rfl hd (jmp_e ho.2) (fun q => go1 G hF hl (st' := st') (he.1 ((nb_lt hxx h0).mp q)) (ok_t hs)) (fun q => go1 G hF hl (st' := st') (he.2 fun r => q ((nb_lt hxx h0).mpr r)) (ok_t hs))
    | ge => exact lv_if_ge hx rfl hd (jmp_e ho.2) (fun q => go1 G hF hl (st' := st') (he.2 (by have := (nb_le h0 hxx).mp q; omega)) (ok_t hs)) (fun q => go1 G hF hl (st' := st') (he.1 (by have : ¬ 0 ≤ x := fun r => q ((nb_le h0 hxx).mpr r); omega)) (ok_t hs))
    | gt => exact lv_if_gt hx rfl hd (jmp_e ho.2) (fun q => go1 G hF hl (st' := st') (he.1 ((nb_lt h0 hxx).mp q)) (ok_t hs)) (fun q => go1 G hF hl (st' := st') (he.2 fun r => q ((nb_lt h0 hxx).mpr r)) (ok_t hs))
    | le => exact lv_if_le hx rfl hd (jmp_e ho.2) (fun q => go1 G hF hl (st' := st') (he.2 (by have := (nb_le hxx h0).mp q; omega)) (ok_t hs)) (fun q => go1 G hF hl (st' := st') (he.1 (by have : ¬ x ≤ 0 := fun r => q ((nb_le hxx h0).mpr r); omega)) (ok_t hs))
  case if_icmp cc off =>
    unfold okI at ho
    simp only [Bool.and_eq_true] at ho
    obtain rfl := lenK ho.1
    obtain ⟨x, y, st', rfl, he⟩ := o2_e he
    have hy : r32 y := ok_h hs
    have hxx : r32 x := ok_h (ok_t hs)
    have ht := ok_t (ok_t hs)
    cases cc with
    | eq => exact lv_icmp_eq hx rfl hd (jmp_e ho.2) (fun q => go1 G hF hl (st' := st') (he.1 ((nb_inj hxx hy).mp q)) ht) (fun q => go1 G hF hl (st' := st') (he.2 fun r => q ((nb_inj hxx hy).mpr r)) ht)
    | ne => exact lv_icmp_ne hx rfl hd (jmp_e ho.2) (fun q => go1 G hF hl (st' := st') (he.2 fun r => q ((nb_inj hxx hy).mpr r)) ht) (fun q => go1 G hF hl (st' := st') (he.1 ((nb_inj hxx hy).mp q)) ht)
    | lt => exact lv_icmp_lt hx rfl hd (jmp_e ho.2) (fun q => go1 G hF hl (st' := st') (he.1 ((nb_lt hxx hy).mp q)) ht) (fun q => go1 G hF hl (st' := st') (he.2 fun r => q ((nb_lt hxx hy).mpr r)) ht)
    | ge => exact lv_icmp_ge hx rfl hd (jmp_e ho.2) (fun q => go1 G hF hl (st' := st') (he.2 (by have := (nb_le hy hxx).mp q; omega)) ht) (fun q => go1 G hF hl (st' := st') (he.1 (by have : ¬ y ≤ x := fun r => q ((nb_le hy hxx).mpr r); omega)) ht)
    | gt => exact lv_icmp_gt hx rfl hd (jmp_e ho.2) (fun q => go1 G hF hl (st' := st') (he.1 ((nb_lt hy hxx).mp q)) ht) (fun q => go1 G hF hl (st' := st') (he.2 fun r => q ((nb_lt hy hxx).mpr r)) ht)
    | le => exact lv_icmp_le hx rfl hd (jmp_e ho.2) (fun q => go1 G hF hl (st' := st') (he.2 (by have := (nb_le hxx hy).mp q; omega)) ht) (fun q => go1 G hF hl (st' := st') (he.1 (by have : ¬ x ≤ y := fun r => q ((nb_le hxx hy).mpr r); omega)) ht)
  case tableswitch d lo hi offs =>
    unfold okI at ho
    simp only [Bool.and_eq_true] at ho
    obtain ⟨⟨h1, h2⟩, h3⟩ := ho
    have h3 := of_decide_eq_true h3
    obtain ⟨x, st', rfl, he⟩ := o1_e he
    have hxx : r32 x := ok_h hs
    rcases sw1_e he with ⟨q1, q2⟩ | ⟨q1, q2, o, q3, q4⟩
    · exact lv_tableOut hx rfl hd (by rw [nb_id hxx]; omega) (jmp_e h1) (go1 G hF hl (st' := st') q2 (ok_t hs))
    · refine lv_tableIn hx rfl hd (by rw [nb_id hxx]; omega) (by rw [nb_id hxx]; omega) (off := o) ?_ (jmp_e (List.all_eq_true.mp h2 o (List.mem_of_getElem? q3))) (go1 G hF hl (st' := st') q4 (ok_t hs))
      rw [nb_id hxx, ← Array.getElem?_toList]
      exact q3
  case lookupswitch d ps =>
    unfold okI at ho
    simp only [Bool.and_eq_true] at ho
    obtain ⟨⟨h1, h2⟩, h3⟩ := ho
    obtain ⟨x, st', rfl, he⟩ := o1_e he
    have hxx : r32 x := ok_h hs
    have hk := sw2_e (k := fun o => k (jmp pc o) ls st' w) (dd := d) (fun h => h) he
    refine lv_lookup hx rfl hd h3 (off := Op.lookupswitch.offset ps.toList d x) (by rw [nb_id hxx]) (jmp_e ?_) (go1 G hF hl (st' := st') hk (ok_t hs))
    rcases lo_mem (x := x) (dd := d) (os := ps.toList) with h | ⟨o, ho, h⟩
    · rw [h]; exact h1
    · rw [h]; exact List.all_eq_true.mp h2 o ho
  case getfield j => obtain rfl := lenK (K := 3) ho; exact sim_get hx hts hown hA hin hF hl hs G hd hsm he
  case putfield j => obtain rfl := lenK (K := 3) ho; exact sim_put hx hts hown hA hin hF hl hs G hd hsm he
  case arraylength => obtain rfl := lenK (K := 1) ho; exact sim_len hx hts hown hA hin hF hl hs G hd he
  case iaload => obtain rfl := lenK (K := 1) ho; exact sim_iald hx hts hown hA hin hF hl hs G hd he
  case baload => obtain rfl := lenK (K := 1) ho; exact sim_bald hx hts hown hA hin hF hl hs G hd he
  case laload => obtain rfl := lenK (K := 1) ho; exact sim_lald hx hts hown hA hin hF hl hs G hd he
  case iastore => obtain rfl := lenK (K := 1) ho; exact sim_iast hx hts hown hA hin hF hl hs G hd he
  case bastore => obtain rfl := lenK (K := 1) ho; exact sim_bast hx hts hown hA hin hF hl hs G hd he
  case lastore => obtain rfl := lenK (K := 1) ho; exact sim_last hx hts hown hA hin hF hl hs G hd he
  case new j => obtain rfl := lenK (K := 3) ho; exact sim_new hx hts hown hA hin hF hl hs G hd hsm he
  case newarray t => obtain rfl := lenK (K := 2) ho; exact sim_newa hx hts hown hA hin hF hl hs G hd (fun h => hrw h t rfl) he
  all_goals exact False.elim he
end Sim5
