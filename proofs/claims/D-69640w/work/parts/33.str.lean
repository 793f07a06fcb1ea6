/-! the library's methods of a String constant -/
set_option maxRecDepth 100000
def SF (A : Nat → Prop) (s : State) (H : Heap) (x v N : Nat) (f : Nat → Value) : Prop := va_O "java/lang/String" x A s H ∧ va_OF "java/lang/String" "coder" "B" (.int 0) x A s H ∧ va_OF "java/lang/String" "value" "[B" (.ref v) x A s H ∧ va_T .byte v N f A s H ∧ va_Z "java/lang/String" "COMPACT_STRINGS" "Z" (.int 1) A s H ∧ va_Zq "jdk/internal/util/Preconditions" "SIOOBE_FORMATTER" "Ljava/util/function/BiFunction;" A s H
/-- an answer, nothing changed -/
abbrev RV (below : List Frame) (args : Array Value) (s : State) (r : Option Value) : State → Prop := MQ below (fun _ _ o t => ∃ v', o = .returned v' ∧ (v' = r ∧ t.heap = s.heap)) args s 0 0 (fun _ => False)
section Str
variable {p : Program} {l : Launch} {e : Env} {R : Room} {s : State} {mid : MethodId} {args : Array Value} {below : List Frame} {meth : Method} {c : Code} {A : Nat → Prop} {x v N : Nat} {f : Nat → Value}
theorem SF.warm {s' : State} {H : Heap} (hv : s.WarmedH s'.vm) (h : SF A s H x v N f) : SF A s' H x v N f := by
  have hvm := hv.alike
  exact ⟨h.1.moved hvm, h.2.1.moved hvm, h.2.2.1.moved hvm, h.2.2.2.1.moved hvm, va_Z.moved hvm h.2.2.2.2.1, va_Zq.moved hvm h.2.2.2.2.2⟩
theorem run_coder (hx : p.tables.exec = Jvm.exec) (hts : ∀ w ∈ lw_all, w.before args s = true) (hS : SF A s s.heap x v N f) (hlk : meth.locks = false) (hown : s.vm.findClass "java/lang/String" = some mid.cls) (hr : meth.sig.returnType = some .byte) (hb : c.code = prog_24_method_152_code) : W p l e R s mid args below meth c s.heap [] 0 0 (RV below args s (some (.int 0))) (F0 mid 0 #[.val (.ref x)] []) := by
  obtain ⟨hO, hC, hV, hT, hZ, hZq⟩ := hS
  refine va_gets hx hb hZ va_S.rf hown (hts _ q1155) (fun _ h => h) (by decide +kernel) ?_
  refine lv_if_eq hx hb (off := 10) (tgt := 13) (by decide +kernel) rfl (fun q => absurd q (by decide)) (fun _ => ?_)
  refine lv_aload_n hx hb (k := 0) (i := 0) (by decide +kernel) rfl rfl ?_
  refine vk_getf hx hb hC va_S.rf hown (hts _ q3161) (fun _ h => h) (by decide +kernel) ?_
  refine lv_goto hx hb (off := 4) (tgt := 14) (by decide +kernel) rfl ?_
  exact W.zret hx hb hr rfl (fun t ht _ => ⟨_, rfl, rfl, ht⟩) (fun q hq => by cases hq) (by decide +kernel) hlk
theorem run_latin (hx : p.tables.exec = Jvm.exec) (hts : ∀ w ∈ lw_all, w.before args s = true) (hS : SF A s s.heap x v N f) (hlk : meth.locks = false) (hown : s.vm.findClass "java/lang/String" = some mid.cls) (hr : meth.sig.returnType = some .boolean) (hb : c.code = prog_24_method_154_code) : W p l e R s mid args below meth c s.heap [] 0 0 (RV below args s (some (.int 1))) (F0 mid 0 #[.val (.ref x)] []) := by
  obtain ⟨hO, hC, hV, hT, hZ, hZq⟩ := hS
  refine va_gets hx hb hZ va_S.rf hown (hts _ q1155) (fun _ h => h) (by decide +kernel) ?_
  refine lv_if_eq hx hb (off := 14) (tgt := 17) (by decide +kernel) rfl (fun q => absurd q (by decide)) (fun _ => ?_)
  refine lv_aload_n hx hb (k := 0) (i := 0) (by decide +kernel) rfl rfl ?_
  refine vk_getf hx hb hC va_S.rf hown (hts _ q3161) (fun _ h => h) (by decide +kernel) ?_
  refine lv_if_ne hx hb (off := 7) (tgt := 17) (by decide +kernel) rfl (fun q => absurd rfl q) (fun _ => ?_)
  refine lv_iconst hx hb (n := 1) (v := 1) (by decide +kernel) rfl ?_
  refine lv_goto hx hb (off := 4) (tgt := 18) (by decide +kernel) rfl ?_
  exact W.zret hx hb hr rfl (fun t ht _ => ⟨_, rfl, rfl, ht⟩) (fun q hq => by cases hq) (by decide +kernel) hlk
theorem run_pre {i n : Int} {fv : Value} (hx : p.tables.exec = Jvm.exec) (hlk : meth.locks = false) (hr : meth.sig.returnType = some .int) (hb : c.code = prog_30_method_11_code) (hi : r32 i) (hn : r32 n) (h0 : 0 ≤ i) (h1 : i < n) : W p l e R s mid args below meth c s.heap [] 0 0 (RV below args s (some (.int (Int32.ofInt i)))) (F0 mid 0 #[.val (.int (Int32.ofInt i)), .val (.int (Int32.ofInt n)), .val fv] []) := by
  refine lv_iload_n hx hb (k := 0) (i := 0) (by decide +kernel) rfl rfl ?_
  refine lv_if_lt hx hb (off := 8) (tgt := 9) (by decide +kernel) rfl (fun q => absurd ((nb_lt hi (show r32 0 by unfold r32; omega)).mp q) (by omega)) (fun _ => ?_)
  refine lv_iload_n hx hb (k := 0) (i := 0) (by decide +kernel) rfl rfl ?_
  refine lv_iload_n hx hb (k := 1) (i := 1) (by decide +kernel) rfl rfl ?_
  refine lv_icmp_lt hx hb (off := 10) (tgt := 16) (by decide +kernel) rfl (fun _ => ?_) (fun q => absurd ((nb_lt hi hn).mpr h1) q)
  refine lv_iload_n hx hb (k := 0) (i := 0) (by decide +kernel) rfl rfl ?_
  exact W.iret hx hb hr (fun t ht _ => ⟨_, rfl, rfl, ht⟩) (fun q hq => by cases hq) (by decide +kernel) hlk
theorem L_nil {L : List Loc} (h : ∀ q ∈ L, False) : L = [] := by
  cases L with
  | nil => rfl
  | cons a t => exact (h a List.mem_cons_self).elim
theorem run_chk {i n : Int} (hx : p.tables.exec = Jvm.exec) (hts : ∀ w ∈ lw_all, w.before args s = true) (hZq : va_Zq "jdk/internal/util/Preconditions" "SIOOBE_FORMATTER" "Ljava/util/function/BiFunction;" A s s.heap) (hlk : meth.locks = false) (hown : s.vm.findClass "java/lang/String" = some mid.cls) (hr : meth.sig.returnType = none) (hb : c.code = prog_24_method_155_code) (hml : c.maxLocals = 2) (hfr : 1 ≤ R.frames) (hlo : 22 ≤ R.locals) (hi : r32 i) (hn : r32 n) (h0 : 0 ≤ i) (h1 : i < n) : W p l e R s mid args below meth c s.heap [] 0 0 (RV below args s none) (F0 mid 0 #[.val (.int (Int32.ofInt i)), .val (.int (Int32.ofInt n))] []) := by
  have key : ∀ fv, va_Z "jdk/internal/util/Preconditions" "SIOOBE_FORMATTER" "Ljava/util/function/BiFunction;" fv A s s.heap → fv.category = 1 → lg_sl [.int (Int32.ofInt i), .int (Int32.ofInt n), fv] = [.val (.int (Int32.ofInt i)), .val (.int (Int32.ofInt n)), .val fv] → W p l e R s mid args below meth c s.heap [] 0 0 (RV below args s none) (F0 mid 0 #[.val (.int (Int32.ofInt i)), .val (.int (Int32.ofInt n))] []) := fun fv hZ hcat hlg => by
    refine lv_iload_n hx hb (k := 0) (i := 0) (by decide +kernel) rfl rfl ?_
    refine lv_iload_n hx hb (k := 1) (i := 1) (by decide +kernel) rfl rfl ?_
    refine va_gets hx hb hZ va_S.rf hown (hts _ q1175) (fun _ h => h) (by decide +kernel) ?_
    refine pcall (ig := .invokestatic 1059) (y := ⟨"jdk/internal/util/Preconditions", "checkIndex", "(IILjava/util/function/BiFunction;)I"⟩) (kc := 0) (ks := 0) (K := 0) (as := [.int (Int32.ofInt i), .int (Int32.ofInt n), fv]) (rest := []) (P := fun v' H' => v' = some (.int (Int32.ofInt i)) ∧ H' = s.heap) (B := fun _ => False) hts q1179 (by decide +kernel) (by rw [hml]; rfl) (by rw [hb]; decide +kernel) (fun T hT X => into_S X hx hown (hts _ q1177) (hts _ q1178) (hts _ q273) (hts _ q1179) ⟨by decide, by decide⟩ rfl (argsL := [.int (Int32.ofInt i), .int (Int32.ofInt n), fv]) (n := 3) rfl (by decide +kernel) rfl (by rw [hb]; show decode prog_24_method_155_code 5 = _; decide +kernel)) hfr (by
      show 0 + 0 + (3 + 11) + 0 ≤ R.locals
      omega) (Nat.zero_le _) (Nat.zero_le _) (fun s' mk methk ck below' hv hh hts' hown' hr' hlk' hb' hml' => ?_) (fun v' H' L hP hL => ?_)
    · rw [hlg, ← hh]
      exact run_pre hx hlk' hr' hb' hi hn h0 h1
    · obtain ⟨rfl, rfl⟩ := hP
      obtain rfl := L_nil hL
      refine lv_pop hx hb (va := .int (Int32.ofInt i)) (by decide +kernel) rfl ?_
      exact W.vret hx hb hr (fun t ht _ => ⟨none, rfl, rfl, ht⟩) (fun q hq => by cases hq) (by decide +kernel) hlk
  rcases hZq with h | ⟨t, h⟩
  · exact key _ h rfl rfl
  · exact key _ h rfl rfl
theorem asc_all : ∀ b : Nat, b < 128 → Int32.ofInt (b : Int) &&& 255 = Int32.ofInt (b : Int) ∧ ((Int32.ofInt (b : Int)).toUInt32 % 65536).toInt32 = Int32.ofInt (b : Int) ∧ narrow .char (.int (Int32.ofInt (b : Int))) = .int (Int32.ofInt (b : Int)) := by decide +kernel
theorem asc {b : Int} (h0 : 0 ≤ b) (h1 : b ≤ 127) : Int32.ofInt b &&& 255 = Int32.ofInt b ∧ ((Int32.ofInt b).toUInt32 % 65536).toInt32 = Int32.ofInt b ∧ narrow .char (.int (Int32.ofInt b)) = .int (Int32.ofInt b) := by
  have := asc_all b.toNat (by omega)
  rwa [Int.toNat_of_nonneg h0] at this
theorem run_lat {i b : Int} (hx : p.tables.exec = Jvm.exec) (hts : ∀ w ∈ lw_all, w.before args s = true) (hS : SF A s s.heap x v N f) (hlk : meth.locks = false) (hown : s.vm.findClass "java/lang/StringLatin1" = some mid.cls) (hr : meth.sig.returnType = some .char) (hb : c.code = prog_25_method_2_code) (hml : c.maxLocals = 2) (hfr : 2 ≤ R.frames) (hlo : 43 ≤ R.locals) (hN : N ≤ 100000) (h0 : 0 ≤ i) (h1 : i < N) (hf : f i.toNat = .int (Int32.ofInt b)) (hb0 : 0 ≤ b) (hb1 : b ≤ 127) : W p l e R s mid args below meth c s.heap [] 0 0 (RV below args s (some (.int (Int32.ofInt b)))) (F0 mid 0 #[.val (.ref v), .val (.int (Int32.ofInt i))] []) := by
  obtain ⟨hO, hC, hV, hT, hZ, hZq⟩ := hS
  have hi : r32 i := by unfold r32; omega
  have hn : r32 (N : Int) := by unfold r32; omega
  refine lv_iload_n hx hb (k := 1) (i := 1) (by decide +kernel) rfl rfl ?_
  refine lv_aload_n hx hb (k := 0) (i := 0) (by decide +kernel) rfl rfl ?_
  refine va_tlen hx hb hT va_S.rf (bv_len hN) (by decide +kernel) ?_
  refine pcall (ig := .invokestatic 9) (y := ⟨"java/lang/String", "checkIndex", "(II)V"⟩) (kc := 0) (ks := 0) (K := 22) (as := [.int (Int32.ofInt i), .int (Int32.ofInt N)]) (rest := []) (P := fun v' H' => v' = none ∧ H' = s.heap) (B := fun _ => False) hts q1174 (by decide +kernel) (by rw [hml]; rfl) (by rw [hb]; decide +kernel) (fun T hT X => into_S X hx hown (hts _ q1172) (hts _ q1173) (hts _ q271) (hts _ q1174) ⟨by decide, by decide⟩ rfl (argsL := [.int (Int32.ofInt i), .int (Int32.ofInt N)]) (n := 2) rfl (by decide +kernel) rfl (by rw [hb]; show decode prog_25_method_2_code 3 = _; decide +kernel)) (by omega) (by
    show 0 + 0 + (2 + 11) + 22 ≤ R.locals
    omega) (Nat.zero_le _) (Nat.zero_le _) (fun s' mk methk ck below' hv hh hts' hown' hr' hlk' hb' hml' => ?_) (fun v' H' L hP hL => ?_)
  · rw [← hh]
    exact run_chk (A := A) hx hts' (by rw [hh]; exact va_Zq.moved hv.alike hZq) hlk' hown' hr' hb' hml' (by show 1 ≤ R.frames - 1; omega) (Nat.le_refl _) hi hn h0 h1
  · obtain ⟨rfl, rfl⟩ := hP
    obtain rfl := L_nil hL
    refine lv_aload_n hx hb (k := 0) (i := 0) (by decide +kernel) rfl rfl ?_
    refine lv_iload_n hx hb (k := 1) (i := 1) (by decide +kernel) rfl rfl ?_
    refine va_tb hx hb hT va_S.rf (nb_in hi h0 h1) (v := .int (Int32.ofInt b)) (by rw [nb_clamp hi]; exact hf) (by decide +kernel) ?_
    refine lv_sipush hx hb (n := 255) (v := 255) (by decide +kernel) (by decide) ?_
    refine lv_iand hx hb (by decide +kernel) ?_
    rw [(asc hb0 hb1).1]
    refine lv_i2c hx hb (v := Int32.ofInt b) (by decide +kernel) (asc hb0 hb1).2.1 ?_
    exact W.zret hx hb hr (asc hb0 hb1).2.2 (fun t ht _ => ⟨_, rfl, rfl, ht⟩) (fun q hq => by cases hq) (by decide +kernel) hlk
theorem run_charAt {i b : Int} (hx : p.tables.exec = Jvm.exec) (hts : ∀ w ∈ lw_all, w.before args s = true) (hS : SF A s s.heap x v N f) (hlk : meth.locks = false) (hown : s.vm.findClass "java/lang/String" = some mid.cls) (hr : meth.sig.returnType = some .char) (hb : c.code = prog_24_method_56_code) (hml : c.maxLocals = 2) (hfr : 3 ≤ R.frames) (hlo : 64 ≤ R.locals) (hN : N ≤ 100000) (h0 : 0 ≤ i) (h1 : i < N) (hf : f i.toNat = .int (Int32.ofInt b)) (hb0 : 0 ≤ b) (hb1 : b ≤ 127) : W p l e R s mid args below meth c s.heap [] 0 0 (RV below args s (some (.int (Int32.ofInt b)))) (F0 mid 0 #[.val (.ref x), .val (.int (Int32.ofInt i))] []) := by
  have hS' := hS
  obtain ⟨hO, hC, hV, hT, hZ, hZq⟩ := hS
  obtain ⟨cell, o1, o2, o3, -⟩ := hO
  refine lv_aload_n hx hb (k := 0) (i := 0) (by decide +kernel) rfl rfl ?_
  refine pcall (ig := .invokevirtual 492) (y := ⟨"java/lang/String", "isLatin1", "()Z"⟩) (kc := 0) (ks := 0) (K := 0) (as := [.ref x]) (rest := []) (P := fun v' H' => v' = some (.int 1) ∧ H' = s.heap) (B := fun _ => False) hts q1168 (by decide +kernel) (by rw [hml]; rfl) (by rw [hb]; decide +kernel) (fun T hT X => into_V X hx (C := "java/lang/String") hown (hts _ q1165) (hts _ q1166) (hts _ q1167) (hts _ q1168) ⟨by decide, by decide⟩ (by rw [hT]; exact o1) o2 o3 rfl (argsL := []) (n := 0) rfl (by decide +kernel) rfl (by rw [hb]; show decode prog_24_method_56_code 1 = _; decide +kernel)) (by omega) (by
    show 0 + 0 + (1 + 11) + 0 ≤ R.locals
    omega) (Nat.zero_le _) (Nat.zero_le _) (fun s' mk methk ck below' hv hh hts' hown' hr' hlk' hb' hml' => ?_) (fun v' H' L hP hL => ?_)
  · rw [← hh]
    exact run_latin (A := A) (v := v) (N := N) (f := f) hx hts' (by rw [hh]; exact hS'.warm hv) hlk' hown' hr' hb'
  · obtain ⟨rfl, rfl⟩ := hP
    obtain rfl := L_nil hL
    refine lv_if_eq hx hb (x := 1) (off := 12) (tgt := 16) (by decide +kernel) rfl (fun q => absurd q (by decide)) (fun _ => ?_)
    refine lv_aload_n hx hb (k := 0) (i := 0) (by decide +kernel) rfl rfl ?_
    refine vk_getf hx hb hV va_S.rf hown (hts _ q3160) (fun _ h => h) (by decide +kernel) ?_
    refine lv_iload_n hx hb (k := 1) (i := 1) (by decide +kernel) rfl rfl ?_
    refine pcall (ig := .invokestatic 495) (y := ⟨"java/lang/StringLatin1", "charAt", "([BI)C"⟩) (kc := 0) (ks := 0) (K := 43) (as := [.ref v, .int (Int32.ofInt i)]) (rest := []) (P := fun v' H' => v' = some (.int (Int32.ofInt b)) ∧ H' = s.heap) (B := fun _ => False) hts q1171 (by decide +kernel) (by rw [hml]; rfl) (by rw [hb]; decide +kernel) (fun T hT X => into_S X hx hown (hts _ q1169) (hts _ q1170) (hts _ q272) (hts _ q1171) ⟨by decide, by decide⟩ rfl (argsL := [.ref v, .int (Int32.ofInt i)]) (n := 2) rfl (by decide +kernel) rfl (by rw [hb]; show decode prog_24_method_56_code 12 = _; decide +kernel)) (by omega) (by
      show 0 + 0 + (2 + 11) + 43 ≤ R.locals
      omega) (Nat.zero_le _) (Nat.zero_le _) (fun s' mk methk ck below' hv hh hts' hown' hr' hlk' hb' hml' => ?_) (fun v' H' L hP hL => ?_)
    · rw [← hh]
      exact run_lat (A := A) (x := x) hx hts' (by rw [hh]; exact hS'.warm hv) hlk' hown' hr' hb' hml' (by show 2 ≤ R.frames - 1; omega) (Nat.le_refl _) hN h0 h1 hf hb0 hb1
    · obtain ⟨rfl, rfl⟩ := hP
      obtain rfl := L_nil hL
      exact W.zret hx hb hr (asc hb0 hb1).2.2 (fun t ht _ => ⟨_, rfl, rfl, ht⟩) (fun q hq => by cases hq) (by decide +kernel) hlk
theorem run_length (hx : p.tables.exec = Jvm.exec) (hts : ∀ w ∈ lw_all, w.before args s = true) (hS : SF A s s.heap x v N f) (hlk : meth.locks = false) (hown : s.vm.findClass "java/lang/String" = some mid.cls) (hr : meth.sig.returnType = some .int) (hb : c.code = prog_24_method_54_code) (hml : c.maxLocals = 1) (hfr : 1 ≤ R.frames) (hlo : 20 ≤ R.locals) (hN : N ≤ 100000) : W p l e R s mid args below meth c s.heap [] 0 0 (RV below args s (some (.int (Int32.ofInt N)))) (F0 mid 0 #[.val (.ref x)] []) := by
  have hS' := hS
  obtain ⟨hO, hC, hV, hT, hZ, hZq⟩ := hS
  obtain ⟨cell, o1, o2, o3, -⟩ := hO
  have hn : r32 (N : Int) := by unfold r32; omega
  refine lv_aload_n hx hb (k := 0) (i := 0) (by decide +kernel) rfl rfl ?_
  refine vk_getf hx hb hV va_S.rf hown (hts _ q3160) (fun _ h => h) (by decide +kernel) ?_
  refine va_tlen hx hb hT va_S.rf (bv_len hN) (by decide +kernel) ?_
  refine lv_aload_n hx hb (k := 0) (i := 0) (by decide +kernel) rfl rfl ?_
  refine pcall (ig := .invokevirtual 335) (y := ⟨"java/lang/String", "coder", "()B"⟩) (kc := 0) (ks := 0) (K := 0) (as := [.ref x]) (rest := [.int (Int32.ofInt N)]) (P := fun v' H' => v' = some (.int 0) ∧ H' = s.heap) (B := fun _ => False) hts q1154 (by decide +kernel) (by rw [hml]; rfl) (by rw [hb]; decide +kernel) (fun T hT X => into_V X hx (C := "java/lang/String") hown (hts _ q1151) (hts _ q1152) (hts _ q1153) (hts _ q1154) ⟨by decide, by decide⟩ (by rw [hT]; exact o1) o2 o3 rfl (argsL := []) (n := 0) rfl (by decide +kernel) rfl (by rw [hb]; show decode prog_24_method_54_code 6 = _; decide +kernel)) (by omega) (by
    show 0 + 1 + (1 + 11) + 0 ≤ R.locals
    omega) (Nat.zero_le _) (Nat.zero_le _) (fun s' mk methk ck below' hv hh hts' hown' hr' hlk' hb' hml' => ?_) (fun v' H' L hP hL => ?_)
  · rw [← hh]
    exact run_coder (A := A) (v := v) (N := N) (f := f) hx hts' (by rw [hh]; exact hS'.warm hv) hlk' hown' hr' hb'
  · obtain ⟨rfl, rfl⟩ := hP
    obtain rfl := L_nil hL
    refine lv_ishr hx hb (x := Int32.ofInt N) (y := 0) (by decide +kernel) ?_
    have e0 : Int32.ofInt (N : Int) >>> ((0 : Int32) &&& 31) = Int32.ofInt N := by
      have := nb_shr hn 0
      have e1 : ishr (N : Int) 0 = N := by unfold ishr; simp
      rw [e1] at this
      exact this
    rw [e0]
    exact W.iret hx hb hr (fun t ht _ => ⟨_, rfl, rfl, ht⟩) (fun q hq => by cases hq) (by decide +kernel) hlk
end Str
