/-! decoding by bytes: what an instruction's bytes are, and that decode reads them back -/
def BA (c : ByteArray) (p b : Nat) : Prop := ∃ h : p < c.size, c[p].toNat = b
theorem dz_u1 {c : ByteArray} {p b : Nat} (h : BA c p b) : (ReaderT.run (Jvm.ClassFile.Reader.u1 : Jvm.ClassFile.Decoder Nat) c).run p = .ok (b, p + 1) := by
  obtain ⟨h, e⟩ := h
  subst e
  show (if h : p < c.size then _ else _ : Jvm.ClassFile.Decoder Nat) c _ = _
  rw [dif_pos h]
  rfl
theorem dz_b {α β : Type} {x : Jvm.ClassFile.Decoder α} {f : α → Jvm.ClassFile.Decoder β} {c : ByteArray} {p p' : Nat} {a : α} (h : (ReaderT.run x c).run p = .ok (a, p')) : (ReaderT.run (x >>= f) c).run p = (ReaderT.run (f a) c).run p' := by
  show Except.bind ((ReaderT.run x c).run p) _ = _
  rw [h]
  rfl
theorem dz_m {α β : Type} {x : Jvm.ClassFile.Decoder α} {f : α → β} {c : ByteArray} {p p' : Nat} {a : α} (h : (ReaderT.run x c).run p = .ok (a, p')) : (ReaderT.run (f <$> x) c).run p = .ok (f a, p') := by
  show Except.bind ((ReaderT.run x c).run p) _ = _
  rw [h]
  rfl
theorem dz_u2 {c : ByteArray} {p a b : Nat} (h : BA c p a) (h1 : BA c (p + 1) b) : (ReaderT.run (Jvm.ClassFile.Reader.u2 : Jvm.ClassFile.Decoder Nat) c).run p = .ok (a * 256 + b, p + 2) :=
  (dz_b (dz_u1 h)).trans (dz_b (dz_u1 h1))
theorem dz_s1 {c : ByteArray} {p b : Nat} (h : BA c p b) : (ReaderT.run (Jvm.ClassFile.Reader.s1 : Jvm.ClassFile.Decoder Int) c).run p = .ok (Jvm.ClassFile.Reader.signed 8 b, p + 1) := dz_m (dz_u1 h)
theorem dz_s2 {c : ByteArray} {p a b : Nat} (h : BA c p a) (h1 : BA c (p + 1) b) : (ReaderT.run (Jvm.ClassFile.Reader.s2 : Jvm.ClassFile.Decoder Int) c).run p = .ok (Jvm.ClassFile.Reader.signed 16 (a * 256 + b), p + 2) := dz_m (dz_u2 h h1)
theorem dz_d {c : ByteArray} {pc n : Nat} {i : Jvm.ClassFile.Instr} (h : (ReaderT.run (Jvm.ClassFile.Decoder.instr pc) c).run pc = .ok (i, pc + n)) : decode c pc = .ok (i, n) := by
  have : decode c pc = Except.bind ((ReaderT.run (Jvm.ClassFile.Decoder.instr pc) c).run pc) (fun r => Except.ok (r.1, r.2 - pc)) := rfl
  rw [this, h]
  show Except.ok (i, pc + n - pc) = _
  rw [Nat.add_sub_cancel_left]
theorem dz_2 {c : ByteArray} {pc : Nat} (h0 : BA c pc 2) : decode c pc = .ok (.iconst (-1), 1) := dz_d ((dz_b (dz_u1 h0)).trans rfl)
theorem dz_3 {c : ByteArray} {pc : Nat} (h0 : BA c pc 3) : decode c pc = .ok (.iconst (0), 1) := dz_d ((dz_b (dz_u1 h0)).trans rfl)
theorem dz_4 {c : ByteArray} {pc : Nat} (h0 : BA c pc 4) : decode c pc = .ok (.iconst (1), 1) := dz_d ((dz_b (dz_u1 h0)).trans rfl)
theorem dz_5 {c : ByteArray} {pc : Nat} (h0 : BA c pc 5) : decode c pc = .ok (.iconst (2), 1) := dz_d ((dz_b (dz_u1 h0)).trans rfl)
theorem dz_6 {c : ByteArray} {pc : Nat} (h0 : BA c pc 6) : decode c pc = .ok (.iconst (3), 1) := dz_d ((dz_b (dz_u1 h0)).trans rfl)
theorem dz_7 {c : ByteArray} {pc : Nat} (h0 : BA c pc 7) : decode c pc = .ok (.iconst (4), 1) := dz_d ((dz_b (dz_u1 h0)).trans rfl)
theorem dz_8 {c : ByteArray} {pc : Nat} (h0 : BA c pc 8) : decode c pc = .ok (.iconst (5), 1) := dz_d ((dz_b (dz_u1 h0)).trans rfl)
theorem dz_9 {c : ByteArray} {pc : Nat} (h0 : BA c pc 9) : decode c pc = .ok (.lconst 0, 1) := dz_d ((dz_b (dz_u1 h0)).trans rfl)
theorem dz_10 {c : ByteArray} {pc : Nat} (h0 : BA c pc 10) : decode c pc = .ok (.lconst 1, 1) := dz_d ((dz_b (dz_u1 h0)).trans rfl)
theorem dz_26 {c : ByteArray} {pc : Nat} (h0 : BA c pc 26) : decode c pc = .ok (.iload_n 0, 1) := dz_d ((dz_b (dz_u1 h0)).trans rfl)
theorem dz_30 {c : ByteArray} {pc : Nat} (h0 : BA c pc 30) : decode c pc = .ok (.lload_n 0, 1) := dz_d ((dz_b (dz_u1 h0)).trans rfl)
theorem dz_42 {c : ByteArray} {pc : Nat} (h0 : BA c pc 42) : decode c pc = .ok (.aload_n 0, 1) := dz_d ((dz_b (dz_u1 h0)).trans rfl)
theorem dz_59 {c : ByteArray} {pc : Nat} (h0 : BA c pc 59) : decode c pc = .ok (.istore_n 0, 1) := dz_d ((dz_b (dz_u1 h0)).trans rfl)
theorem dz_63 {c : ByteArray} {pc : Nat} (h0 : BA c pc 63) : decode c pc = .ok (.lstore_n 0, 1) := dz_d ((dz_b (dz_u1 h0)).trans rfl)
theorem dz_75 {c : ByteArray} {pc : Nat} (h0 : BA c pc 75) : decode c pc = .ok (.astore_n 0, 1) := dz_d ((dz_b (dz_u1 h0)).trans rfl)
theorem dz_27 {c : ByteArray} {pc : Nat} (h0 : BA c pc 27) : decode c pc = .ok (.iload_n 1, 1) := dz_d ((dz_b (dz_u1 h0)).trans rfl)
theorem dz_31 {c : ByteArray} {pc : Nat} (h0 : BA c pc 31) : decode c pc = .ok (.lload_n 1, 1) := dz_d ((dz_b (dz_u1 h0)).trans rfl)
theorem dz_43 {c : ByteArray} {pc : Nat} (h0 : BA c pc 43) : decode c pc = .ok (.aload_n 1, 1) := dz_d ((dz_b (dz_u1 h0)).trans rfl)
theorem dz_60 {c : ByteArray} {pc : Nat} (h0 : BA c pc 60) : decode c pc = .ok (.istore_n 1, 1) := dz_d ((dz_b (dz_u1 h0)).trans rfl)
theorem dz_64 {c : ByteArray} {pc : Nat} (h0 : BA c pc 64) : decode c pc = .ok (.lstore_n 1, 1) := dz_d ((dz_b (dz_u1 h0)).trans rfl)
theorem dz_76 {c : ByteArray} {pc : Nat} (h0 : BA c pc 76) : decode c pc = .ok (.astore_n 1, 1) := dz_d ((dz_b (dz_u1 h0)).trans rfl)
theorem dz_28 {c : ByteArray} {pc : Nat} (h0 : BA c pc 28) : decode c pc = .ok (.iload_n 2, 1) := dz_d ((dz_b (dz_u1 h0)).trans rfl)
theorem dz_32 {c : ByteArray} {pc : Nat} (h0 : BA c pc 32) : decode c pc = .ok (.lload_n 2, 1) := dz_d ((dz_b (dz_u1 h0)).trans rfl)
theorem dz_44 {c : ByteArray} {pc : Nat} (h0 : BA c pc 44) : decode c pc = .ok (.aload_n 2, 1) := dz_d ((dz_b (dz_u1 h0)).trans rfl)
theorem dz_61 {c : ByteArray} {pc : Nat} (h0 : BA c pc 61) : decode c pc = .ok (.istore_n 2, 1) := dz_d ((dz_b (dz_u1 h0)).trans rfl)
theorem dz_65 {c : ByteArray} {pc : Nat} (h0 : BA c pc 65) : decode c pc = .ok (.lstore_n 2, 1) := dz_d ((dz_b (dz_u1 h0)).trans rfl)
theorem dz_77 {c : ByteArray} {pc : Nat} (h0 : BA c pc 77) : decode c pc = .ok (.astore_n 2, 1) := dz_d ((dz_b (dz_u1 h0)).trans rfl)
theorem dz_29 {c : ByteArray} {pc : Nat} (h0 : BA c pc 29) : decode c pc = .ok (.iload_n 3, 1) := dz_d ((dz_b (dz_u1 h0)).trans rfl)
theorem dz_33 {c : ByteArray} {pc : Nat} (h0 : BA c pc 33) : decode c pc = .ok (.lload_n 3, 1) := dz_d ((dz_b (dz_u1 h0)).trans rfl)
theorem dz_45 {c : ByteArray} {pc : Nat} (h0 : BA c pc 45) : decode c pc = .ok (.aload_n 3, 1) := dz_d ((dz_b (dz_u1 h0)).trans rfl)
theorem dz_62 {c : ByteArray} {pc : Nat} (h0 : BA c pc 62) : decode c pc = .ok (.istore_n 3, 1) := dz_d ((dz_b (dz_u1 h0)).trans rfl)
theorem dz_66 {c : ByteArray} {pc : Nat} (h0 : BA c pc 66) : decode c pc = .ok (.lstore_n 3, 1) := dz_d ((dz_b (dz_u1 h0)).trans rfl)
theorem dz_78 {c : ByteArray} {pc : Nat} (h0 : BA c pc 78) : decode c pc = .ok (.astore_n 3, 1) := dz_d ((dz_b (dz_u1 h0)).trans rfl)
theorem dz_46 {c : ByteArray} {pc : Nat} (h0 : BA c pc 46) : decode c pc = .ok (.iaload, 1) := dz_d ((dz_b (dz_u1 h0)).trans rfl)
theorem dz_47 {c : ByteArray} {pc : Nat} (h0 : BA c pc 47) : decode c pc = .ok (.laload, 1) := dz_d ((dz_b (dz_u1 h0)).trans rfl)
theorem dz_51 {c : ByteArray} {pc : Nat} (h0 : BA c pc 51) : decode c pc = .ok (.baload, 1) := dz_d ((dz_b (dz_u1 h0)).trans rfl)
theorem dz_79 {c : ByteArray} {pc : Nat} (h0 : BA c pc 79) : decode c pc = .ok (.iastore, 1) := dz_d ((dz_b (dz_u1 h0)).trans rfl)
theorem dz_80 {c : ByteArray} {pc : Nat} (h0 : BA c pc 80) : decode c pc = .ok (.lastore, 1) := dz_d ((dz_b (dz_u1 h0)).trans rfl)
theorem dz_84 {c : ByteArray} {pc : Nat} (h0 : BA c pc 84) : decode c pc = .ok (.bastore, 1) := dz_d ((dz_b (dz_u1 h0)).trans rfl)
theorem dz_87 {c : ByteArray} {pc : Nat} (h0 : BA c pc 87) : decode c pc = .ok (.pop, 1) := dz_d ((dz_b (dz_u1 h0)).trans rfl)
theorem dz_89 {c : ByteArray} {pc : Nat} (h0 : BA c pc 89) : decode c pc = .ok (.dup, 1) := dz_d ((dz_b (dz_u1 h0)).trans rfl)
theorem dz_92 {c : ByteArray} {pc : Nat} (h0 : BA c pc 92) : decode c pc = .ok (.dup2, 1) := dz_d ((dz_b (dz_u1 h0)).trans rfl)
theorem dz_96 {c : ByteArray} {pc : Nat} (h0 : BA c pc 96) : decode c pc = .ok (.iadd, 1) := dz_d ((dz_b (dz_u1 h0)).trans rfl)
theorem dz_97 {c : ByteArray} {pc : Nat} (h0 : BA c pc 97) : decode c pc = .ok (.ladd, 1) := dz_d ((dz_b (dz_u1 h0)).trans rfl)
theorem dz_100 {c : ByteArray} {pc : Nat} (h0 : BA c pc 100) : decode c pc = .ok (.isub, 1) := dz_d ((dz_b (dz_u1 h0)).trans rfl)
theorem dz_101 {c : ByteArray} {pc : Nat} (h0 : BA c pc 101) : decode c pc = .ok (.lsub, 1) := dz_d ((dz_b (dz_u1 h0)).trans rfl)
theorem dz_104 {c : ByteArray} {pc : Nat} (h0 : BA c pc 104) : decode c pc = .ok (.imul, 1) := dz_d ((dz_b (dz_u1 h0)).trans rfl)
theorem dz_105 {c : ByteArray} {pc : Nat} (h0 : BA c pc 105) : decode c pc = .ok (.lmul, 1) := dz_d ((dz_b (dz_u1 h0)).trans rfl)
theorem dz_108 {c : ByteArray} {pc : Nat} (h0 : BA c pc 108) : decode c pc = .ok (.idiv, 1) := dz_d ((dz_b (dz_u1 h0)).trans rfl)
theorem dz_109 {c : ByteArray} {pc : Nat} (h0 : BA c pc 109) : decode c pc = .ok (.ldiv, 1) := dz_d ((dz_b (dz_u1 h0)).trans rfl)
theorem dz_112 {c : ByteArray} {pc : Nat} (h0 : BA c pc 112) : decode c pc = .ok (.irem, 1) := dz_d ((dz_b (dz_u1 h0)).trans rfl)
theorem dz_116 {c : ByteArray} {pc : Nat} (h0 : BA c pc 116) : decode c pc = .ok (.ineg, 1) := dz_d ((dz_b (dz_u1 h0)).trans rfl)
theorem dz_117 {c : ByteArray} {pc : Nat} (h0 : BA c pc 117) : decode c pc = .ok (.lneg, 1) := dz_d ((dz_b (dz_u1 h0)).trans rfl)
theorem dz_120 {c : ByteArray} {pc : Nat} (h0 : BA c pc 120) : decode c pc = .ok (.ishl, 1) := dz_d ((dz_b (dz_u1 h0)).trans rfl)
theorem dz_121 {c : ByteArray} {pc : Nat} (h0 : BA c pc 121) : decode c pc = .ok (.lshl, 1) := dz_d ((dz_b (dz_u1 h0)).trans rfl)
theorem dz_122 {c : ByteArray} {pc : Nat} (h0 : BA c pc 122) : decode c pc = .ok (.ishr, 1) := dz_d ((dz_b (dz_u1 h0)).trans rfl)
theorem dz_123 {c : ByteArray} {pc : Nat} (h0 : BA c pc 123) : decode c pc = .ok (.lshr, 1) := dz_d ((dz_b (dz_u1 h0)).trans rfl)
theorem dz_126 {c : ByteArray} {pc : Nat} (h0 : BA c pc 126) : decode c pc = .ok (.iand, 1) := dz_d ((dz_b (dz_u1 h0)).trans rfl)
theorem dz_127 {c : ByteArray} {pc : Nat} (h0 : BA c pc 127) : decode c pc = .ok (.land, 1) := dz_d ((dz_b (dz_u1 h0)).trans rfl)
theorem dz_128 {c : ByteArray} {pc : Nat} (h0 : BA c pc 128) : decode c pc = .ok (.ior, 1) := dz_d ((dz_b (dz_u1 h0)).trans rfl)
theorem dz_129 {c : ByteArray} {pc : Nat} (h0 : BA c pc 129) : decode c pc = .ok (.lor, 1) := dz_d ((dz_b (dz_u1 h0)).trans rfl)
theorem dz_130 {c : ByteArray} {pc : Nat} (h0 : BA c pc 130) : decode c pc = .ok (.ixor, 1) := dz_d ((dz_b (dz_u1 h0)).trans rfl)
theorem dz_131 {c : ByteArray} {pc : Nat} (h0 : BA c pc 131) : decode c pc = .ok (.lxor, 1) := dz_d ((dz_b (dz_u1 h0)).trans rfl)
theorem dz_133 {c : ByteArray} {pc : Nat} (h0 : BA c pc 133) : decode c pc = .ok (.i2l, 1) := dz_d ((dz_b (dz_u1 h0)).trans rfl)
theorem dz_136 {c : ByteArray} {pc : Nat} (h0 : BA c pc 136) : decode c pc = .ok (.l2i, 1) := dz_d ((dz_b (dz_u1 h0)).trans rfl)
theorem dz_145 {c : ByteArray} {pc : Nat} (h0 : BA c pc 145) : decode c pc = .ok (.i2b, 1) := dz_d ((dz_b (dz_u1 h0)).trans rfl)
theorem dz_148 {c : ByteArray} {pc : Nat} (h0 : BA c pc 148) : decode c pc = .ok (.lcmp, 1) := dz_d ((dz_b (dz_u1 h0)).trans rfl)
theorem dz_172 {c : ByteArray} {pc : Nat} (h0 : BA c pc 172) : decode c pc = .ok (.ireturn, 1) := dz_d ((dz_b (dz_u1 h0)).trans rfl)
theorem dz_173 {c : ByteArray} {pc : Nat} (h0 : BA c pc 173) : decode c pc = .ok (.lreturn, 1) := dz_d ((dz_b (dz_u1 h0)).trans rfl)
theorem dz_176 {c : ByteArray} {pc : Nat} (h0 : BA c pc 176) : decode c pc = .ok (.areturn, 1) := dz_d ((dz_b (dz_u1 h0)).trans rfl)
theorem dz_177 {c : ByteArray} {pc : Nat} (h0 : BA c pc 177) : decode c pc = .ok (.return_, 1) := dz_d ((dz_b (dz_u1 h0)).trans rfl)
theorem dz_190 {c : ByteArray} {pc : Nat} (h0 : BA c pc 190) : decode c pc = .ok (.arraylength, 1) := dz_d ((dz_b (dz_u1 h0)).trans rfl)
theorem dz_191 {c : ByteArray} {pc : Nat} (h0 : BA c pc 191) : decode c pc = .ok (.athrow, 1) := dz_d ((dz_b (dz_u1 h0)).trans rfl)
theorem dz_18 {c : ByteArray} {pc b : Nat} (h0 : BA c pc 18) (h1 : BA c (pc + 1) b) : decode c pc = .ok (.ldc b, 2) := dz_d ((dz_b (dz_u1 h0)).trans (dz_b (dz_u1 h1)))
theorem dz_21 {c : ByteArray} {pc b : Nat} (h0 : BA c pc 21) (h1 : BA c (pc + 1) b) : decode c pc = .ok (.iload b, 2) := dz_d ((dz_b (dz_u1 h0)).trans (dz_b (dz_u1 h1)))
theorem dz_22 {c : ByteArray} {pc b : Nat} (h0 : BA c pc 22) (h1 : BA c (pc + 1) b) : decode c pc = .ok (.lload b, 2) := dz_d ((dz_b (dz_u1 h0)).trans (dz_b (dz_u1 h1)))
theorem dz_25 {c : ByteArray} {pc b : Nat} (h0 : BA c pc 25) (h1 : BA c (pc + 1) b) : decode c pc = .ok (.aload b, 2) := dz_d ((dz_b (dz_u1 h0)).trans (dz_b (dz_u1 h1)))
theorem dz_54 {c : ByteArray} {pc b : Nat} (h0 : BA c pc 54) (h1 : BA c (pc + 1) b) : decode c pc = .ok (.istore b, 2) := dz_d ((dz_b (dz_u1 h0)).trans (dz_b (dz_u1 h1)))
theorem dz_55 {c : ByteArray} {pc b : Nat} (h0 : BA c pc 55) (h1 : BA c (pc + 1) b) : decode c pc = .ok (.lstore b, 2) := dz_d ((dz_b (dz_u1 h0)).trans (dz_b (dz_u1 h1)))
theorem dz_58 {c : ByteArray} {pc b : Nat} (h0 : BA c pc 58) (h1 : BA c (pc + 1) b) : decode c pc = .ok (.astore b, 2) := dz_d ((dz_b (dz_u1 h0)).trans (dz_b (dz_u1 h1)))
theorem dz_19 {c : ByteArray} {pc a b : Nat} (h0 : BA c pc 19) (h1 : BA c (pc + 1) a) (h2 : BA c (pc + 2) b) : decode c pc = .ok (.ldc_w (a * 256 + b), 3) := dz_d ((dz_b (dz_u1 h0)).trans (dz_b (dz_u2 h1 h2)))
theorem dz_20 {c : ByteArray} {pc a b : Nat} (h0 : BA c pc 20) (h1 : BA c (pc + 1) a) (h2 : BA c (pc + 2) b) : decode c pc = .ok (.ldc2_w (a * 256 + b), 3) := dz_d ((dz_b (dz_u1 h0)).trans (dz_b (dz_u2 h1 h2)))
theorem dz_180 {c : ByteArray} {pc a b : Nat} (h0 : BA c pc 180) (h1 : BA c (pc + 1) a) (h2 : BA c (pc + 2) b) : decode c pc = .ok (.getfield (a * 256 + b), 3) := dz_d ((dz_b (dz_u1 h0)).trans (dz_b (dz_u2 h1 h2)))
theorem dz_181 {c : ByteArray} {pc a b : Nat} (h0 : BA c pc 181) (h1 : BA c (pc + 1) a) (h2 : BA c (pc + 2) b) : decode c pc = .ok (.putfield (a * 256 + b), 3) := dz_d ((dz_b (dz_u1 h0)).trans (dz_b (dz_u2 h1 h2)))
theorem dz_182 {c : ByteArray} {pc a b : Nat} (h0 : BA c pc 182) (h1 : BA c (pc + 1) a) (h2 : BA c (pc + 2) b) : decode c pc = .ok (.invokevirtual (a * 256 + b), 3) := dz_d ((dz_b (dz_u1 h0)).trans (dz_b (dz_u2 h1 h2)))
theorem dz_183 {c : ByteArray} {pc a b : Nat} (h0 : BA c pc 183) (h1 : BA c (pc + 1) a) (h2 : BA c (pc + 2) b) : decode c pc = .ok (.invokespecial (a * 256 + b), 3) := dz_d ((dz_b (dz_u1 h0)).trans (dz_b (dz_u2 h1 h2)))
theorem dz_184 {c : ByteArray} {pc a b : Nat} (h0 : BA c pc 184) (h1 : BA c (pc + 1) a) (h2 : BA c (pc + 2) b) : decode c pc = .ok (.invokestatic (a * 256 + b), 3) := dz_d ((dz_b (dz_u1 h0)).trans (dz_b (dz_u2 h1 h2)))
theorem dz_187 {c : ByteArray} {pc a b : Nat} (h0 : BA c pc 187) (h1 : BA c (pc + 1) a) (h2 : BA c (pc + 2) b) : decode c pc = .ok (.new (a * 256 + b), 3) := dz_d ((dz_b (dz_u1 h0)).trans (dz_b (dz_u2 h1 h2)))
theorem dz_17 {c : ByteArray} {pc a b : Nat} (h0 : BA c pc 17) (h1 : BA c (pc + 1) a) (h2 : BA c (pc + 2) b) : decode c pc = .ok (.sipush (Jvm.ClassFile.Reader.signed 16 (a * 256 + b)), 3) := dz_d ((dz_b (dz_u1 h0)).trans (dz_b (dz_s2 h1 h2)))
theorem dz_167 {c : ByteArray} {pc a b : Nat} (h0 : BA c pc 167) (h1 : BA c (pc + 1) a) (h2 : BA c (pc + 2) b) : decode c pc = .ok (.goto (Jvm.ClassFile.Reader.signed 16 (a * 256 + b)), 3) := dz_d ((dz_b (dz_u1 h0)).trans (dz_b (dz_s2 h1 h2)))
theorem dz_153 {c : ByteArray} {pc a b : Nat} (h0 : BA c pc 153) (h1 : BA c (pc + 1) a) (h2 : BA c (pc + 2) b) : decode c pc = .ok (.ifCond .eq (Jvm.ClassFile.Reader.signed 16 (a * 256 + b)), 3) := dz_d ((dz_b (dz_u1 h0)).trans (dz_b (dz_s2 h1 h2)))
theorem dz_154 {c : ByteArray} {pc a b : Nat} (h0 : BA c pc 154) (h1 : BA c (pc + 1) a) (h2 : BA c (pc + 2) b) : decode c pc = .ok (.ifCond .ne (Jvm.ClassFile.Reader.signed 16 (a * 256 + b)), 3) := dz_d ((dz_b (dz_u1 h0)).trans (dz_b (dz_s2 h1 h2)))
theorem dz_155 {c : ByteArray} {pc a b : Nat} (h0 : BA c pc 155) (h1 : BA c (pc + 1) a) (h2 : BA c (pc + 2) b) : decode c pc = .ok (.ifCond .lt (Jvm.ClassFile.Reader.signed 16 (a * 256 + b)), 3) := dz_d ((dz_b (dz_u1 h0)).trans (dz_b (dz_s2 h1 h2)))
theorem dz_156 {c : ByteArray} {pc a b : Nat} (h0 : BA c pc 156) (h1 : BA c (pc + 1) a) (h2 : BA c (pc + 2) b) : decode c pc = .ok (.ifCond .ge (Jvm.ClassFile.Reader.signed 16 (a * 256 + b)), 3) := dz_d ((dz_b (dz_u1 h0)).trans (dz_b (dz_s2 h1 h2)))
theorem dz_157 {c : ByteArray} {pc a b : Nat} (h0 : BA c pc 157) (h1 : BA c (pc + 1) a) (h2 : BA c (pc + 2) b) : decode c pc = .ok (.ifCond .gt (Jvm.ClassFile.Reader.signed 16 (a * 256 + b)), 3) := dz_d ((dz_b (dz_u1 h0)).trans (dz_b (dz_s2 h1 h2)))
theorem dz_158 {c : ByteArray} {pc a b : Nat} (h0 : BA c pc 158) (h1 : BA c (pc + 1) a) (h2 : BA c (pc + 2) b) : decode c pc = .ok (.ifCond .le (Jvm.ClassFile.Reader.signed 16 (a * 256 + b)), 3) := dz_d ((dz_b (dz_u1 h0)).trans (dz_b (dz_s2 h1 h2)))
theorem dz_159 {c : ByteArray} {pc a b : Nat} (h0 : BA c pc 159) (h1 : BA c (pc + 1) a) (h2 : BA c (pc + 2) b) : decode c pc = .ok (.if_icmp .eq (Jvm.ClassFile.Reader.signed 16 (a * 256 + b)), 3) := dz_d ((dz_b (dz_u1 h0)).trans (dz_b (dz_s2 h1 h2)))
theorem dz_160 {c : ByteArray} {pc a b : Nat} (h0 : BA c pc 160) (h1 : BA c (pc + 1) a) (h2 : BA c (pc + 2) b) : decode c pc = .ok (.if_icmp .ne (Jvm.ClassFile.Reader.signed 16 (a * 256 + b)), 3) := dz_d ((dz_b (dz_u1 h0)).trans (dz_b (dz_s2 h1 h2)))
theorem dz_161 {c : ByteArray} {pc a b : Nat} (h0 : BA c pc 161) (h1 : BA c (pc + 1) a) (h2 : BA c (pc + 2) b) : decode c pc = .ok (.if_icmp .lt (Jvm.ClassFile.Reader.signed 16 (a * 256 + b)), 3) := dz_d ((dz_b (dz_u1 h0)).trans (dz_b (dz_s2 h1 h2)))
theorem dz_162 {c : ByteArray} {pc a b : Nat} (h0 : BA c pc 162) (h1 : BA c (pc + 1) a) (h2 : BA c (pc + 2) b) : decode c pc = .ok (.if_icmp .ge (Jvm.ClassFile.Reader.signed 16 (a * 256 + b)), 3) := dz_d ((dz_b (dz_u1 h0)).trans (dz_b (dz_s2 h1 h2)))
theorem dz_163 {c : ByteArray} {pc a b : Nat} (h0 : BA c pc 163) (h1 : BA c (pc + 1) a) (h2 : BA c (pc + 2) b) : decode c pc = .ok (.if_icmp .gt (Jvm.ClassFile.Reader.signed 16 (a * 256 + b)), 3) := dz_d ((dz_b (dz_u1 h0)).trans (dz_b (dz_s2 h1 h2)))
theorem dz_164 {c : ByteArray} {pc a b : Nat} (h0 : BA c pc 164) (h1 : BA c (pc + 1) a) (h2 : BA c (pc + 2) b) : decode c pc = .ok (.if_icmp .le (Jvm.ClassFile.Reader.signed 16 (a * 256 + b)), 3) := dz_d ((dz_b (dz_u1 h0)).trans (dz_b (dz_s2 h1 h2)))
theorem dz_16 {c : ByteArray} {pc b : Nat} (h0 : BA c pc 16) (h1 : BA c (pc + 1) b) : decode c pc = .ok (.bipush (Jvm.ClassFile.Reader.signed 8 b), 2) := dz_d ((dz_b (dz_u1 h0)).trans (dz_b (dz_s1 h1)))
theorem dz_132 {c : ByteArray} {pc a b : Nat} (h0 : BA c pc 132) (h1 : BA c (pc + 1) a) (h2 : BA c (pc + 2) b) : decode c pc = .ok (.iinc a (Jvm.ClassFile.Reader.signed 8 b), 3) := dz_d ((dz_b (dz_u1 h0)).trans ((dz_b (dz_u1 h1)).trans (dz_b (dz_s1 h2))))
theorem dz_188_4 {c : ByteArray} {pc : Nat} (h0 : BA c pc 188) (h1 : BA c (pc + 1) 4) : decode c pc = .ok (.newarray .boolean, 2) := dz_d ((dz_b (dz_u1 h0)).trans ((dz_b (dz_u1 h1)).trans rfl))
theorem dz_188_8 {c : ByteArray} {pc : Nat} (h0 : BA c pc 188) (h1 : BA c (pc + 1) 8) : decode c pc = .ok (.newarray .byte, 2) := dz_d ((dz_b (dz_u1 h0)).trans ((dz_b (dz_u1 h1)).trans rfl))
theorem dz_188_10 {c : ByteArray} {pc : Nat} (h0 : BA c pc 188) (h1 : BA c (pc + 1) 10) : decode c pc = .ok (.newarray .int, 2) := dz_d ((dz_b (dz_u1 h0)).trans ((dz_b (dz_u1 h1)).trans rfl))
theorem dz_188_11 {c : ByteArray} {pc : Nat} (h0 : BA c pc 188) (h1 : BA c (pc + 1) 11) : decode c pc = .ok (.newarray .long, 2) := dz_d ((dz_b (dz_u1 h0)).trans ((dz_b (dz_u1 h1)).trans rfl))
def b8 (n : Int) : Nat := (n % 256).toNat
def b16 (n : Int) : List Nat := [(n % 65536).toNat / 256, (n % 65536).toNat % 256]
/-- the bytes of an instruction; [] for those that are looked at otherwise -/
def enc : Jvm.ClassFile.Instr → List Nat
  | .iaload => [46]
  | .laload => [47]
  | .baload => [51]
  | .iastore => [79]
  | .lastore => [80]
  | .bastore => [84]
  | .pop => [87]
  | .dup => [89]
  | .dup2 => [92]
  | .iadd => [96]
  | .ladd => [97]
  | .isub => [100]
  | .lsub => [101]
  | .imul => [104]
  | .lmul => [105]
  | .idiv => [108]
  | .ldiv => [109]
  | .irem => [112]
  | .ineg => [116]
  | .lneg => [117]
  | .ishl => [120]
  | .lshl => [121]
  | .ishr => [122]
  | .lshr => [123]
  | .iand => [126]
  | .land => [127]
  | .ior => [128]
  | .lor => [129]
  | .ixor => [130]
  | .lxor => [131]
  | .i2l => [133]
  | .l2i => [136]
  | .i2b => [145]
  | .lcmp => [148]
  | .ireturn => [172]
  | .lreturn => [173]
  | .areturn => [176]
  | .return_ => [177]
  | .arraylength => [190]
  | .athrow => [191]
  | .iconst n => [(n + 3).toNat]
  | .lconst n => [9 + n.val]
  | .iload_n n => [26 + n.val]
  | .lload_n n => [30 + n.val]
  | .aload_n n => [42 + n.val]
  | .istore_n n => [59 + n.val]
  | .lstore_n n => [63 + n.val]
  | .astore_n n => [75 + n.val]
  | .ldc b => [18, b]
  | .iload b => [21, b]
  | .lload b => [22, b]
  | .aload b => [25, b]
  | .istore b => [54, b]
  | .lstore b => [55, b]
  | .astore b => [58, b]
  | .ldc_w b => [19, b / 256, b % 256]
  | .ldc2_w b => [20, b / 256, b % 256]
  | .getfield b => [180, b / 256, b % 256]
  | .putfield b => [181, b / 256, b % 256]
  | .invokevirtual b => [182, b / 256, b % 256]
  | .invokespecial b => [183, b / 256, b % 256]
  | .invokestatic b => [184, b / 256, b % 256]
  | .new b => [187, b / 256, b % 256]
  | .sipush n => 17 :: b16 n
  | .goto n => 167 :: b16 n
  | .ifCond .eq n => 153 :: b16 n
  | .ifCond .ne n => 154 :: b16 n
  | .ifCond .lt n => 155 :: b16 n
  | .ifCond .ge n => 156 :: b16 n
  | .ifCond .gt n => 157 :: b16 n
  | .ifCond .le n => 158 :: b16 n
  | .if_icmp .eq n => 159 :: b16 n
  | .if_icmp .ne n => 160 :: b16 n
  | .if_icmp .lt n => 161 :: b16 n
  | .if_icmp .ge n => 162 :: b16 n
  | .if_icmp .gt n => 163 :: b16 n
  | .if_icmp .le n => 164 :: b16 n
  | .bipush n => [16, b8 n]
  | .iinc a n => [132, a, b8 n]
  | .newarray .boolean => [188, 4]
  | .newarray .byte => [188, 8]
  | .newarray .int => [188, 10]
  | .newarray .long => [188, 11]
  | _ => []
theorem sg8 {n : Int} (h1 : -128 ≤ n) (h2 : n ≤ 127) : Jvm.ClassFile.Reader.signed 8 (b8 n) = n := by
  unfold Jvm.ClassFile.Reader.signed b8
  split <;> omega
theorem sg16 {n : Int} (h1 : -32768 ≤ n) (h2 : n ≤ 32767) : Jvm.ClassFile.Reader.signed 16 ((n % 65536).toNat / 256 * 256 + (n % 65536).toNat % 256) = n := by
  unfold Jvm.ClassFile.Reader.signed
  have : (n % 65536).toNat / 256 * 256 + (n % 65536).toNat % 256 = (n % 65536).toNat := by omega
  rw [this]
  split <;> omega
/-- ranges of the operands that are signed -/
def okS : Jvm.ClassFile.Instr → Bool
  | .bipush n => decide (-128 ≤ n) && decide (n ≤ 127)
  | .iinc _ n => decide (-128 ≤ n) && decide (n ≤ 127)
  | .sipush n => decide (-32768 ≤ n) && decide (n ≤ 32767)
  | .goto n => decide (-32768 ≤ n) && decide (n ≤ 32767)
  | .ifCond _ n => decide (-32768 ≤ n) && decide (n ≤ 32767)
  | .if_icmp _ n => decide (-32768 ≤ n) && decide (n ≤ 32767)
  | .iconst n => decide (-1 ≤ n) && decide (n ≤ 5)
  | _ => true
theorem okS_2 {a b c d : Int} (h : (decide (a ≤ b) && decide (c ≤ d)) = true) : a ≤ b ∧ c ≤ d := by
  rw [Bool.and_eq_true] at h
  exact ⟨of_decide_eq_true h.1, of_decide_eq_true h.2⟩
set_option maxHeartbeats 4000000 in
theorem enc_ok {c : ByteArray} {pc : Nat} (i : Jvm.ClassFile.Instr) (he : enc i ≠ []) (hs : okS i = true) (h : ∀ k b : Nat, (enc i)[k]? = some b → BA c (pc + k) b) : decode c pc = .ok (i, (enc i).length) := by
  cases i with
  | iaload => exact dz_46 (h 0 _ rfl)
  | laload => exact dz_47 (h 0 _ rfl)
  | baload => exact dz_51 (h 0 _ rfl)
  | iastore => exact dz_79 (h 0 _ rfl)
  | lastore => exact dz_80 (h 0 _ rfl)
  | bastore => exact dz_84 (h 0 _ rfl)
  | pop => exact dz_87 (h 0 _ rfl)
  | dup => exact dz_89 (h 0 _ rfl)
  | dup2 => exact dz_92 (h 0 _ rfl)
  | iadd => exact dz_96 (h 0 _ rfl)
  | ladd => exact dz_97 (h 0 _ rfl)
  | isub => exact dz_100 (h 0 _ rfl)
  | lsub => exact dz_101 (h 0 _ rfl)
  | imul => exact dz_104 (h 0 _ rfl)
  | lmul => exact dz_105 (h 0 _ rfl)
  | idiv => exact dz_108 (h 0 _ rfl)
  | ldiv => exact dz_109 (h 0 _ rfl)
  | irem => exact dz_112 (h 0 _ rfl)
  | ineg => exact dz_116 (h 0 _ rfl)
  | lneg => exact dz_117 (h 0 _ rfl)
  | ishl => exact dz_120 (h 0 _ rfl)
  | lshl => exact dz_121 (h 0 _ rfl)
  | ishr => exact dz_122 (h 0 _ rfl)
  | lshr => exact dz_123 (h 0 _ rfl)
  | iand => exact dz_126 (h 0 _ rfl)
  | land => exact dz_127 (h 0 _ rfl)
  | ior => exact dz_128 (h 0 _ rfl)
  | lor => exact dz_129 (h 0 _ rfl)
  | ixor => exact dz_130 (h 0 _ rfl)
  | lxor => exact dz_131 (h 0 _ rfl)
  | i2l => exact dz_133 (h 0 _ rfl)
  | l2i => exact dz_136 (h 0 _ rfl)
  | i2b => exact dz_145 (h 0 _ rfl)
  | lcmp => exact dz_148 (h 0 _ rfl)
  | ireturn => exact dz_172 (h 0 _ rfl)
  | lreturn => exact dz_173 (h 0 _ rfl)
  | areturn => exact dz_176 (h 0 _ rfl)
  | return_ => exact dz_177 (h 0 _ rfl)
  | arraylength => exact dz_190 (h 0 _ rfl)
  | athrow => exact dz_191 (h 0 _ rfl)
  | iconst n =>
    obtain ⟨h1, h2⟩ := okS_2 hs
    have : n = -1 ∨ n = 0 ∨ n = 1 ∨ n = 2 ∨ n = 3 ∨ n = 4 ∨ n = 5 := by omega
    rcases this with rfl | rfl | rfl | rfl | rfl | rfl | rfl
    · exact dz_2 (h 0 _ rfl)
    · exact dz_3 (h 0 _ rfl)
    · exact dz_4 (h 0 _ rfl)
    · exact dz_5 (h 0 _ rfl)
    · exact dz_6 (h 0 _ rfl)
    · exact dz_7 (h 0 _ rfl)
    · exact dz_8 (h 0 _ rfl)
  | lconst n =>
    match n, h with
    | 0, h => exact dz_9 (h 0 _ rfl)
    | 1, h => exact dz_10 (h 0 _ rfl)
  | iload_n n =>
    match n, h with
    | 0, h => exact dz_26 (h 0 _ rfl)
    | 1, h => exact dz_27 (h 0 _ rfl)
    | 2, h => exact dz_28 (h 0 _ rfl)
    | 3, h => exact dz_29 (h 0 _ rfl)
  | lload_n n =>
    match n, h with
    | 0, h => exact dz_30 (h 0 _ rfl)
    | 1, h => exact dz_31 (h 0 _ rfl)
    | 2, h => exact dz_32 (h 0 _ rfl)
    | 3, h => exact dz_33 (h 0 _ rfl)
  | aload_n n =>
    match n, h with
    | 0, h => exact dz_42 (h 0 _ rfl)
    | 1, h => exact dz_43 (h 0 _ rfl)
    | 2, h => exact dz_44 (h 0 _ rfl)
    | 3, h => exact dz_45 (h 0 _ rfl)
  | istore_n n =>
    match n, h with
    | 0, h => exact dz_59 (h 0 _ rfl)
    | 1, h => exact dz_60 (h 0 _ rfl)
    | 2, h => exact dz_61 (h 0 _ rfl)
    | 3, h => exact dz_62 (h 0 _ rfl)
  | lstore_n n =>
    match n, h with
    | 0, h => exact dz_63 (h 0 _ rfl)
    | 1, h => exact dz_64 (h 0 _ rfl)
    | 2, h => exact dz_65 (h 0 _ rfl)
    | 3, h => exact dz_66 (h 0 _ rfl)
  | astore_n n =>
    match n, h with
    | 0, h => exact dz_75 (h 0 _ rfl)
    | 1, h => exact dz_76 (h 0 _ rfl)
    | 2, h => exact dz_77 (h 0 _ rfl)
    | 3, h => exact dz_78 (h 0 _ rfl)
  | ldc b => exact dz_18 (h 0 _ rfl) (h 1 _ rfl)
  | iload b => exact dz_21 (h 0 _ rfl) (h 1 _ rfl)
  | lload b => exact dz_22 (h 0 _ rfl) (h 1 _ rfl)
  | aload b => exact dz_25 (h 0 _ rfl) (h 1 _ rfl)
  | istore b => exact dz_54 (h 0 _ rfl) (h 1 _ rfl)
  | lstore b => exact dz_55 (h 0 _ rfl) (h 1 _ rfl)
  | astore b => exact dz_58 (h 0 _ rfl) (h 1 _ rfl)
  | ldc_w b =>
    have := dz_19 (h 0 _ rfl) (h 1 _ rfl) (h 2 _ rfl)
    rwa [show b / 256 * 256 + b % 256 = b by omega] at this
  | ldc2_w b =>
    have := dz_20 (h 0 _ rfl) (h 1 _ rfl) (h 2 _ rfl)
    rwa [show b / 256 * 256 + b % 256 = b by omega] at this
  | getfield b =>
    have := dz_180 (h 0 _ rfl) (h 1 _ rfl) (h 2 _ rfl)
    rwa [show b / 256 * 256 + b % 256 = b by omega] at this
  | putfield b =>
    have := dz_181 (h 0 _ rfl) (h 1 _ rfl) (h 2 _ rfl)
    rwa [show b / 256 * 256 + b % 256 = b by omega] at this
  | invokevirtual b =>
    have := dz_182 (h 0 _ rfl) (h 1 _ rfl) (h 2 _ rfl)
    rwa [show b / 256 * 256 + b % 256 = b by omega] at this
  | invokespecial b =>
    have := dz_183 (h 0 _ rfl) (h 1 _ rfl) (h 2 _ rfl)
    rwa [show b / 256 * 256 + b % 256 = b by omega] at this
  | invokestatic b =>
    have := dz_184 (h 0 _ rfl) (h 1 _ rfl) (h 2 _ rfl)
    rwa [show b / 256 * 256 + b % 256 = b by omega] at this
  | new b =>
    have := dz_187 (h 0 _ rfl) (h 1 _ rfl) (h 2 _ rfl)
    rwa [show b / 256 * 256 + b % 256 = b by omega] at this
  | bipush n =>
    have := dz_16 (h 0 _ rfl) (h 1 _ rfl)
    rwa [sg8 (okS_2 hs).1 (okS_2 hs).2] at this
  | iinc a n =>
    have := dz_132 (h 0 _ rfl) (h 1 _ rfl) (h 2 _ rfl)
    rwa [sg8 (okS_2 hs).1 (okS_2 hs).2] at this
  | sipush n =>
    have := dz_17 (h 0 _ rfl) (h 1 _ rfl) (h 2 _ rfl)
    rwa [sg16 (okS_2 hs).1 (okS_2 hs).2] at this
  | goto n =>
    have := dz_167 (h 0 _ rfl) (h 1 _ rfl) (h 2 _ rfl)
    rwa [sg16 (okS_2 hs).1 (okS_2 hs).2] at this
  | ifCond cc n =>
    cases cc with
    | eq =>
      have := dz_153 (h 0 _ rfl) (h 1 _ rfl) (h 2 _ rfl)
      rwa [sg16 (okS_2 hs).1 (okS_2 hs).2] at this
    | ne =>
      have := dz_154 (h 0 _ rfl) (h 1 _ rfl) (h 2 _ rfl)
      rwa [sg16 (okS_2 hs).1 (okS_2 hs).2] at this
    | lt =>
      have := dz_155 (h 0 _ rfl) (h 1 _ rfl) (h 2 _ rfl)
      rwa [sg16 (okS_2 hs).1 (okS_2 hs).2] at this
    | ge =>
      have := dz_156 (h 0 _ rfl) (h 1 _ rfl) (h 2 _ rfl)
      rwa [sg16 (okS_2 hs).1 (okS_2 hs).2] at this
    | gt =>
      have := dz_157 (h 0 _ rfl) (h 1 _ rfl) (h 2 _ rfl)
      rwa [sg16 (okS_2 hs).1 (okS_2 hs).2] at this
    | le =>
      have := dz_158 (h 0 _ rfl) (h 1 _ rfl) (h 2 _ rfl)
      rwa [sg16 (okS_2 hs).1 (okS_2 hs).2] at this
  | if_icmp cc n =>
    cases cc with
    | eq =>
      have := dz_159 (h 0 _ rfl) (h 1 _ rfl) (h 2 _ rfl)
      rwa [sg16 (okS_2 hs).1 (okS_2 hs).2] at this
    | ne =>
      have := dz_160 (h 0 _ rfl) (h 1 _ rfl) (h 2 _ rfl)
      rwa [sg16 (okS_2 hs).1 (okS_2 hs).2] at this
    | lt =>
      have := dz_161 (h 0 _ rfl) (h 1 _ rfl) (h 2 _ rfl)
      rwa [sg16 (okS_2 hs).1 (okS_2 hs).2] at this
    | ge =>
      have := dz_162 (h 0 _ rfl) (h 1 _ rfl) (h 2 _ rfl)
      rwa [sg16 (okS_2 hs).1 (okS_2 hs).2] at this
    | gt =>
      have := dz_163 (h 0 _ rfl) (h 1 _ rfl) (h 2 _ rfl)
      rwa [sg16 (okS_2 hs).1 (okS_2 hs).2] at this
    | le =>
      have := dz_164 (h 0 _ rfl) (h 1 _ rfl) (h 2 _ rfl)
      rwa [sg16 (okS_2 hs).1 (okS_2 hs).2] at this
  | newarray t =>
    cases t with
    | boolean => exact dz_188_4 (h 0 _ rfl) (h 1 _ rfl)
    | byte => exact dz_188_8 (h 0 _ rfl) (h 1 _ rfl)
    | int => exact dz_188_10 (h 0 _ rfl) (h 1 _ rfl)
    | long => exact dz_188_11 (h 0 _ rfl) (h 1 _ rfl)
    | _ => exact absurd rfl he
  | _ => exact absurd rfl he
/-- the walk over the bytes: bs are those from pc on -/
def wlk (c : ByteArray) : List Nat → Nat → List Ins → Bool
  | _, _, [] => true
  | bs, pc, (p, i, n) :: t => Nat.beq p pc && (okI p i n && (okS i && (match enc i with
      | [] => decide (decode c pc = .ok (i, n))
      | e => Nat.beq n e.length && (bs.take n == e)) && wlk c (bs.drop n) (pc + n) t))
def chk (c : ByteArray) (l : List Ins) : Bool := wlk c (c.data.toList.map UInt8.toNat) 0 l
theorem wlk_at {c : ByteArray} : ∀ (l : List Ins) (bs : List Nat) (pc0 : Nat), (∀ k b : Nat, bs[k]? = some b → BA c (pc0 + k) b) → wlk c bs pc0 l = true → ∀ {pc : Nat} {i : Jvm.ClassFile.Instr} {n : Nat}, (pc, i, n) ∈ l → okI pc i n = true ∧ decode c pc = .ok (i, n) := by
  intro l
  induction l with
  | nil => intro bs pc0 _ _ pc i n h; cases h
  | cons e t ih =>
    obtain ⟨p, j, m⟩ := e
    intro bs pc0 hb hw pc i n h
    unfold wlk at hw
    simp only [Bool.and_eq_true] at hw
    obtain ⟨h1, h2, ⟨h3, h4⟩, h5⟩ := hw
    have h1 := Nat.eq_of_beq_eq_true h1
    subst h1
    rcases List.mem_cons.mp h with h | h
    · obtain ⟨rfl, rfl, rfl⟩ : pc = p ∧ i = j ∧ n = m := by cases h; exact ⟨rfl, rfl, rfl⟩
      refine ⟨h2, ?_⟩
      cases he : enc i with
      | nil =>
        rw [he] at h4
        exact of_decide_eq_true h4
      | cons a r =>
        rw [he] at h4
        simp only [Bool.and_eq_true] at h4
        have e1 := Nat.eq_of_beq_eq_true h4.1
        have e2 : bs.take n = a :: r := by simpa using h4.2
        have := enc_ok (c := c) (pc := pc) i (by rw [he]; simp) h3 (fun k b hk => hb k b (by
          rw [he, ← e2, List.getElem?_take] at hk
          split at hk
          · exact hk
          · cases hk))
        rwa [he, ← e1] at this
    · exact ih (bs.drop m) (p + m) (fun k b hk => by
        rw [List.getElem?_drop] at hk
        have := hb _ _ hk
        rwa [← Nat.add_assoc] at this) h5 h
theorem chk_at {b : ByteArray} {l : List Ins} (hc : chk b l = true) {pc : Nat} {i : Jvm.ClassFile.Instr} {n : Nat} (h : lk l pc = some (i, n)) : okI pc i n = true ∧ decode b pc = .ok (i, n) := by
  refine wlk_at l _ 0 (fun k x hk => ?_) hc (lk_mem h)
  rw [List.getElem?_map] at hk
  cases hq : b.data.toList[k]? with
  | none => rw [hq] at hk; cases hk
  | some u =>
    rw [hq] at hk
    obtain ⟨hl, hu⟩ := List.getElem?_eq_some_iff.mp hq
    rw [Nat.zero_add]
    refine ⟨hl, ?_⟩
    have e1 : b[k]'hl = u := hu
    rw [e1]
    exact Option.some.inj hk
