/-! THE SMALL MACHINE: values, worlds, and the check of code tables -/
abbrev Ins : Type := Nat × Jvm.ClassFile.Instr × Nat
abbrev Vl : Type := Int ⊕ (Int ⊕ (Nat ⊕ Unit))
abbrev vi (x : Int) : Vl := .inl x
abbrev vl (x : Int) : Vl := .inr (.inl x)
abbrev vr (a : Nat) : Vl := .inr (.inr (.inl a))
abbrev vu : Vl := .inr (.inr (.inr ()))
/-- what an instruction's numbers must be for the rows to take it -/
def okI (pc : Nat) (i : Jvm.ClassFile.Instr) (len : Nat) : Bool := match i with
  | .bipush n => Nat.beq len 2 && (decide (-128 ≤ n) && decide (n ≤ 127))
  | .sipush n => Nat.beq len 3 && (decide (-32768 ≤ n) && decide (n ≤ 32767))
  | .iconst n => Nat.beq len 1 && (decide (-1 ≤ n) && decide (n ≤ 5))
  | .iload _ => Nat.beq len 2
  | .lload _ => Nat.beq len 2
  | .aload _ => Nat.beq len 2
  | .istore _ => Nat.beq len 2
  | .lstore _ => Nat.beq len 2
  | .astore _ => Nat.beq len 2
  | .ldc _ => Nat.beq len 2
  | .newarray _ => Nat.beq len 2
  | .ldc_w _ => Nat.beq len 3
  | .ldc2_w _ => Nat.beq len 3
  | .getfield _ => Nat.beq len 3
  | .putfield _ => Nat.beq len 3
  | .new _ => Nat.beq len 3
  | .invokevirtual _ => Nat.beq len 3
  | .invokespecial _ => Nat.beq len 3
  | .invokestatic _ => Nat.beq len 3
  | .iinc _ n => Nat.beq len 3 && (decide (-128 ≤ n) && decide (n ≤ 127))
  | .goto off => Nat.beq len 3 && decide (0 ≤ (pc : Int) + off)
  | .ifCond _ off => Nat.beq len 3 && decide (0 ≤ (pc : Int) + off)
  | .if_icmp _ off => Nat.beq len 3 && decide (0 ≤ (pc : Int) + off)
  | .tableswitch d lo hi offs => decide (0 ≤ (pc : Int) + d) && (offs.toList.all fun o => decide (0 ≤ (pc : Int) + o)) && decide (hi = lo + offs.toList.length - 1)
  | .lookupswitch d ps => decide (0 ≤ (pc : Int) + d) && (ps.toList.all fun o => decide (0 ≤ (pc : Int) + o.2)) && ((ps.toList.zip (ps.toList.drop 1)).all (fun (a, next) => a.1 < next.1))
  | _ => Nat.beq len 1
/-- the instruction at a place -/
def lk : List Ins → Nat → Option (Jvm.ClassFile.Instr × Nat)
  | [], _ => none
  | (p, i, n) :: t, pc => bif Nat.beq p pc then some (i, n) else lk t pc
theorem lk_mem {l : List Ins} {pc : Nat} {i : Jvm.ClassFile.Instr} {n : Nat} (h : lk l pc = some (i, n)) : (pc, i, n) ∈ l := by
  induction l with
  | nil => cases h
  | cons e t ih =>
    obtain ⟨p, j, k⟩ := e
    unfold lk at h
    cases hb : Nat.beq p pc with
    | true =>
      rw [hb] at h
      have := Nat.eq_of_beq_eq_true hb
      cases h
      subst this
      exact List.mem_cons_self
    | false =>
      rw [hb] at h
      exact List.mem_cons_of_mem _ (ih h)
