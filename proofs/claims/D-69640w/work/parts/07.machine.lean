/-! THE SMALL MACHINE: worlds are numbers by place (Dt) over a structure (Sx: references, kinds and lengths, how many); a step is a Prop over what comes behind it -/
abbrev Dt : Type := Nat → Int → Int
abbrev Sx : Type := (Nat → Nat → Nat) × (Nat → Nat × Nat) × Nat × Nat
abbrev Wd : Type := Dt × Sx
abbrev gr (w : Wd) (a f : Nat) : Nat := w.2.1 a f
abbrev tg (w : Wd) (a : Nat) : Nat := (w.2.2.1 a).1
abbrev ln (w : Wd) (a : Nat) : Nat := (w.2.2.1 a).2
abbrev nx (w : Wd) : Nat := w.2.2.2.1
abbrev us (w : Wd) : Nat := w.2.2.2.2
/-- a number is put at a place -/
def up (D : Dt) (a : Nat) (i v : Int) : Dt := fun a' i' => if a' = a ∧ i' = i then v else D a' i'
/-- a new cell: all 0 -/
def zr (D : Dt) (a : Nat) : Dt := fun a' i' => if a' = a then 0 else D a' i'
def urf (r : Nat → Nat → Nat) (a f v : Nat) : Nat → Nat → Nat := fun a' f' => bif Nat.beq a' a && Nat.beq f' f then v else r a' f'
def zrf (r : Nat → Nat → Nat) (a : Nat) : Nat → Nat → Nat := fun a' f' => bif Nat.beq a' a then 0 else r a' f'
def utg (t : Nat → Nat × Nat) (a : Nat) (v : Nat × Nat) : Nat → Nat × Nat := fun a' => bif Nat.beq a' a then v else t a'
/-- a new cell: kind t, length n, s slots -/
def mkc (w : Wd) (t n s : Nat) : Wd := (zr w.1 w.2.2.2.1, zrf w.2.1 w.2.2.2.1, utg w.2.2.1 w.2.2.2.1 (t, n), w.2.2.2.1 + 1, w.2.2.2.2 + s)
/-- a new row that can grow: its length stands at -1 -/
def mkr (w : Wd) (n : Nat) : Wd := (up (zr w.1 w.2.2.2.1) w.2.2.2.1 (-1) n, zrf w.2.1 w.2.2.2.1, utg w.2.2.1 w.2.2.2.1 (55, 0), w.2.2.2.1 + 1, w.2.2.2.2 + n)
def w32 (x : Int) : Int := (x + 2147483648) % 4294967296 - 2147483648
def w64 (x : Int) : Int := (x + 9223372036854775808) % 18446744073709551616 - 9223372036854775808
def w8 (x : Int) : Int := (x + 128) % 256 - 128
def band (x y : Int) : Int := (BitVec.ofInt 64 x &&& BitVec.ofInt 64 y).toInt
def bor (x y : Int) : Int := (BitVec.ofInt 64 x ||| BitVec.ofInt 64 y).toInt
def bxor (x y : Int) : Int := (BitVec.ofInt 64 x ^^^ BitVec.ofInt 64 y).toInt
def ishl (x y : Int) : Int := w32 (x * 2 ^ (y % 32).toNat)
def ishr (x y : Int) : Int := x / 2 ^ (y % 32).toNat
def lshl (x y : Int) : Int := w64 (x * 2 ^ (y % 64).toNat)
def lshr (x y : Int) : Int := x / 2 ^ (y % 64).toNat
def lcmp (x y : Int) : Int := if y < x then 1 else if x = y then 0 else -1
def ldI (ls : List Vl) (j : Nat) (k : Int → Prop) : Prop := match ls[j]? with
  | some (.inl x) => k x
  | _ => False
/-- a long is there if the slot behind it holds nothing of its own -/
def ldL (ls : List Vl) (j : Nat) (k : Int → Prop) : Prop := match ls[j]? with
  | some (.inr (.inl x)) => (match ls[j + 1]? with
    | some (.inr (.inr (.inr ()))) => k x
    | _ => False)
  | _ => False
def ldA (ls : List Vl) (j : Nat) (k : Nat → Prop) : Prop := match ls[j]? with
  | some (.inr (.inr (.inl x))) => k x
  | _ => False
def o1 (st : List Vl) (k : Int → List Vl → Prop) : Prop := match st with
  | .inl x :: st' => k x st'
  | _ => False
def oL (st : List Vl) (k : Int → List Vl → Prop) : Prop := match st with
  | .inr (.inl x) :: st' => k x st'
  | _ => False
def oA (st : List Vl) (k : Nat → List Vl → Prop) : Prop := match st with
  | .inr (.inr (.inl x)) :: st' => k x st'
  | _ => False
def o2 (st : List Vl) (k : Int → Int → List Vl → Prop) : Prop := o1 st fun y st => o1 st fun x st => k x y st
def oLL (st : List Vl) (k : Int → Int → List Vl → Prop) : Prop := oL st fun y st => oL st fun x st => k x y st
def gd (b : Bool) (k : Prop) : Prop := bif b then k else False
def br (c A B : Prop) : Prop := (c → A) ∧ (¬ c → B)
def sw1 (x v : Int) (d : Prop) (k : Int → Prop) : List Int → Prop
  | [] => d
  | o :: os => (x = v → k o) ∧ (¬ x = v → sw1 x (v + 1) d k os)
def sw2 (x : Int) (d : Prop) (k : Int → Prop) : List (Int × Int) → Prop
  | [] => d
  | o :: os => (x = o.1 → k o.2) ∧ (¬ x = o.1 → sw2 x d k os)
def kArr : Jvm.ClassFile.ArrayType → Nat
  | .int => 50
  | .byte => 52
  | .boolean => 53
  | .long => 54
  | _ => 0
def jmp (pc : Nat) (off : Int) : Nat := ((pc : Int) + off).toNat
/-- the place of an instruction whose new array can grow: the constructors of Ints and Thresholds -/
def isRow (m : Nat) : Bool := Nat.beq m 56 || Nat.beq m 160
def getF (w : Wd) (a f t : Nat) (k : Vl → Prop) : Prop := match t with
  | 1 => k (vl (w.1 a f))
  | 2 => gd (Nat.ble 1 (gr w a f)) (k (vr (gr w a f)))
  | _ => k (vi (w.1 a f))
def putF (w : Wd) (f t : Nat) (lo hi : Nat) (st : List Vl) (k : List Vl → Wd → Prop) : Prop := match t with
  | 0 => o1 st fun v st => oA st fun a st => gd (Nat.ble lo (tg w a) && Nat.ble (tg w a) hi) (k st (up w.1 a f v, w.2))
  | 1 => oL st fun v st => oA st fun a st => gd (Nat.ble lo (tg w a) && Nat.ble (tg w a) hi) (k st (up w.1 a f v, w.2))
  | 2 => oA st fun v st => oA st fun a st => gd (Nat.ble lo (tg w a) && Nat.ble (tg w a) hi) (k st (w.1, urf w.2.1 a f v, w.2.2))
  | _ => o1 st fun v st => oA st fun a st => gd (Nat.ble lo (tg w a) && Nat.ble (tg w a) hi) ((0 ≤ v ∧ v ≤ 1) ∧ k st (up w.1 a f v, w.2))
/-- the length of an array -/
def alen (w : Wd) (a : Nat) : Int := bif Nat.beq (tg w a) 55 then w.1 a (-1) else (ln w a : Int)
/-- room for one more cell of so many slots -/
def roomy (w : Wd) (s : Nat) : Bool := Nat.ble (nx w) 1000 && Nat.ble (us w + s) 1000000
/-- the rows that can grow -/
def rws : List Nat := [55, 57, 60, 62, 64, 66, 68, 70, 72, 74, 76, 78, 84, 86, 94]
def newA (w : Wd) (m n t : Nat) (k : Vl → Wd → Prop) : Prop := gd (roomy w n) (bif isRow m then gd (Nat.ble n 8192 && rws.any (Nat.beq (nx w))) (k (vr (nx w)) (mkr w n)) else k (vr (nx w)) (mkc w t n n))
/-- one instruction that is neither a call nor an end; own: the class, ini: whether in a constructor -/
def exP (m own ini pc len : Nat) (i : Jvm.ClassFile.Instr) (ls st : List Vl) (w : Wd) (k : Nat → List Vl → List Vl → Wd → Prop) : Prop := match i with
  | .iconst n => k (pc + len) ls (vi n :: st) w
  | .bipush n => k (pc + len) ls (vi n :: st) w
  | .sipush n => k (pc + len) ls (vi n :: st) w
  | .lconst n => k (pc + len) ls (vl (n.val : Int) :: st) w
  | .ldc j => (match rlc (own * 1000 + j) with
    | some v => k (pc + len) ls (v :: st) w
    | none => False)
  | .ldc_w j => (match rlc (own * 1000 + j) with
    | some v => k (pc + len) ls (v :: st) w
    | none => False)
  | .ldc2_w j => (match rl2 (own * 1000 + j) with
    | some v => k (pc + len) ls (vl v :: st) w
    | none => False)
  | .iload j => ldI ls j fun x => k (pc + len) ls (vi x :: st) w
  | .iload_n j => ldI ls j.val fun x => k (pc + len) ls (vi x :: st) w
  | .lload j => ldL ls j fun x => k (pc + len) ls (vl x :: st) w
  | .lload_n j => ldL ls j.val fun x => k (pc + len) ls (vl x :: st) w
  | .aload j => ldA ls j fun x => k (pc + len) ls (vr x :: st) w
  | .aload_n j => ldA ls j.val fun x => k (pc + len) ls (vr x :: st) w
  | .istore j => o1 st fun x st => k (pc + len) (ls.set j (vi x)) st w
  | .istore_n j => o1 st fun x st => k (pc + len) (ls.set j.val (vi x)) st w
  | .lstore j => oL st fun x st => k (pc + len) ((ls.set j (vl x)).set (j + 1) vu) st w
  | .lstore_n j => oL st fun x st => k (pc + len) ((ls.set j.val (vl x)).set (j.val + 1) vu) st w
  | .astore j => oA st fun x st => k (pc + len) (ls.set j (vr x)) st w
  | .astore_n j => oA st fun x st => k (pc + len) (ls.set j.val (vr x)) st w
  | .iinc j n => ldI ls j fun x => k (pc + len) (ls.set j (vi (w32 (x + n)))) st w
  | .iadd => o2 st fun x y st => k (pc + len) ls (vi (w32 (x + y)) :: st) w
  | .isub => o2 st fun x y st => k (pc + len) ls (vi (w32 (x - y)) :: st) w
  | .imul => o2 st fun x y st => k (pc + len) ls (vi (w32 (x * y)) :: st) w
  | .idiv => o2 st fun x y st => ¬ y = 0 ∧ k (pc + len) ls (vi (w32 (x.tdiv y)) :: st) w
  | .irem => o2 st fun x y st => ¬ y = 0 ∧ k (pc + len) ls (vi (x.tmod y) :: st) w
  | .ineg => o1 st fun x st => k (pc + len) ls (vi (w32 (-x)) :: st) w
  | .iand => o2 st fun x y st => k (pc + len) ls (vi (band x y) :: st) w
  | .ior => o2 st fun x y st => k (pc + len) ls (vi (bor x y) :: st) w
  | .ixor => o2 st fun x y st => k (pc + len) ls (vi (bxor x y) :: st) w
  | .ishl => o2 st fun x y st => k (pc + len) ls (vi (ishl x y) :: st) w
  | .ishr => o2 st fun x y st => k (pc + len) ls (vi (ishr x y) :: st) w
  | .i2b => o1 st fun x st => k (pc + len) ls (vi (w8 x) :: st) w
  | .i2l => o1 st fun x st => k (pc + len) ls (vl x :: st) w
  | .l2i => oL st fun x st => k (pc + len) ls (vi (w32 x) :: st) w
  | .ladd => oLL st fun x y st => k (pc + len) ls (vl (w64 (x + y)) :: st) w
  | .lsub => oLL st fun x y st => k (pc + len) ls (vl (w64 (x - y)) :: st) w
  | .lmul => oLL st fun x y st => k (pc + len) ls (vl (w64 (x * y)) :: st) w
  | .ldiv => oLL st fun x y st => ¬ y = 0 ∧ k (pc + len) ls (vl (w64 (x.tdiv y)) :: st) w
  | .lneg => oL st fun x st => k (pc + len) ls (vl (w64 (-x)) :: st) w
  | .land => oLL st fun x y st => k (pc + len) ls (vl (band x y) :: st) w
  | .lor => oLL st fun x y st => k (pc + len) ls (vl (bor x y) :: st) w
  | .lxor => oLL st fun x y st => k (pc + len) ls (vl (bxor x y) :: st) w
  | .lshl => o1 st fun y st => oL st fun x st => k (pc + len) ls (vl (lshl x y) :: st) w
  | .lshr => o1 st fun y st => oL st fun x st => k (pc + len) ls (vl (lshr x y) :: st) w
  | .lcmp => oLL st fun x y st => k (pc + len) ls (vi (lcmp x y) :: st) w
  | .dup => (match st with
    | .inl x :: st' => k (pc + len) ls (vi x :: vi x :: st') w
    | .inr (.inr (.inl a)) :: st' => k (pc + len) ls (vr a :: vr a :: st') w
    | _ => False)
  | .dup2 => (match st with
    | .inr (.inl x) :: st' => k (pc + len) ls (vl x :: vl x :: st') w
    | .inl x :: .inl y :: st' => k (pc + len) ls (vi x :: vi y :: vi x :: vi y :: st') w
    | .inl x :: .inr (.inr (.inl a)) :: st' => k (pc + len) ls (vi x :: vr a :: vi x :: vr a :: st') w
    | _ => False)
  | .pop => o1 st fun _ st => k (pc + len) ls st w
  | .goto off => k (jmp pc off) ls st w
  | .ifCond c off => o1 st fun x st => (match c with
    | .eq => br (x = 0) (k (jmp pc off) ls st w) (k (pc + len) ls st w)
    | .ne => br (x = 0) (k (pc + len) ls st w) (k (jmp pc off) ls st w)
    | .lt => br (x < 0) (k (jmp pc off) ls st w) (k (pc + len) ls st w)
    | .ge => br (x < 0) (k (pc + len) ls st w) (k (jmp pc off) ls st w)
    | .gt => br (0 < x) (k (jmp pc off) ls st w) (k (pc + len) ls st w)
    | .le => br (0 < x) (k (pc + len) ls st w) (k (jmp pc off) ls st w))
  | .if_icmp c off => o2 st fun x y st => (match c with
    | .eq => br (x = y) (k (jmp pc off) ls st w) (k (pc + len) ls st w)
    | .ne => br (x = y) (k (pc + len) ls st w) (k (jmp pc off) ls st w)
    | .lt => br (x < y) (k (jmp pc off) ls st w) (k (pc + len) ls st w)
    | .ge => br (x < y) (k (pc + len) ls st w) (k (jmp pc off) ls st w)
    | .gt => br (y < x) (k (jmp pc off) ls st w) (k (pc + len) ls st w)
    | .le => br (y < x) (k (pc + len) ls st w) (k (jmp pc off) ls st w))
  | .tableswitch d lo _ offs => o1 st fun x st => sw1 x lo (k (jmp pc d) ls st w) (fun o => k (jmp pc o) ls st w) offs.toList
  | .lookupswitch d ps => o1 st fun x st => sw2 x (k (jmp pc d) ls st w) (fun o => k (jmp pc o) ls st w) ps.toList
  | .getfield j => (match rfd (own * 1000 + j) with
    | some (lo, hi, f, t, _) => oA st fun a st => gd (Nat.ble lo (tg w a) && Nat.ble (tg w a) hi) (getF w a f t fun v => k (pc + len) ls (v :: st) w)
    | none => False)
  | .putfield j => (match rfd (own * 1000 + j) with
    | some (lo, hi, f, t, fin) => gd (Nat.ble fin ini) (putF w f t lo hi st fun st w => k (pc + len) ls st w)
    | none => False)
  | .arraylength => oA st fun a st => gd (Nat.ble 50 (tg w a) && Nat.ble (tg w a) 55) (k (pc + len) ls (vi (alen w a) :: st) w)
  | .iaload => o1 st fun i st => oA st fun a st => gd (Nat.beq (tg w a) 50 || Nat.beq (tg w a) 51 || Nat.beq (tg w a) 55) ((0 ≤ i ∧ i < alen w a) ∧ k (pc + len) ls (vi (w.1 a i) :: st) w)
  | .baload => o1 st fun i st => oA st fun a st => gd (Nat.beq (tg w a) 52 || Nat.beq (tg w a) 53) ((0 ≤ i ∧ i < (ln w a : Int)) ∧ k (pc + len) ls (vi (w.1 a i) :: st) w)
  | .laload => o1 st fun i st => oA st fun a st => gd (Nat.beq (tg w a) 54) ((0 ≤ i ∧ i < (ln w a : Int)) ∧ k (pc + len) ls (vl (w.1 a i) :: st) w)
  | .iastore => o1 st fun v st => o1 st fun i st => oA st fun a st => gd (Nat.beq (tg w a) 50 || Nat.beq (tg w a) 55) ((0 ≤ i ∧ i < alen w a) ∧ k (pc + len) ls st (up w.1 a i v, w.2))
  | .bastore => o1 st fun v st => o1 st fun i st => oA st fun a st => gd (Nat.beq (tg w a) 52 || Nat.beq (tg w a) 53) ((bif Nat.beq (tg w a) 52 then (-128 ≤ v ∧ v ≤ 127) else (0 ≤ v ∧ v ≤ 1)) ∧ (0 ≤ i ∧ i < (ln w a : Int)) ∧ k (pc + len) ls st (up w.1 a i v, w.2))
  | .lastore => oL st fun v st => o1 st fun i st => oA st fun a st => gd (Nat.beq (tg w a) 54) ((0 ≤ i ∧ i < (ln w a : Int)) ∧ k (pc + len) ls st (up w.1 a i v, w.2))
  | .newarray t => o1 st fun n st => gd (Nat.ble 1 (kArr t)) ((0 ≤ n ∧ n ≤ 100000) ∧ newA w m n.toNat (kArr t) fun v w => k (pc + len) ls (v :: st) w)
  | .new j => (match rnw (own * 1000 + j) with
    | some (c, s) => gd (roomy w s) (k (pc + len) ls (vr (nx w) :: st) (mkc w c 0 s))
    | none => False)
  | _ => False
abbrev Out : Type := List Vl ⊕ Nat
/-- the locals at a method's entry -/
def lcl : List Vl → List Vl
  | [] => []
  | .inr (.inl x) :: t => vl x :: vu :: lcl t
  | v :: t => v :: lcl t
def ent (m : Nat) (as : List Vl) : List Vl := lcl as ++ List.replicate ((inf m).2.1 - (lcl as).length) vu
def wt : List Vl → Nat
  | [] => 0
  | .inr (.inl _) :: t => 2 + wt t
  | _ :: t => 1 + wt t
/-- the library's own methods that are taken as one step: Object's constructor, length and charAt of a String constant -/
def prP (m : Nat) (as : List Vl) (w : Wd) (Q : Out → Wd → Prop) : Prop :=
  bif Nat.beq m 600 then (match as with
    | [.inr (.inr (.inl _))] => Q (.inl []) w
    | _ => False)
  else bif Nat.beq m 601 then (match as with
    | [.inr (.inr (.inl a))] => gd (Nat.ble 2 a && Nat.ble a 38) (Q (.inl [vi ((sbt a).length : Int)]) w)
    | _ => False)
  else bif Nat.beq m 602 then (match as with
    | [.inr (.inr (.inl a)), .inl i] => gd (Nat.ble 2 a && Nat.ble a 38) ((0 ≤ i ∧ i < ((sbt a).length : Int)) ∧ Q (.inl [vi ((sbt a).getD i.toNat 0)]) w)
    | _ => False)
  else False
def pdep (m : Nat) : Nat := bif Nat.ble m 599 then (inf m).2.2.1 else bif Nat.beq m 600 then 1 else bif Nat.beq m 601 then 2 else bif Nat.beq m 602 then 4 else 6
/-- the programs' blocks, that change places at the end of a loading -/
def inb (a : Nat) : Bool := (Nat.ble 171 a && Nat.ble a 222) || (Nat.ble 227 a && Nat.ble a 318)
def sg0 (a : Nat) : Nat := bif Nat.ble 171 a && Nat.ble a 196 then a + 26 else bif Nat.ble 197 a && Nat.ble a 222 then a - 26 else a
def sg1 (a : Nat) : Nat := bif Nat.ble 227 a && Nat.ble a 272 then a + 46 else bif Nat.ble 273 a && Nat.ble a 318 then a - 46 else a
/-- what a call may move: rows that grow; the programs, where one is loaded -/
def stb (w : Wd) (m2 : Nat) (v : Vl) : Bool := match v with
  | .inr (.inr (.inl a)) => !(Nat.beq (tg w a) 55) && !((Nat.beq m2 4 || Nat.beq m2 231) && inb a)
  | _ => true
/-- the only handler: SafeCode.load -/
def thr (m pc : Nat) (k : Nat → Prop) (e : Prop) : Prop := bif Nat.beq m 4 && Nat.ble 17 pc && Nat.ble pc 57 then k 61 else e
/-- a call: the method, its arguments, what stays on the stack -/
def exC (m kd j : Nat) (ls st : List Vl) (w : Wd) (k : Nat → List Vl → List Vl → Prop) : Prop := match rcl ((inf m).1 * 1000 + j) with
  | some (kd', np, m2, lo, hi) => gd (Nat.beq kd' kd && Nat.ble np st.length && Nat.ble (pdep m2 + 1) (inf m).2.2.1 && Nat.ble (wt (st.drop np)) 8 && (Nat.ble 600 m2 || Nat.ble (wt (st.take np)) (inf m2).2.1) && (ls.all (stb w m2) && (st.drop np).all (stb w m2)))
      (match kd, (st.take np).reverse with
        | 0, as => k m2 as (st.drop np)
        | _ + 1, .inr (.inr (.inl a)) :: as => gd (Nat.ble lo (tg w a) && Nat.ble (tg w a) hi) (k m2 (vr a :: as) (st.drop np))
        | _ + 1, _ => False)
  | none => False
/-- an end: what the method answers -/
def exR (m : Nat) (i : Jvm.ClassFile.Instr) (st : List Vl) (k : List Vl → Prop) : Prop := match i with
  | .return_ => (match st with
    | [] => gd (Nat.beq (inf m).2.2.2.1 0) (k [])
    | _ => False)
  | .ireturn => (match st with
    | [.inl x] => bif Nat.beq (inf m).2.2.2.1 1 then k [vi x] else gd (Nat.beq (inf m).2.2.2.1 2) ((0 ≤ x ∧ x ≤ 1) ∧ k [vi x])
    | _ => False)
  | .lreturn => (match st with
    | [.inr (.inl x)] => gd (Nat.beq (inf m).2.2.2.1 3) (k [vl x])
    | _ => False)
  | .areturn => (match st with
    | [.inr (.inr (.inl x))] => gd (Nat.beq (inf m).2.2.2.1 4) (k [vr x])
    | _ => False)
  | _ => False
/-- which kind of instruction: 0 simple, 1 call, 2 end, 3 throw -/
def kin : Jvm.ClassFile.Instr → Nat × Nat × Nat
  | .return_ => (2, 0, 0)
  | .ireturn => (2, 0, 0)
  | .lreturn => (2, 0, 0)
  | .areturn => (2, 0, 0)
  | .athrow => (3, 0, 0)
  | .invokestatic j => (1, 0, j)
  | .invokespecial j => (1, 1, j)
  | .invokevirtual j => (1, 2, j)
  | _ => (0, 0, 0)
/-- a row grows: its new length n, behind what it had zeros -/
def grw (D : Dt) (a : Nat) (n : Int) : Dt := fun a' i' => if a' = a then (if i' = -1 then n else if i' < D a (-1) then D a i' else 0) else D a' i'
/-- the growing of a row, as one step: Ints.add and Thresholds.add -/
def exG (tag : Nat) (ls : List Vl) (w : Wd) (k : Wd → Prop) : Prop := match ls with
  | .inr (.inr (.inl a)) :: _ => gd (Nat.beq (tg w a) tag && Nat.beq (tg w (gr w a 0)) 55 && ls.all (stb w 58)) ((1 ≤ w.1 a 1 ∧ w.1 a 1 ≤ 4096 ∧ w.1 (gr w a 0) (-1) = w.1 a 1 ∧ ∀ a' f', w.2.1 a' f' = gr w a 0 → a' = a ∧ f' = 0) ∧ k (grw w.1 (gr w a 0) (2 * w.1 a 1), w.2))
  | _ => False
/-- the programs change places -/
def swp (sg : Nat → Nat) (w : Wd) (a f1 f2 : Nat) : Wd := (fun a' i' => w.1 (sg a') i', fun a' f' => bif (Nat.beq a' a && (Nat.beq f' f1 || Nat.beq f' f2)) || inb a' then w.2.1 a' f' else sg (w.2.1 a' f'), w.2.2)
def exW (ls : List Vl) (w : Wd) (oa f1 f2 p1 p2 : Nat) (sg : Nat → Nat) (k : List Vl → Wd → Prop) : Prop := match ls with
  | [.inr (.inr (.inl a)), .inl n, _] => gd (Nat.beq a oa && Nat.beq (tg w a) (bif Nat.beq oa 50 then 1 else 16) && (Nat.beq (gr w a f1) p1 && Nat.beq (gr w a f2) p2)) ((∀ b, inb b = true → w.2.2.1 (sg b) = w.2.2.1 b ∧ ∀ f, w.2.1 (sg b) f = sg (w.2.1 b f)) ∧ k [vr a, vi n, vu] (swp sg w a f1 f2))
  | _ => False
/-- the making of the exception: Fault's constructor -/
def exN (ls : List Vl) (w : Wd) (k : Wd → Prop) : Prop := match ls with
  | [.inr (.inr (.inl a))] => gd (Nat.beq (tg w a) 2 && roomy w 6) (k ((mkc w 18 0 6).1, urf (mkc w 18 0 6).2.1 a 0 (nx w), (mkc w 18 0 6).2.2))
  | _ => False
/-- the places where a few instructions are one step: 1, 2: a row grows; 3, 4: the programs change places -/
def mac (m pc : Nat) : Nat := bif Nat.beq m 58 && Nat.beq pc 12 then 1 else bif Nat.beq m 162 && Nat.beq pc 58 then 2 else bif Nat.beq m 4 && Nat.beq pc 70 then 3 else bif Nat.beq m 231 && Nat.beq pc 28 then 4 else bif Nat.beq m 26 && Nat.beq pc 4 then 5 else 0
abbrev Kt : Type := Nat → Nat → List Vl → List Vl → Wd → (Out → Wd → Prop) → Prop
/-- behind a call -/
def aft (K : Kt) (m pc : Nat) (ls rest : List Vl) (Q : Out → Wd → Prop) (o : Out) (w : Wd) : Prop := match o with
  | .inl r => K m (pc + 3) ls (r ++ rest) w Q
  | .inr x => thr m pc (fun h => K m h ls [vr x] w Q) (Q (.inr x) w)
def cK (K : Kt) (m : Nat) (as : List Vl) (w : Wd) (Q : Out → Wd → Prop) : Prop := bif Nat.ble 600 m then prP m as w Q else K m 0 (ent m as) [] w Q
/-- one step: K2 behind a call and in it, K1 behind what is none -/
def stp (K1 K2 : Kt) : Kt := fun m pc ls st w Q =>
  bif Nat.beq (mac m pc) 0 then
    (match lk (tb m) pc with
    | none => False
    | some (i, len) => (match kin i with
      | (0, _, _) => exP m (inf m).1 (inf m).2.2.2.2 pc len i ls st w fun pc' ls' st' w' => K1 m pc' ls' st' w' Q
      | (1, kd, j) => exC m kd j ls st w fun m2 as rest => cK K2 m2 as w (aft K2 m pc ls rest Q)
      | (2, _, _) => exR m i st fun r => Q (.inl r) w
      | _ => oA st fun x _ => gd (Nat.beq (tg w x) 18) (thr m pc (fun h => K1 m h ls [vr x] w Q) (Q (.inr x) w))))
  else (match st with
    | [] => bif Nat.beq (mac m pc) 1 then exG 4 ls w (fun w' => K1 m 29 ls [] w' Q) else bif Nat.beq (mac m pc) 2 then exG 9 ls w (fun w' => K1 m 75 ls [] w' Q)
      else bif Nat.beq (mac m pc) 3 then exW ls w 50 7 8 171 197 sg0 (fun ls' w' => K1 m 88 ls' [] w' Q) else bif Nat.beq (mac m pc) 4 then exW ls w 226 0 1 227 273 sg1 (fun ls' w' => K1 m 46 ls' [] w' Q) else exN ls w (fun w' => K1 m 15 ls [] w' Q)
    | _ => False)
def wpn : Nat → Kt
  | 0 => fun _ _ _ _ _ _ => False
  | n + 1 => stp (wpn n) (wpn n)
def wp : Kt := fun m pc ls st w Q => ∃ n, wpn n m pc ls st w Q
/-- a call from outside -/
abbrev cl : Nat → List Vl → Wd → (Out → Wd → Prop) → Prop := cK wp
/-- a few steps, till a place among cuts is come to -/
def vc (cuts : List Nat) : Nat → Kt
  | 0 => wp
  | k + 1 => stp (fun m pc ls st w Q => bif cuts.any (Nat.beq pc) then wp m pc ls st w Q else vc cuts k m pc ls st w Q) wp
