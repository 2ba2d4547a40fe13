/-! THE ABSTRACT MACHINE: values, memory, one instruction, blocks, the least fixpoint, calls by depth -/
abbrev aI (x : Int) : aV := Sum.inl x
abbrev aL (x : Int) : aV := Sum.inr (Sum.inl x)
abbrev aR (x : Int) : aV := Sum.inr (Sum.inr (Sum.inl x))
abbrev aU : aV := Sum.inr (Sum.inr (Sum.inr ()))
/-- memory with one place set -/
def mS (m : aM) (a i v : Int) : aM := fun b j => if b = a then (if j = i then v else m b j) else m b j
theorem mS_eq (m : aM) (a i v : Int) : mS m a i v a i = v := by simp [mS]
theorem mS_a (m : aM) {a b : Int} (i v j : Int) (h : b ≠ a) : mS m a i v b j = m b j := by simp [mS, h]
theorem mS_i (m : aM) (a : Int) {i j : Int} (v b : Int) (h : j ≠ i) : mS m a i v b j = m b j := by
  unfold mS
  split <;> simp_all
theorem mS_iff (m : aM) (a i v b j : Int) : mS m a i v b j = if b = a ∧ j = i then v else m b j := by
  unfold mS
  by_cases h : b = a
  · by_cases g : j = i <;> simp [h, g]
  · simp [h]
/-- room: cells, slots (the claim's own) -/
abbrev amC : Int := 603072
abbrev amS : Int := 7262314
/-- a new object (tag t, n slots) -/
def mN (m : aM) (t n : Int) : aM := fun b j => if b = m 0 0 + 1 then (if j = -1 then t else 0) else if b = 0 then (if j = 0 then m 0 0 + 1 else if j = 1 then m 0 1 + n else m 0 j) else m b j
/-- a new array (tag t, length n) -/
def mA (m : aM) (t n : Int) : aM := fun b j => if b = m 0 0 + 1 then (if j = -1 then t else if j = -2 then n else 0) else if b = 0 then (if j = 0 then m 0 0 + 1 else if j = 1 then m 0 1 + n else m 0 j) else m b j
/-- the machine makes an exception of tag t: k cells, n slots at the most -/
def mX (m : aM) (t k n : Int) : aM := fun b j => if b = m 0 0 + k then (if j = -1 then t else 0) else if b = 0 then (if j = 0 then m 0 0 + k else if j = 1 then m 0 1 + n else m 0 j) else m b j
def am_at : List aV → Nat → aV
  | [], _ => aU
  | v :: _, 0 => v
  | _ :: l, n + 1 => am_at l n
def am_set : List aV → Nat → aV → List aV
  | [], _, _ => []
  | _ :: l, 0, w => w :: l
  | v :: l, n + 1, w => v :: am_set l n w
def am_ir (x : Int) : Prop := -2147483648 ≤ x ∧ x ≤ 2147483647
/-- a comparison: taken when, not taken when -/
def am_cmp (c : Jvm.ClassFile.Cond) (a b : Int) (t : Nat) (r : List aV) : Option (Prop × Prop × Nat × List aV) := match c with
  | .eq => some (a = b, a ≠ b, t, r)
  | .ne => some (a ≠ b, a = b, t, r)
  | .lt => some (a < b, b ≤ a, t, r)
  | .ge => some (b ≤ a, a < b, t, r)
  | .gt => some (b < a, a ≤ b, t, r)
  | .le => some (a ≤ b, b < a, t, r)
def am_lc (a b : Int) : Int := if a < b then -1 else if a = b then 0 else 1
def am_and (a b : Int) : Int := (Int32.ofInt a &&& Int32.ofInt b).toInt
def am_or (a b : Int) : Int := (Int32.ofInt a ||| Int32.ofInt b).toInt
def am_xor (a b : Int) : Int := (Int32.ofInt a ^^^ Int32.ofInt b).toInt
def am_shl (a b : Int) : Int := (Int32.ofInt a <<< (Int32.ofInt b &&& 31)).toInt
def am_shr (a b : Int) : Int := (Int32.ofInt a >>> (Int32.ofInt b &&& 31)).toInt
def am_ladd (a b : Int) : Int := (Int64.ofInt a + Int64.ofInt b).toInt
def am_lsub (a b : Int) : Int := (Int64.ofInt a - Int64.ofInt b).toInt
def am_lmul (a b : Int) : Int := (Int64.ofInt a * Int64.ofInt b).toInt
def am_ldiv (a b : Int) : Int := (Int64.ofInt a / Int64.ofInt b).toInt
def am_lneg (a : Int) : Int := (-(Int64.ofInt a)).toInt
def am_land (a b : Int) : Int := (Int64.ofInt a &&& Int64.ofInt b).toInt
def am_lor (a b : Int) : Int := (Int64.ofInt a ||| Int64.ofInt b).toInt
def am_lrem (a b : Int) : Int := (Int64.ofInt a - Int64.ofInt a / Int64.ofInt b * Int64.ofInt b).toInt
def am_lshl (a b : Int) : Int := (Int64.ofInt a <<< ((Int32.ofInt b).toInt64 &&& 63)).toInt
def am_lushr (a b : Int) : Int := ((Int64.ofInt a).toUInt64 >>> ((Int32.ofInt b).toInt64.toUInt64 &&& Int64.toUInt64 63)).toInt64.toInt
def am_i2c (a : Int) : Int := ((Int32.ofInt a).toUInt32 % 65536).toInt32.toInt
def am_l2i (a : Int) : Int := (Int64.ofInt a).toInt32.toInt
/-- what a getfield of type z gives -/
def am_mk (z : Nat) (v : Int) : aV := match z with
  | 0 => aI v
  | 1 => aL v
  | _ => aR v
/-- does an object of tag t count as one of class x: Node (12) has the tags 13 .. 17 -/
def am_ok (x t : Int) : Prop := match x with
  | 12 => 13 ≤ t ∧ t ≤ 17
  | 18 => t = 5 ∨ t = 7 ∨ t = 8 ∨ t = 10
  | 19 => t = 8 ∨ t = 10
  | _ => t = x
/-- the receiver: y: a class, or -(the one object) -/
def am_rcv (y a : Int) (m : aM) : Prop := match y with
  | .negSucc n => a = (n : Int) + 1
  | .ofNat k => am_ok k (m a (-1))
/-- the array tag that a load or store asks for -/
def am_ld (n : Nat) (ls st : List aV) (m : aM) : Option (Option Prop × List aV × aM) := match am_at ls n with
  | .inl a => some (none, .inl a :: st, m)
  | _ => none
def am_ldl (n : Nat) (ls st : List aV) (m : aM) : Option (Option Prop × List aV × aM) := match am_at ls n with
  | .inr (.inl a) => some (none, .inr (.inl a) :: st, m)
  | _ => none
def am_lda (n : Nat) (ls st : List aV) (m : aM) : Option (Option Prop × List aV × aM) := match am_at ls n with
  | .inr (.inr (.inl a)) => some (none, .inr (.inr (.inl a)) :: st, m)
  | _ => none
/-- a load of type code w (0 int, 1 long, 2 ref) out of an array with tag t; z: 0 any array, 1 a static one (ref x, length y) -/
def am_xld (t : Int) (w : Nat) (x y : Int) (z : Nat) (st : List aV) (m : aM) : Option (Option Prop × List aV × aM) := match st with
  | .inl i :: .inr (.inr (.inl a)) :: r => (match z with
    | 0 => some (some (m a (-1) = t ∧ 0 ≤ i ∧ i < m a (-2)), am_mk w (m a i) :: r, m)
    | 1 => some (some (a = x ∧ 0 ≤ i ∧ i < y), am_mk w (m x i) :: r, m)
    | _ => none)
  | _ => none
/-- a store; k: 0 any int, 1 only 0 or 1 -/
def am_xst (t : Int) (w : Nat) (x y : Int) (z : Nat) (st : List aV) (m : aM) : Option (Option Prop × List aV × aM) := match st with
  | .inl v :: .inl i :: .inr (.inr (.inl a)) :: r => (match w, z with
    | 0, 0 => some (some (0 < a ∧ m a (-1) = t ∧ 0 ≤ i ∧ i < m a (-2)), r, mS m a i v)
    | 0, 1 => some (some (a = x ∧ 0 ≤ i ∧ i < y), r, mS m x i v)
    | 1, 0 => some (some (0 < a ∧ m a (-1) = t ∧ (v = 0 ∨ v = 1) ∧ 0 ≤ i ∧ i < m a (-2)), r, mS m a i v)
    | 1, 1 => some (some (a = x ∧ (v = 0 ∨ v = 1) ∧ 0 ≤ i ∧ i < y), r, mS m x i v)
    | _, _ => none)
  | .inr (.inl v) :: .inl i :: .inr (.inr (.inl a)) :: r => (match w, z with
    | 2, 0 => some (some (0 < a ∧ m a (-1) = t ∧ 0 ≤ i ∧ i < m a (-2)), r, mS m a i v)
    | 2, 1 => some (some (a = x ∧ 0 ≤ i ∧ i < y), r, mS m x i v)
    | _, _ => none)
  | _ => none
/-- the tag of the arrays over the class x (String 30, Layer 7, Arms 4, Person 11, Node 12) -/
def am_over (x : Int) : Int := match x with
  | 30 => 44
  | 7 => 45
  | 4 => 46
  | 11 => 47
  | 12 => 48
  | _ => -9
/-- instructions that only go on to the next one and leave the locals -/
def am_pst (i : Instr) (x y : Int) (z : Nat) (ls st : List aV) (m : aM) : Option (Option Prop × List aV × aM) := match i with
  | .aconst_null => some (none, aR 0 :: st, m)
  | .aload n => am_lda n ls st m
  | .aload_n n => am_lda n ls st m
  | .iload n => am_ld n ls st m
  | .iload_n n => am_ld n ls st m
  | .lload n => am_ldl n ls st m
  | .lload_n n => am_ldl n ls st m
  | .iconst _ => some (none, aI y :: st, m)
  | .bipush _ => some (none, aI y :: st, m)
  | .sipush _ => some (none, aI y :: st, m)
  | .lconst _ => some (none, aL y :: st, m)
  | .ldc2_w _ => some (none, aL y :: st, m)
  | .ldc _ => (match z with
    | 0 => some (none, aI y :: st, m)
    | _ => some (none, aR y :: st, m))
  | .ldc_w _ => (match z with
    | 0 => some (none, aI y :: st, m)
    | _ => some (none, aR y :: st, m))
  | .getstatic _ => some (none, am_mk z y :: st, m)
  | .dup => (match st with
    | .inl a :: r => some (none, .inl a :: .inl a :: r, m)
    | .inr (.inr (.inl a)) :: r => some (none, .inr (.inr (.inl a)) :: .inr (.inr (.inl a)) :: r, m)
    | _ => none)
  | .dup2 => (match st with
    | .inr (.inl a) :: r => some (none, .inr (.inl a) :: .inr (.inl a) :: r, m)
    | .inl a :: .inr (.inr (.inl b)) :: r => some (none, .inl a :: .inr (.inr (.inl b)) :: .inl a :: .inr (.inr (.inl b)) :: r, m)
    | _ => none)
  | .pop => (match st with
    | .inl _ :: r => some (none, r, m)
    | .inr (.inr (.inl _)) :: r => some (none, r, m)
    | _ => none)
  | .iadd => (match st with
    | .inl b :: .inl a :: r => some (some (-2147483648 ≤ a + b ∧ a + b ≤ 2147483647), aI (a + b) :: r, m)
    | _ => none)
  | .isub => (match st with
    | .inl b :: .inl a :: r => some (some (-2147483648 ≤ a - b ∧ a - b ≤ 2147483647), aI (a - b) :: r, m)
    | _ => none)
  | .imul => (match st with
    | .inl b :: .inl a :: r => some (some (-2147483648 ≤ a * b ∧ a * b ≤ 2147483647), aI (a * b) :: r, m)
    | _ => none)
  | .idiv => (match st with
    | .inl b :: .inl a :: r => some (some (0 < b), aI (a.tdiv b) :: r, m)
    | _ => none)
  | .irem => (match st with
    | .inl b :: .inl a :: r => some (some (0 < b), aI (a.tmod b) :: r, m)
    | _ => none)
  | .ineg => (match st with
    | .inl a :: r => some (some (-2147483648 ≤ -a ∧ -a ≤ 2147483647), aI (-a) :: r, m)
    | _ => none)
  | .iand => (match st with
    | .inl b :: .inl a :: r => some (none, aI (am_and a b) :: r, m)
    | _ => none)
  | .ior => (match st with
    | .inl b :: .inl a :: r => some (none, aI (am_or a b) :: r, m)
    | _ => none)
  | .ixor => (match st with
    | .inl b :: .inl a :: r => some (none, aI (am_xor a b) :: r, m)
    | _ => none)
  | .ishl => (match st with
    | .inl b :: .inl a :: r => some (none, aI (am_shl a b) :: r, m)
    | _ => none)
  | .ishr => (match st with
    | .inl b :: .inl a :: r => some (none, aI (am_shr a b) :: r, m)
    | _ => none)
  | .ladd => (match st with
    | .inr (.inl b) :: .inr (.inl a) :: r => some (none, aL (am_ladd a b) :: r, m)
    | _ => none)
  | .lsub => (match st with
    | .inr (.inl b) :: .inr (.inl a) :: r => some (none, aL (am_lsub a b) :: r, m)
    | _ => none)
  | .lmul => (match st with
    | .inr (.inl b) :: .inr (.inl a) :: r => some (none, aL (am_lmul a b) :: r, m)
    | _ => none)
  | .land => (match st with
    | .inr (.inl b) :: .inr (.inl a) :: r => some (none, aL (am_land a b) :: r, m)
    | _ => none)
  | .lor => (match st with
    | .inr (.inl b) :: .inr (.inl a) :: r => some (none, aL (am_lor a b) :: r, m)
    | _ => none)
  | .lneg => (match st with
    | .inr (.inl a) :: r => some (none, aL (am_lneg a) :: r, m)
    | _ => none)
  | .lshl => (match st with
    | .inl b :: .inr (.inl a) :: r => some (none, aL (am_lshl a b) :: r, m)
    | _ => none)
  | .lushr => (match st with
    | .inl b :: .inr (.inl a) :: r => some (none, aL (am_lushr a b) :: r, m)
    | _ => none)
  | .lcmp => (match st with
    | .inr (.inl b) :: .inr (.inl a) :: r => some (none, aI (am_lc a b) :: r, m)
    | _ => none)
  | .i2l => (match st with
    | .inl a :: r => some (none, aL a :: r, m)
    | _ => none)
  | .l2i => (match st with
    | .inr (.inl a) :: r => some (none, aI (am_l2i a) :: r, m)
    | _ => none)
  | .i2c => (match st with
    | .inl a :: r => some (none, aI (am_i2c a) :: r, m)
    | _ => none)
  | .iaload => (match z with
    | 3 => am_xld 49 0 x y 0 st m
    | _ => am_xld 40 0 x y z st m)
  | .laload => am_xld 41 1 x y z st m
  | .baload => (match z with
    | 2 => (match st with
      | .inl i :: .inr (.inr (.inl a)) :: r => some (some ((1000 ≤ m a (-1) ∧ m a (-1) ≤ 1066) ∧ 0 ≤ i ∧ i < m a (-2)), aI (m a i) :: r, m)
      | _ => none)
    | 3 => am_xld 43 0 x y 1 st m
    | _ => am_xld 42 0 x y z st m)
  | .aaload => (match z with
    | 0 => am_xld (am_over x) 2 x y 0 st m
    | 1 => am_xld 0 2 x y 1 st m
    | _ => none)
  | .iastore => am_xst 40 0 x y z st m
  | .lastore => am_xst 41 2 x y z st m
  | .bastore => am_xst 42 1 x y z st m
  | .aastore => (match st with
    | .inr (.inr (.inl v)) :: .inl i :: .inr (.inr (.inl a)) :: r => (match z with
      | 0 => some (some (0 < a ∧ m a (-1) = am_over x ∧ 0 ≤ i ∧ i < m a (-2) ∧ (v = 0 ∨ (v ≠ 0 ∧ am_ok x (m v (-1))))), r, mS m a i v)
      | w + 1 => some (some (a = x ∧ 0 ≤ i ∧ i < y ∧ (v = 0 ∨ (v ≠ 0 ∧ am_ok w (m v (-1))))), r, mS m x i v))
    | _ => none)
  | .arraylength => (match st with
    | .inr (.inr (.inl a)) :: r => (match z with
      | 0 => some (some ((40 ≤ m a (-1) ∧ m a (-1) ≤ 49) ∨ (1000 ≤ m a (-1) ∧ m a (-1) ≤ 1066)), aI (m a (-2)) :: r, m)
      | _ => some (some (a = x), aI y :: r, m))
    | _ => none)
  | .getfield _ => (match st with
    | .inr (.inr (.inl a)) :: r => (match z with
      | 0 => some (some (am_ok x (m a (-1))), aI (m a y) :: r, m)
      | 1 => some (some (am_ok x (m a (-1))), aL (m a y) :: r, m)
      | 2 => some (some (am_ok x (m a (-1))), aR (m a y) :: r, m)
      | 3 => some (some (a = x), aI (m x y) :: r, m)
      | 4 => some (some (a = x), aL (m x y) :: r, m)
      | 5 => some (some (a = x), aR (m x y) :: r, m)
      | 6 => some (some (a = x), aR y :: r, m)
      | _ => none)
    | _ => none)
  | .putfield _ => (match st with
    | .inl v :: .inr (.inr (.inl a)) :: r => (match z with
      | 0 => some (some (0 < a ∧ am_ok x (m a (-1))), r, mS m a y v)
      | 3 => some (some (0 < a ∧ am_ok x (m a (-1)) ∧ (v = 0 ∨ v = 1)), r, mS m a y v)
      | 4 => some (some (a = x), r, mS m x y v)
      | 7 => some (some (a = x ∧ (v = 0 ∨ v = 1)), r, mS m x y v)
      | _ => none)
    | .inr (.inl v) :: .inr (.inr (.inl a)) :: r => (match z with
      | 1 => some (some (0 < a ∧ am_ok x (m a (-1))), r, mS m a y v)
      | 5 => some (some (a = x), r, mS m x y v)
      | _ => none)
    | .inr (.inr (.inl v)) :: .inr (.inr (.inl a)) :: r => (match z with
      | 2 => some (some (0 < a ∧ am_ok x (m a (-1))), r, mS m a y v)
      | 6 => some (some (a = x), r, mS m x y v)
      | 8 => some (some (0 < a ∧ m a (-1) = x ∧ m 0 2 ≠ 1), r, mS m a y v)
      | 9 => some (some (0 < a ∧ m a (-1) = x ∧ m 0 3 ≠ 1), r, mS m a y v)
      | _ => none)
    | _ => none)
  | .new _ => some (some (m 0 0 + 1 ≤ amC ∧ m 0 1 + y ≤ amS), aR (m 0 0 + 1) :: st, mN m x y)
  | .newarray _ => (match st with
    | .inl n :: r => some (some (0 ≤ n ∧ n ≤ 1000000 ∧ m 0 0 + 1 ≤ amC ∧ m 0 1 + n ≤ amS), aR (m 0 0 + 1) :: r, mA m x n)
    | _ => none)
  | .anewarray _ => (match st with
    | .inl n :: r => some (some (0 ≤ n ∧ n ≤ 1000000 ∧ m 0 0 + 1 ≤ amC ∧ m 0 1 + n ≤ amS), aR (m 0 0 + 1) :: r, mA m x n)
    | _ => none)
  | _ => none
/-- is the place below n free of a long that would be cut -/
def am_cut : Nat → List aV → Bool
  | 0, _ => true
  | n + 1, ls => (match am_at ls n with
    | .inr (.inl _) => false
    | _ => true)
/-- stores to locals: an obligation, the new locals, the stack -/
def am_sto (i : Instr) (y : Int) (ls st : List aV) : Option (Option Prop × List aV × List aV) :=
  let s1 := fun (n : Nat) (v : aV) (r : List aV) => bif am_cut n ls && Nat.ble (n + 1) ls.length then some ((none : Option Prop), am_set ls n v, r) else none
  let s2 := fun (n : Nat) (v : aV) (r : List aV) => bif am_cut n ls && Nat.ble (n + 2) ls.length then some ((none : Option Prop), am_set (am_set ls n v) (n + 1) aU, r) else none
  match i with
  | .istore n => (match st with
    | .inl a :: r => s1 n (.inl a) r
    | _ => none)
  | .istore_n n => (match st with
    | .inl a :: r => s1 n (.inl a) r
    | _ => none)
  | .astore n => (match st with
    | .inr (.inr (.inl a)) :: r => s1 n (.inr (.inr (.inl a))) r
    | _ => none)
  | .astore_n n => (match st with
    | .inr (.inr (.inl a)) :: r => s1 n (.inr (.inr (.inl a))) r
    | _ => none)
  | .lstore n => (match st with
    | .inr (.inl a) :: r => s2 n (.inr (.inl a)) r
    | _ => none)
  | .lstore_n n => (match st with
    | .inr (.inl a) :: r => s2 n (.inr (.inl a)) r
    | _ => none)
  | .iinc n _ => (match am_at ls n with
    | .inl a => bif am_cut n ls && Nat.ble (n + 1) ls.length then some (some (-2147483648 ≤ a + y ∧ a + y ≤ 2147483647), am_set ls n (.inl (a + y)), st) else none
    | _ => none)
  | _ => none
/-- conditional branches: taken when, not taken when, where to, the stack -/
def am_brn (i : Instr) (pc : Nat) (st : List aV) : Option (Prop × Prop × Nat × List aV) := match i with
  | .ifCond c o => (match st with
    | .inl a :: r => am_cmp c a 0 ((pc : Int) + o).toNat r
    | _ => none)
  | .if_icmp c o => (match st with
    | .inl b :: .inl a :: r => am_cmp c a b ((pc : Int) + o).toNat r
    | _ => none)
  | _ => none
def am_pop : Nat → List aV → List aV → Option (List aV × List aV)
  | 0, acc, st => some (acc, st)
  | n + 1, acc, v :: st => am_pop n (v :: acc) st
  | _ + 1, _, [] => none
/-- the handler that takes an exception of class c thrown at pc -/
def am_hnd : aH → Nat → Int → Option Nat
  | [], _, _ => none
  | (a, b, h, k) :: r, pc, c => bif Nat.ble a pc && Nat.ble (pc + 1) b then (if k = 0 ∨ k = c then some h else am_hnd r pc c) else am_hnd r pc c
def am_exc (hs : aH) (Q : aO → aM → Prop) (jp : Nat → List aV → List aV → aM → Prop) (pc : Nat) (ls : List aV) (c q : Int) (m : aM) : Prop := match am_hnd hs pc c with
  | some h => jp h ls [aR q] m
  | none => Q (.inr (c, q)) m
/-- the machine throws: of class c, k cells (1: NullPointerException, 3: those with a text) -/
def am_vmx (hs : aH) (Q : aO → aM → Prop) (jp : Nat → List aV → List aV → aM → Prop) (pc : Nat) (ls : List aV) (c k : Int) (m : aM) : Prop :=
  (m 0 0 + k ≤ amC ∧ m 0 1 + 1000 ≤ amS) ∧ am_exc hs Q jp pc ls c (m 0 0 + k) (mX m c k 1000)
/-- the methods that are chosen by the receiver's tag: work, tinct, told, tincture -/
def am_dspT (x : Nat) (t : Int) : Nat :=
  if x = 1000 then (t - 12).toNat
  else if x = 1001 then (if t = 5 then 6 else if t = 7 then 7 else 8)
  else if x = 1002 then (if t = 8 then 9 else 10)
  else (if t = 8 then 11 else 12)
/-- which method runs: x below 1000 itself; else by the receiver's tag (the table is 'am_dspT') -/
def am_dsp (x : Nat) (t : Int) : Nat := bif Nat.ble x 999 then x else am_dspT x t
def am_fL : List aV → (List aV → Prop) → Prop
  | [], k => k []
  | v :: l, k => am_fL l (fun r => k (v :: r))
theorem am_fL_eq (l : List aV) : ∀ k : List aV → Prop, am_fL l k = k l := by
  induction l with
  | nil => intro k; rfl
  | cons v l ih => intro k; exact ih _
def am_ret (hs : aH) (Q : aO → aM → Prop) (nx : List aV → List aV → aM → Prop) (jp : Nat → List aV → List aV → aM → Prop) (pc : Nat) (ls r : List aV) : aO → aM → Prop := fun o m => match o with
  | .inl none => nx ls r m
  | .inl (some v) => nx ls (v :: r) m
  | .inr (c, q) => am_exc hs Q jp pc ls c q m
def am_swt (pc : Nat) (a : Int) (J : Nat → Prop) : Int → List Int → Prop
  | _, [] => True
  | k, o :: r => (a = k → J ((pc : Int) + o).toNat) ∧ am_swt pc a J (k + 1) r
def am_swl (pc : Nat) (a : Int) (J : Nat → Prop) : List (Int × Int) → Prop
  | [] => True
  | (k, o) :: r => (a = k → J ((pc : Int) + o).toNat) ∧ am_swl pc a J r
def am_none (a : Int) : List (Int × Int) → Prop
  | [] => True
  | (k, _) :: r => a ≠ k ∧ am_none a r
/-- places of an array copied: n from sp of a to dp of b -/
def mC (m : aM) (a sp b dp n : Int) : aM := fun c j => if c = b then (if dp ≤ j ∧ j < dp + n then m a (sp + (j - dp)) else m c j) else m c j
/-- ghosts: 1, 2: set (the house's own objects stand; the reference's); 3, 4: asked -/
def am_gh (G : Nat → aM → Prop) (z : Nat) (m : aM) (k : aM → Prop) : Prop := match z with
  | 0 => k m
  | 1 => G 1 m ∧ k (mS m 0 2 1)
  | 2 => G 2 m ∧ k (mS m 0 3 1)
  | 3 => m 0 2 = 1 ∧ k m
  | _ => m 0 3 = 1 ∧ k m
abbrev aC : Type := Nat → List aV → aM → (aO → aM → Prop) → Prop
/-- the other instructions -/
def am_rst (G : Nat → aM → Prop) (ca : aC) (hs : aH) (Q : aO → aM → Prop) (nx : List aV → List aV → aM → Prop) (jp : Nat → List aV → List aV → aM → Prop) (e : aE) (ls st : List aV) (m : aM) : Prop :=
  match e with
  | (pc, i, _, x, y, z) =>
  match i with
  | .goto o => jp ((pc : Int) + o).toNat ls st m
  | .if_acmp c o => (match st with
    | .inr (.inr (.inl b)) :: .inr (.inr (.inl a)) :: r => (match c with
      | .eq => (0 ≤ a ∧ 0 ≤ b) ∧ (a = b → jp ((pc : Int) + o).toNat ls r m) ∧ (a ≠ b → nx ls r m)
      | .ne => (0 ≤ a ∧ 0 ≤ b) ∧ (a ≠ b → jp ((pc : Int) + o).toNat ls r m) ∧ (a = b → nx ls r m))
    | _ => False)
  | .ifnull o => (match st with
    | .inr (.inr (.inl a)) :: r => (a ≠ -9) ∧ (a = 0 → jp ((pc : Int) + o).toNat ls r m) ∧ (a ≠ 0 → nx ls r m)
    | _ => False)
  | .ifnonnull o => (match st with
    | .inr (.inr (.inl a)) :: r => (a ≠ -9) ∧ (a ≠ 0 → jp ((pc : Int) + o).toNat ls r m) ∧ (a = 0 → nx ls r m)
    | _ => False)
  | .tableswitch d lo hi os => (match st with
    | .inl a :: r => (lo + os.size = hi + 1) ∧ am_swt pc a (fun t => jp t ls r m) lo os.toList ∧ ((a < lo ∨ hi < a) → jp ((pc : Int) + d).toNat ls r m)
    | _ => False)
  | .lookupswitch d ps => (match st with
    | .inl a :: r => am_swl pc a (fun t => jp t ls r m) ps.toList ∧ (am_none a ps.toList → jp ((pc : Int) + d).toNat ls r m)
    | _ => False)
  | .ireturn => (match st with
    | [.inl a] => (match z with
      | 0 => Q (.inl (some (aI a))) m
      | 1 => (a = 0 ∨ a = 1) ∧ Q (.inl (some (aI a))) m
      | 2 => (0 ≤ a ∧ a ≤ 65535) ∧ Q (.inl (some (aI a))) m
      | _ => (-128 ≤ a ∧ a ≤ 127) ∧ Q (.inl (some (aI a))) m)
    | _ => False)
  | .lreturn => (match st with
    | [.inr (.inl a)] => Q (.inl (some (aL a))) m
    | _ => False)
  | .areturn => (match st with
    | [.inr (.inr (.inl a))] => Q (.inl (some (aR a))) m
    | _ => False)
  | .return_ => (match st with
    | [] => Q (.inl none) m
    | _ => False)
  | .athrow => (match st with
    | .inr (.inr (.inl a)) :: _ => (0 < a ∧ (m a (-1) = 3 ∨ m a (-1) = 63)) ∧ am_hnd hs pc 0 = none ∧ Q (.inr (m a (-1), a)) m
    | _ => False)
  | .ldiv => (match st with
    | .inr (.inl b) :: .inr (.inl a) :: r => (b ≠ 0 → nx ls (aL (am_ldiv a b) :: r) m) ∧ (b = 0 → am_vmx hs Q jp pc ls 64 3 m)
    | _ => False)
  | .lrem => (match st with
    | .inr (.inl b) :: .inr (.inl a) :: r => b ≠ 0 ∧ nx ls (aL (am_lrem a b) :: r) m
    | _ => False)
  | .iaload => (match st with
    | .inl i :: .inr (.inr (.inl a)) :: r => (a = x) ∧ ((0 ≤ i ∧ i < y) → nx ls (aI (m x i) :: r) m) ∧ ((i < 0 ∨ y ≤ i) → am_vmx hs Q jp pc ls 61 3 m)
    | _ => False)
  | .aaload => (match st with
    | .inl i :: .inr (.inr (.inl a)) :: r => (match z with
      | 2 => (m a (-1) = am_over x) ∧ ((0 ≤ i ∧ i < m a (-2)) → nx ls (aR (m a i) :: r) m) ∧ ((i < 0 ∨ m a (-2) ≤ i) → am_vmx hs Q jp pc ls 61 3 m)
      | 3 => (a = x) ∧ ((0 ≤ i ∧ i < y) → nx ls (aR (m x i) :: r) m) ∧ ((i < 0 ∨ y ≤ i) → am_vmx hs Q jp pc ls 61 3 m)
      | _ => False)
    | _ => False)
  | .getfield _ => (match st with
    | .inr (.inr (.inl a)) :: r => (match z with
      | 7 => (a ≠ 0 → am_ok x (m a (-1)) ∧ nx ls (aI (m a y) :: r) m) ∧ (a = 0 → am_vmx hs Q jp pc ls 62 1 m)
      | 8 => (a ≠ 0 → am_ok x (m a (-1)) ∧ nx ls (aL (m a y) :: r) m) ∧ (a = 0 → am_vmx hs Q jp pc ls 62 1 m)
      | 9 => (a ≠ 0 → am_ok x (m a (-1)) ∧ nx ls (aR (m a y) :: r) m) ∧ (a = 0 → am_vmx hs Q jp pc ls 62 1 m)
      | _ => False)
    | _ => False)
  | .checkcast _ => (match st with
    | .inr (.inr (.inl a)) :: r => (0 < a) ∧ (am_ok x (m a (-1)) → nx ls (aR a :: r) m) ∧ (¬ am_ok x (m a (-1)) → (m a (-1) = 5 ∨ m a (-1) = 6 ∨ m a (-1) = 7 ∨ m a (-1) = 10) ∧ am_vmx hs Q jp pc ls 63 3 m)
    | _ => False)
  | .instanceof _ => (match st with
    | .inr (.inr (.inl a)) :: r => (0 < a) ∧ (am_ok x (m a (-1)) → nx ls (aI 1 :: r) m) ∧ (¬ am_ok x (m a (-1)) → (m a (-1) = 5 ∨ m a (-1) = 6 ∨ m a (-1) = 7 ∨ m a (-1) = 10) ∧ nx ls (aI 0 :: r) m)
    | _ => False)
  | .invokestatic _ => (match x with
    | .negSucc 0 => (match st with
      | .inl n :: .inl dp :: .inr (.inr (.inl b)) :: .inl sp :: .inr (.inr (.inl a)) :: r =>
        (0 < b ∧ a ≠ b ∧ m a (-1) = 40 ∧ m b (-1) = 40 ∧ 0 ≤ sp ∧ 0 ≤ dp ∧ 0 ≤ n ∧ sp + n ≤ m a (-2) ∧ dp + n ≤ m b (-2)) ∧ nx ls r (mC m a sp b dp n)
      | _ => False)
    | .negSucc 1 => (match st with
      | .inl n :: .inl dp :: .inr (.inr (.inl b)) :: .inl sp :: .inr (.inr (.inl a)) :: r =>
        (0 < b ∧ a ≠ b ∧ m a (-1) = 45 ∧ m b (-1) = 45 ∧ 0 ≤ sp ∧ 0 ≤ dp ∧ 0 ≤ n ∧ sp + n ≤ m a (-2) ∧ dp + n ≤ m b (-2) ∧ ∀ j : Int, sp ≤ j → j < sp + n → m a j = 0 ∨ (m a j ≠ 0 ∧ m (m a j) (-1) = 7)) ∧ nx ls r (mC m a sp b dp n)
      | _ => False)
    | .negSucc _ => False
    | .ofNat w => (match am_pop (z % 10) [] st with
      | some (as, r) => am_gh G (z / 10) m (fun m => ca w as m (am_ret hs Q nx jp pc ls r))
      | none => False))
  | .invokespecial _ => (match x with
    | .negSucc 0 => (match st with
      | .inr (.inr (.inl a)) :: r => (0 < a) ∧ nx ls r m
      | _ => False)
    | .negSucc _ => (match st with
      | .inr (.inr (.inl a)) :: r => (0 < a ∧ m a (-1) = 3 ∧ m a 0 = 0) ∧ nx ls r (mS m a 0 1)
      | _ => False)
    | .ofNat w => (match am_pop z [] st with
      | some (as, .inr (.inr (.inl a)) :: r) => (0 < a) ∧ ca w (aR a :: as) m (am_ret hs Q nx jp pc ls r)
      | _ => False))
  | .invokevirtual _ => (match am_pop (z % 10) [] st with
      | some (as, .inr (.inr (.inl a)) :: r) => am_rcv y a m ∧ am_gh G (z / 10) m (fun m => ca (am_dsp x.toNat (m a (-1))) (aR a :: as) m (am_ret hs Q nx jp pc ls r))
      | _ => False)
  | .invokeinterface _ _ => (match st with
      | .inr (.inr (.inl a)) :: r => (match z with
        | 0 => am_rcv y a m ∧ ca (am_dsp x.toNat (m a (-1))) [aR a] m (am_ret hs Q nx jp pc ls r)
        | _ => (a ≠ 0 → am_rcv y a m ∧ ca (am_dsp x.toNat (m a (-1))) [aR a] m (am_ret hs Q nx jp pc ls r)) ∧ (a = 0 → am_vmx hs Q jp pc ls 62 1 m))
      | _ => False)
  | _ => False
/-- ONE INSTRUCTION: what must hold so that all goes well: nx: at the next one, jp: at a jump's target, Q: at the method's end -/
def am_istep (G : Nat → aM → Prop) (ca : aC) (hs : aH) (Q : aO → aM → Prop) (nx : List aV → List aV → aM → Prop) (jp : Nat → List aV → List aV → aM → Prop) (e : aE) (ls st : List aV) (m : aM) : Prop :=
  match e with
  | (pc, i, len, x, y, z) =>
  match am_pst i x y z ls st m with
  | some (none, st', m') => nx ls st' m'
  | some (some P, st', m') => P ∧ nx ls st' m'
  | none =>
  match am_sto i y ls st with
  | some (none, ls', st') => am_fL ls' (fun l => nx l st' m)
  | some (some P, ls', st') => P ∧ am_fL ls' (fun l => nx l st' m)
  | none =>
  match am_brn i pc st with
  | some (P, N, t, st') => (P → jp t ls st' m) ∧ (N → nx ls st' m)
  | none => am_rst G ca hs Q nx jp (pc, i, len, x, y, z) ls st m
def am_seek (pc : Nat) : List aE → List aE
  | [] => []
  | e :: tl => bif Nat.beq e.1 pc then e :: tl else am_seek pc tl
/-- one step of a method, at its pc -/
def am_run (G : Nat → aM → Prop) (ca : aC) (hs : aH) (code : List aE) (Q : aO → aM → Prop) (X : Nat → List aV → List aV → aM → Prop) (pc : Nat) (ls st : List aV) (m : aM) : Prop :=
  match am_seek pc code with
  | [] => False
  | e :: _ => bif Nat.ble st.length 24 then am_istep G ca hs Q (fun ls st m => X (e.1 + e.2.2.1) ls st m) X e ls st m else False
/-- THE METHOD GOES WELL from pc on: the least such predicate -/
def am_WP (G : Nat → aM → Prop) (ca : aC) (hs : aH) (code : List aE) (Q : aO → aM → Prop) (pc : Nat) (ls st : List aV) (m : aM) : Prop :=
  ∀ X : Nat → List aV → List aV → aM → Prop, (∀ pc ls st m, am_run G ca hs code Q X pc ls st m → X pc ls st m) → X pc ls st m
/-- a block: n instructions at the most, up to the stops -/
def am_blk (G : Nat → aM → Prop) (ca : aC) (hs : aH) (code : List aE) (Q : aO → aM → Prop) (stops : List Nat) (X : Nat → List aV → List aV → aM → Prop) : Nat → List aE → List aV → List aV → aM → Prop
  | _, [], _, _, _ => False
  | 0, e :: _, ls, st, m => X e.1 ls st m
  | n + 1, e :: tl, ls, st, m => bif stops.elem e.1 then X e.1 ls st m else bif Nat.ble st.length 24 then
    am_istep G ca hs Q (fun ls st m => am_blk G ca hs code Q stops X n tl ls st m) (fun t ls st m => am_blk G ca hs code Q stops X n (am_seek t code) ls st m) e ls st m else False
/-- a block that begins at pc, whether a stop or not -/
def am_beg (G : Nat → aM → Prop) (ca : aC) (hs : aH) (code : List aE) (Q : aO → aM → Prop) (stops : List Nat) (n : Nat) (X : Nat → List aV → List aV → aM → Prop) (pc : Nat) (ls st : List aV) (m : aM) : Prop :=
  match am_seek pc code with
  | [] => False
  | e :: tl => bif Nat.ble st.length 24 then am_istep G ca hs Q (fun ls st m => am_blk G ca hs code Q stops X n tl ls st m) (fun t ls st m => am_blk G ca hs code Q stops X n (am_seek t code) ls st m) e ls st m else False
/-- the locals at a method's start -/
def am_ent : Nat → List aV → List aV
  | n, [] => List.replicate n aU
  | 0, _ :: _ => []
  | n + 1, .inr (.inl a) :: r => .inr (.inl a) :: (match n with
    | 0 => []
    | k + 1 => aU :: am_ent k r)
  | n + 1, v :: r => v :: am_ent n r
/-- how many words the arguments take -/
def am_wd : List aV → Nat
  | [] => 0
  | .inr (.inl _) :: r => am_wd r + 2
  | _ :: r => am_wd r + 1
def am_wpc (G : Nat → aM → Prop) (T : aT) : Nat → aC
  | 0 => fun _ _ _ _ => False
  | d + 1 => fun y as m Q => bif Nat.ble (am_wd as) (T y).1 then am_WP G (am_wpc G T d) (T y).2.1 (T y).2.2 Q 0 (am_ent (T y).1 as) [] m else False
/-! monotone -/
theorem am_exc_mono {hs : aH} {Q Q' : aO → aM → Prop} {jp jp' : Nat → List aV → List aV → aM → Prop} (hQ : ∀ o m, Q o m → Q' o m) (hj : ∀ t ls st m, jp t ls st m → jp' t ls st m) {pc : Nat} {ls : List aV} {c q : Int} {m : aM} (h : am_exc hs Q jp pc ls c q m) : am_exc hs Q' jp' pc ls c q m := by
  unfold am_exc at *
  cases hh : am_hnd hs pc c with
  | none => rw [hh] at h; exact hQ _ _ h
  | some k => rw [hh] at h; exact hj _ _ _ _ h
theorem am_vmx_mono {hs : aH} {Q Q' : aO → aM → Prop} {jp jp' : Nat → List aV → List aV → aM → Prop} (hQ : ∀ o m, Q o m → Q' o m) (hj : ∀ t ls st m, jp t ls st m → jp' t ls st m) {pc : Nat} {ls : List aV} {c k : Int} {m : aM} (h : am_vmx hs Q jp pc ls c k m) : am_vmx hs Q' jp' pc ls c k m := ⟨h.1, am_exc_mono hQ hj h.2⟩
theorem am_ret_mono {hs : aH} {Q Q' : aO → aM → Prop} {nx nx' : List aV → List aV → aM → Prop} {jp jp' : Nat → List aV → List aV → aM → Prop} (hQ : ∀ o m, Q o m → Q' o m) (hn : ∀ ls st m, nx ls st m → nx' ls st m) (hj : ∀ t ls st m, jp t ls st m → jp' t ls st m) {pc : Nat} {ls r : List aV} : ∀ (o : aO) (m : aM), am_ret hs Q nx jp pc ls r o m → am_ret hs Q' nx' jp' pc ls r o m := by
  intro o m h
  match o, h with
  | .inl none, h => exact hn _ _ _ h
  | .inl (some v), h => exact hn _ _ _ h
  | .inr (c, q), h => exact am_exc_mono hQ hj h
theorem am_swt_mono {pc : Nat} {a : Int} {J J' : Nat → Prop} (hJ : ∀ t, J t → J' t) : ∀ (os : List Int) (k : Int), am_swt pc a J k os → am_swt pc a J' k os := by
  intro os
  induction os with
  | nil => intro k h; trivial
  | cons o r ih => intro k h; exact ⟨fun e => hJ _ (h.1 e), ih _ h.2⟩
theorem am_swl_mono {pc : Nat} {a : Int} {J J' : Nat → Prop} (hJ : ∀ t, J t → J' t) : ∀ (os : List (Int × Int)), am_swl pc a J os → am_swl pc a J' os := by
  intro os
  induction os with
  | nil => intro h; trivial
  | cons o r ih => intro h; exact ⟨fun e => hJ _ (h.1 e), ih h.2⟩
theorem am_gh_mono {G : Nat → aM → Prop} {z : Nat} {m : aM} {k k' : aM → Prop} (hk : ∀ m, k m → k' m) (h : am_gh G z m k) : am_gh G z m k' := by
  unfold am_gh at *
  split at h
  · exact hk _ h
  · exact ⟨h.1, hk _ h.2⟩
  · exact ⟨h.1, hk _ h.2⟩
  · exact ⟨h.1, hk _ h.2⟩
  · exact ⟨h.1, hk _ h.2⟩
def am_cm (ca : aC) : Prop := ∀ y as m Q Q', (∀ o m, Q o m → Q' o m) → ca y as m Q → ca y as m Q'
set_option maxHeartbeats 4000000 in
theorem am_rst_mono {G : Nat → aM → Prop} {ca : aC} (hc : am_cm ca) {hs : aH} {Q Q' : aO → aM → Prop} {nx nx' : List aV → List aV → aM → Prop} {jp jp' : Nat → List aV → List aV → aM → Prop} (hQ : ∀ o m, Q o m → Q' o m) (hn : ∀ ls st m, nx ls st m → nx' ls st m) (hj : ∀ t ls st m, jp t ls st m → jp' t ls st m) {e : aE} {ls st : List aV} {m : aM} (h : am_rst G ca hs Q nx jp e ls st m) : am_rst G ca hs Q' nx' jp' e ls st m := by
  obtain ⟨pc, i, len, x, y, z⟩ := e
  have hr : ∀ (l r : List aV) (o : aO) (m : aM), am_ret hs Q nx jp pc l r o m → am_ret hs Q' nx' jp' pc l r o m := fun l r => am_ret_mono hQ hn hj
  have hx : ∀ (l : List aV) (c k : Int) (m : aM), am_vmx hs Q jp pc l c k m → am_vmx hs Q' jp' pc l c k m := fun l c k m => am_vmx_mono hQ hj
  unfold am_rst at h ⊢
  dsimp only at h ⊢
  split at h
  all_goals (try exact h.elim)
  all_goals (try exact hj _ _ _ _ h)
  all_goals (repeat' split at h)
  all_goals (try exact h.elim)
  all_goals first
    | exact hQ _ _ h
    | exact ⟨h.1, hQ _ _ h.2⟩
    | exact ⟨h.1, h.2.1, hQ _ _ h.2.2⟩
    | exact hn _ _ _ h
    | exact ⟨h.1, hn _ _ _ h.2⟩
    | exact ⟨h.1, fun q => hj _ _ _ _ (h.2.1 q), fun q => hn _ _ _ (h.2.2 q)⟩
    | exact ⟨fun q => hn _ _ _ (h.1 q), fun q => hx _ _ _ _ (h.2 q)⟩
    | exact ⟨fun q => ⟨(h.1 q).1, hn _ _ _ (h.1 q).2⟩, fun q => hx _ _ _ _ (h.2 q)⟩
    | exact ⟨h.1, fun q => hn _ _ _ (h.2.1 q), fun q => hx _ _ _ _ (h.2.2 q)⟩
    | exact ⟨h.1, fun q => hn _ _ _ (h.2.1 q), fun q => ⟨(h.2.2 q).1, hx _ _ _ _ (h.2.2 q).2⟩⟩
    | exact ⟨h.1, fun q => hn _ _ _ (h.2.1 q), fun q => ⟨(h.2.2 q).1, hn _ _ _ (h.2.2 q).2⟩⟩
    | exact ⟨h.1, am_swt_mono (fun t => hj _ _ _ _) _ _ h.2.1, fun q => hj _ _ _ _ (h.2.2 q)⟩
    | exact ⟨am_swl_mono (fun t => hj _ _ _ _) _ h.1, fun q => hj _ _ _ _ (h.2 q)⟩
    | exact am_gh_mono (fun m => hc _ _ _ _ _ (hr _ _)) h
    | exact ⟨h.1, am_gh_mono (fun m => hc _ _ _ _ _ (hr _ _)) h.2⟩
    | exact ⟨h.1, hc _ _ _ _ _ (hr _ _) h.2⟩
    | exact ⟨fun q => ⟨(h.1 q).1, hc _ _ _ _ _ (hr _ _) (h.1 q).2⟩, fun q => hx _ _ _ _ (h.2 q)⟩
theorem am_istep_mono {G : Nat → aM → Prop} {ca : aC} (hc : am_cm ca) {hs : aH} {Q Q' : aO → aM → Prop} {nx nx' : List aV → List aV → aM → Prop} {jp jp' : Nat → List aV → List aV → aM → Prop} (hQ : ∀ o m, Q o m → Q' o m) (hn : ∀ ls st m, nx ls st m → nx' ls st m) (hj : ∀ t ls st m, jp t ls st m → jp' t ls st m) {e : aE} {ls st : List aV} {m : aM} (h : am_istep G ca hs Q nx jp e ls st m) : am_istep G ca hs Q' nx' jp' e ls st m := by
  obtain ⟨pc, i, len, x, y, z⟩ := e
  unfold am_istep at h ⊢
  simp only [am_fL_eq] at h ⊢
  split at h
  · exact hn _ _ _ h
  · exact ⟨h.1, hn _ _ _ h.2⟩
  · split at h
    · exact hn _ _ _ h
    · exact ⟨h.1, hn _ _ _ h.2⟩
    · split at h
      · exact ⟨fun q => hj _ _ _ _ (h.1 q), fun q => hn _ _ _ (h.2 q)⟩
      · exact am_rst_mono hc hQ hn hj h
theorem am_run_mono {G : Nat → aM → Prop} {ca : aC} (hc : am_cm ca) {hs : aH} {code : List aE} {Q Q' : aO → aM → Prop} {X X' : Nat → List aV → List aV → aM → Prop} (hQ : ∀ o m, Q o m → Q' o m) (hX : ∀ t ls st m, X t ls st m → X' t ls st m) {pc : Nat} {ls st : List aV} {m : aM} (h : am_run G ca hs code Q X pc ls st m) : am_run G ca hs code Q' X' pc ls st m := by
  unfold am_run at h ⊢
  split at h
  · exact h.elim
  · cases hb : Nat.ble st.length 24 with
    | false => rw [hb] at h; exact h.elim
    | true =>
      rw [hb] at h
      exact am_istep_mono hc hQ (fun ls st m => hX _ ls st m) hX h
theorem am_WP.fold {G : Nat → aM → Prop} {ca : aC} (hc : am_cm ca) {hs : aH} {code : List aE} {Q : aO → aM → Prop} {pc : Nat} {ls st : List aV} {m : aM} (h : am_run G ca hs code Q (am_WP G ca hs code Q) pc ls st m) : am_WP G ca hs code Q pc ls st m := by
  intro X hX
  exact hX _ _ _ _ (am_run_mono hc (fun _ _ q => q) (fun t ls st m q => q X hX) h)
theorem am_WP.mono {G : Nat → aM → Prop} {ca : aC} (hc : am_cm ca) {hs : aH} {code : List aE} {Q Q' : aO → aM → Prop} (hQ : ∀ o m, Q o m → Q' o m) {pc : Nat} {ls st : List aV} {m : aM} (h : am_WP G ca hs code Q pc ls st m) : am_WP G ca hs code Q' pc ls st m := by
  intro X hX
  exact h X (fun pc ls st m q => hX _ _ _ _ (am_run_mono hc hQ (fun _ _ _ _ w => w) q))
theorem am_wpc_cm (G : Nat → aM → Prop) (T : aT) : ∀ d, am_cm (am_wpc G T d) := by
  intro d
  induction d with
  | zero => intro y as m Q Q' hQ h; exact h.elim
  | succ d ih =>
    intro y as m Q Q' hQ h
    unfold am_wpc at h ⊢
    cases hb : Nat.ble (am_wd as) (T y).1 with
    | false => rw [hb] at h; exact h.elim
    | true =>
      rw [hb] at h
      exact am_WP.mono ih hQ h
/-- the list is the code of one method: each instruction stands right behind the one ahead of it -/
def am_wf : List aE → Bool
  | [] => true
  | [_] => true
  | e :: e' :: r => Nat.beq e'.1 (e.1 + e.2.2.1) && Nat.ble 1 e.2.2.1 && am_wf (e' :: r)
theorem am_wf_tl {e : aE} {l : List aE} (h : am_wf (e :: l) = true) : am_wf l = true := by
  match l, h with
  | [], _ => rfl
  | e' :: r, h =>
    simp only [am_wf, Bool.and_eq_true] at h
    exact h.2
theorem am_wf_lt : ∀ {l : List aE} {e : aE}, am_wf (e :: l) = true → ∀ x ∈ l, e.1 < x.1 := by
  intro l
  induction l with
  | nil => intro e _ x hx; cases hx
  | cons e' r ih =>
    intro e h x hx
    have h2 := ih (am_wf_tl h)
    simp only [am_wf, Bool.and_eq_true] at h
    have a1 := Nat.eq_of_beq_eq_true h.1.1
    have a2 := Nat.le_of_ble_eq_true h.1.2
    rcases List.mem_cons.mp hx with rfl | hx
    · omega
    · have := h2 x hx
      omega
theorem am_seek_suf {e : aE} {tl : List aE} : ∀ {pre : List aE}, am_wf (pre ++ e :: tl) = true → am_seek e.1 (pre ++ e :: tl) = e :: tl := by
  intro pre
  induction pre with
  | nil =>
    intro _
    simp [am_seek]
  | cons p ps ih =>
    intro h
    have h1 := am_wf_lt h e (by simp)
    have h2 : Nat.beq p.1 e.1 = false := by
      cases hb : Nat.beq p.1 e.1 with
      | false => rfl
      | true => have := Nat.eq_of_beq_eq_true hb; omega
    rw [List.cons_append, am_seek, h2]
    exact ih (am_wf_tl h)
theorem am_seek_is (t : Nat) : ∀ code : List aE, ∃ pre, code = pre ++ am_seek t code := by
  intro code
  induction code with
  | nil => exact ⟨[], rfl⟩
  | cons e r ih =>
    obtain ⟨pre, h⟩ := ih
    rw [am_seek]
    cases Nat.beq e.1 t with
    | true => exact ⟨[], rfl⟩
    | false => exact ⟨e :: pre, by rw [List.cons_append]; exact congrArg (e :: ·) h⟩
theorem am_seek_pc {t : Nat} : ∀ {code : List aE} {e : aE} {tl : List aE}, am_seek t code = e :: tl → e.1 = t := by
  intro code
  induction code with
  | nil => intro e tl h; cases h
  | cons x r ih =>
    intro e tl h
    rw [am_seek] at h
    cases hb : Nat.beq x.1 t with
    | true =>
      rw [hb] at h
      cases h
      exact Nat.eq_of_beq_eq_true hb
    | false =>
      rw [hb] at h
      exact ih h
theorem am_wf_nx {e e' : aE} {r : List aE} : ∀ {pre : List aE}, am_wf (pre ++ e :: e' :: r) = true → e'.1 = e.1 + e.2.2.1 := by
  intro pre
  induction pre with
  | nil =>
    intro h
    simp only [List.nil_append, am_wf, Bool.and_eq_true] at h
    exact Nat.eq_of_beq_eq_true h.1.1
  | cons p ps ih => intro h; exact ih (am_wf_tl h)
def am_hd (tl : List aE) (P : Nat → Prop) : Prop := match tl with
  | [] => False
  | e :: _ => P e.1
theorem am_blk_ok {G : Nat → aM → Prop} {ca : aC} (hc : am_cm ca) {hs : aH} {code : List aE} (hw : am_wf code = true) {Q : aO → aM → Prop} {stops : List Nat} :
    ∀ (n : Nat) (tl : List aE) (ls st : List aV) (m : aM), (∃ pre, code = pre ++ tl) → am_blk G ca hs code Q stops (am_WP G ca hs code Q) n tl ls st m → am_hd tl (fun pc => am_WP G ca hs code Q pc ls st m) := by
  intro n
  induction n with
  | zero =>
    intro tl ls st m hp h
    match tl, h with
    | [], h => exact h
    | e :: r, h => exact h
  | succ n ih =>
    intro tl ls st m hp h
    match tl, hp, h with
    | [], _, h => exact h
    | e :: r, hp, h =>
      unfold am_blk at h
      cases hb : stops.elem e.1 with
      | true => rw [hb] at h; exact h
      | false =>
        rw [hb] at h
        obtain ⟨pre, hp⟩ := hp
        show am_WP G ca hs code Q e.1 ls st m
        apply am_WP.fold hc
        unfold am_run
        have h1 : am_seek e.1 code = e :: r := by rw [hp]; rw [hp] at hw; exact am_seek_suf hw
        rw [h1]
        cases hbl : Nat.ble st.length 24 with
        | false => rw [hbl] at h; exact h.elim
        | true =>
        rw [hbl] at h
        show am_istep G ca hs Q _ _ e ls st m
        refine am_istep_mono hc (fun _ _ q => q) (fun ls st m q => ?_) (fun t ls st m q => ?_) h
        · have h2 := ih r ls st m ⟨pre ++ [e], by rw [hp]; simp⟩ q
          match r, hp, h2 with
          | [], _, h2 => exact h2.elim
          | e' :: r', hp, h2 =>
            have h3 := am_wf_nx (pre := pre) (by rw [← hp]; exact hw)
            rw [← h3]
            exact h2
        · have h2 := ih (am_seek t code) ls st m (am_seek_is t code) q
          cases hs2 : am_seek t code with
          | nil => rw [hs2] at h2; exact h2.elim
          | cons x y =>
            rw [hs2] at h2
            have h3 := am_seek_pc hs2
            rw [← h3]
            exact h2
/-- A BLOCK AT ONCE -/
theorem am_go {G : Nat → aM → Prop} {ca : aC} (n : Nat) (stops : List Nat) (hc : am_cm ca) {hs : aH} {code : List aE} (hw : am_wf code = true) {Q : aO → aM → Prop} {pc : Nat} {ls st : List aV} {m : aM}
    (h : am_beg G ca hs code Q stops n (am_WP G ca hs code Q) pc ls st m) : am_WP G ca hs code Q pc ls st m := by
  apply am_WP.fold hc
  unfold am_beg at h
  unfold am_run
  cases hs1 : am_seek pc code with
  | nil => rw [hs1] at h; exact h
  | cons e r =>
    rw [hs1] at h
    obtain ⟨pre, hp⟩ := am_seek_is pc code
    rw [hs1] at hp
    cases hbl : Nat.ble st.length 24 with
    | false =>
      dsimp only at h
      rw [hbl] at h
      exact h.elim
    | true =>
    dsimp only at h ⊢
    rw [hbl] at h
    show am_istep G ca hs Q _ _ e ls st m
    refine am_istep_mono hc (fun _ _ q => q) (fun ls st m q => ?_) (fun t ls st m q => ?_) h
    · have h2 := am_blk_ok hc hw n r ls st m ⟨pre ++ [e], by rw [hp]; simp⟩ q
      match r, hp, h2 with
      | [], _, h2 => exact h2.elim
      | e' :: r', hp, h2 =>
        have h3 := am_wf_nx (pre := pre) (by rw [← hp]; exact hw)
        rw [← h3]
        exact h2
    · have h2 := am_blk_ok hc hw n (am_seek t code) ls st m (am_seek_is t code) q
      cases hs2 : am_seek t code with
      | nil => rw [hs2] at h2; exact h2.elim
      | cons x y =>
        rw [hs2] at h2
        have h3 := am_seek_pc hs2
        rw [← h3]
        exact h2
/-- a method's contract: its body from the start, one level down -/
theorem am_in {G : Nat → aM → Prop} {T : aT} {k d y : Nat} {as : List aV} {m : aM} {Q : aO → aM → Prop} (hw : Nat.ble (am_wd as) (T y).1 = true) (hd : k + 1 ≤ d) (h : ∀ d', k ≤ d' → am_WP G (am_wpc G T d') (T y).2.1 (T y).2.2 Q 0 (am_ent (T y).1 as) [] m) : am_wpc G T d y as m Q := by
  obtain ⟨d', rfl⟩ : ∃ d', d = d' + 1 := ⟨d - 1, by omega⟩
  unfold am_wpc
  rw [hw]
  exact h d' (by omega)
