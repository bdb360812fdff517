/-! THE ABSTRACT MACHINE: Int-coded values, memory by address and place; tables of a program; depth d (calls); the machine is the least fixed point (Lean.Order.fix): no fuel. -/
/-- a value: (tag, payload): 0 int, 1 long, 2 reference (0: null), 3 nothing known; of a result 3: none, 4: thrown -/
abbrev ab_V : Type := Nat × Int
abbrev ab_M : Type := Nat → Nat → Int
abbrev ab_R : Type := Option (ab_V × ab_M)
def ab_u1 (f : Nat → Int) (j : Nat) (v : Int) : Nat → Int := fun i => cond (Nat.beq i j) v (f i)
def ab_up (μ : ab_M) (a j : Nat) (v : Int) : ab_M := fun b => cond (Nat.beq b a) (ab_u1 (μ a) j v) (μ b)
/-- sealed: a name that nothing unfolds to what it stands for -/
theorem sl_ex {α : Type} (a : α) : ∃ f : α, f = a := ⟨a, rfl⟩
noncomputable def sl {α : Type} (a : α) : α := Classical.choose (sl_ex a)
theorem sl_eq {α : Type} (a : α) : sl a = a := Classical.choose_spec (sl_ex a)
noncomputable def w32 : Int → Int := sl (fun x => Int.bmod x 4294967296)
theorem w32_eq (x : Int) : w32 x = Int.bmod x 4294967296 := congrFun (sl_eq (fun x => Int.bmod x 4294967296)) x
noncomputable def w64 : Int → Int := sl (fun x => Int.bmod x 18446744073709551616)
theorem w64_eq (x : Int) : w64 x = Int.bmod x 18446744073709551616 := congrFun (sl_eq (fun x => Int.bmod x 18446744073709551616)) x
noncomputable def and32 : Int → Int → Int := sl (fun x y => (Int32.ofInt x &&& Int32.ofInt y).toInt)
theorem and32_eq (x y : Int) : and32 x y = (Int32.ofInt x &&& Int32.ofInt y).toInt := congrFun (congrFun (sl_eq (fun x y => (Int32.ofInt x &&& Int32.ofInt y).toInt)) x) y
noncomputable def or32 : Int → Int → Int := sl (fun x y => (Int32.ofInt x ||| Int32.ofInt y).toInt)
theorem or32_eq (x y : Int) : or32 x y = (Int32.ofInt x ||| Int32.ofInt y).toInt := congrFun (congrFun (sl_eq (fun x y => (Int32.ofInt x ||| Int32.ofInt y).toInt)) x) y
noncomputable def xor32 : Int → Int → Int := sl (fun x y => (Int32.ofInt x ^^^ Int32.ofInt y).toInt)
theorem xor32_eq (x y : Int) : xor32 x y = (Int32.ofInt x ^^^ Int32.ofInt y).toInt := congrFun (congrFun (sl_eq (fun x y => (Int32.ofInt x ^^^ Int32.ofInt y).toInt)) x) y
noncomputable def shl32 : Int → Int → Int := sl (fun x s => (Int32.ofInt x <<< (Int32.ofInt s &&& 31)).toInt)
theorem shl32_eq (x s : Int) : shl32 x s = (Int32.ofInt x <<< (Int32.ofInt s &&& 31)).toInt := congrFun (congrFun (sl_eq (fun x s => (Int32.ofInt x <<< (Int32.ofInt s &&& 31)).toInt)) x) s
noncomputable def shr32 : Int → Int → Int := sl (fun x s => (Int32.ofInt x >>> (Int32.ofInt s &&& 31)).toInt)
theorem shr32_eq (x s : Int) : shr32 x s = (Int32.ofInt x >>> (Int32.ofInt s &&& 31)).toInt := congrFun (congrFun (sl_eq (fun x s => (Int32.ofInt x >>> (Int32.ofInt s &&& 31)).toInt)) x) s
noncomputable def ushr32 : Int → Int → Int := sl (fun x s => ((Int32.ofInt x).toUInt32 >>> ((Int32.ofInt s).toUInt32 &&& Int32.toUInt32 31)).toInt32.toInt)
theorem ushr32_eq (x s : Int) : ushr32 x s = ((Int32.ofInt x).toUInt32 >>> ((Int32.ofInt s).toUInt32 &&& Int32.toUInt32 31)).toInt32.toInt := congrFun (congrFun (sl_eq (fun x s => ((Int32.ofInt x).toUInt32 >>> ((Int32.ofInt s).toUInt32 &&& Int32.toUInt32 31)).toInt32.toInt)) x) s
noncomputable def and64 : Int → Int → Int := sl (fun x y => (Int64.ofInt x &&& Int64.ofInt y).toInt)
theorem and64_eq (x y : Int) : and64 x y = (Int64.ofInt x &&& Int64.ofInt y).toInt := congrFun (congrFun (sl_eq (fun x y => (Int64.ofInt x &&& Int64.ofInt y).toInt)) x) y
noncomputable def or64 : Int → Int → Int := sl (fun x y => (Int64.ofInt x ||| Int64.ofInt y).toInt)
theorem or64_eq (x y : Int) : or64 x y = (Int64.ofInt x ||| Int64.ofInt y).toInt := congrFun (congrFun (sl_eq (fun x y => (Int64.ofInt x ||| Int64.ofInt y).toInt)) x) y
noncomputable def xor64 : Int → Int → Int := sl (fun x y => (Int64.ofInt x ^^^ Int64.ofInt y).toInt)
theorem xor64_eq (x y : Int) : xor64 x y = (Int64.ofInt x ^^^ Int64.ofInt y).toInt := congrFun (congrFun (sl_eq (fun x y => (Int64.ofInt x ^^^ Int64.ofInt y).toInt)) x) y
noncomputable def shl64 : Int → Int → Int := sl (fun x s => (Int64.ofInt x <<< ((Int32.ofInt s).toInt64 &&& 63)).toInt)
theorem shl64_eq (x s : Int) : shl64 x s = (Int64.ofInt x <<< ((Int32.ofInt s).toInt64 &&& 63)).toInt := congrFun (congrFun (sl_eq (fun x s => (Int64.ofInt x <<< ((Int32.ofInt s).toInt64 &&& 63)).toInt)) x) s
noncomputable def shr64 : Int → Int → Int := sl (fun x s => (Int64.ofInt x >>> ((Int32.ofInt s).toInt64 &&& 63)).toInt)
theorem shr64_eq (x s : Int) : shr64 x s = (Int64.ofInt x >>> ((Int32.ofInt s).toInt64 &&& 63)).toInt := congrFun (congrFun (sl_eq (fun x s => (Int64.ofInt x >>> ((Int32.ofInt s).toInt64 &&& 63)).toInt)) x) s
noncomputable def ushr64 : Int → Int → Int := sl (fun x s => ((Int64.ofInt x).toUInt64 >>> ((Int32.ofInt s).toInt64.toUInt64 &&& Int64.toUInt64 63)).toInt64.toInt)
theorem ushr64_eq (x s : Int) : ushr64 x s = ((Int64.ofInt x).toUInt64 >>> ((Int32.ofInt s).toInt64.toUInt64 &&& Int64.toUInt64 63)).toInt64.toInt := congrFun (congrFun (sl_eq (fun x s => ((Int64.ofInt x).toUInt64 >>> ((Int32.ofInt s).toInt64.toUInt64 &&& Int64.toUInt64 63)).toInt64.toInt)) x) s
noncomputable def i2b : Int → Int := sl (fun x => Int.bmod x 256)
theorem i2b_eq (x : Int) : i2b x = Int.bmod x 256 := congrFun (sl_eq (fun x => Int.bmod x 256)) x
noncomputable def i2s : Int → Int := sl (fun x => Int.bmod x 65536)
theorem i2s_eq (x : Int) : i2s x = Int.bmod x 65536 := congrFun (sl_eq (fun x => Int.bmod x 65536)) x
noncomputable def i2c : Int → Int := sl (fun x => x % 65536)
theorem i2c_eq (x : Int) : i2c x = x % 65536 := congrFun (sl_eq (fun x => x % 65536)) x
def lcm3 (x y : Int) : Int := if x < y then -1 else if x = y then 0 else 1
/-- THE TABLES OF A PROGRAM: code with lengths and links (class number or callee, field or count, type code, constant); objects by class; arrays (type code, length; 0: none); static contents; methods (locals, answer's type code); handlers; masks at cut points (loop heads, joins); primitives -/
abbrev ab_K : Type := Nat × Nat × Nat × Int
abbrev ab_Pg : Type := (Nat → Nat → Option (Instr × Nat × ab_K)) × (ab_M → Nat → Nat → Bool) × (ab_M → Nat → Nat × Nat) × (Nat → Nat → Int) × (Nat → Nat × Nat) × (Nat → Nat → Option Nat) × (Nat → Nat → Option (List Bool)) × (Nat → Option (List ab_V → ab_M → ab_R))
abbrev pg_code (P : ab_Pg) : Nat → Nat → Option (Instr × Nat × ab_K) := P.1
abbrev pg_ob (P : ab_Pg) : ab_M → Nat → Nat → Bool := P.2.1
abbrev pg_ar (P : ab_Pg) : ab_M → Nat → Nat × Nat := P.2.2.1
abbrev pg_st (P : ab_Pg) : Nat → Nat → Int := P.2.2.2.1
abbrev pg_mt (P : ab_Pg) : Nat → Nat × Nat := P.2.2.2.2.1
abbrev pg_hn (P : ab_Pg) : Nat → Nat → Option Nat := P.2.2.2.2.2.1
abbrev pg_mk (P : ab_Pg) : Nat → Nat → Option (List Bool) := P.2.2.2.2.2.2.1
abbrev pg_pr (P : ab_Pg) : Nat → Option (List ab_V → ab_M → ab_R) := P.2.2.2.2.2.2.2
/-- locals -/
def ab_jk : List ab_V → List ab_V
  | [] => []
  | _ :: r => (3, 0) :: r
def ab_set : List ab_V → Nat → ab_V → List ab_V
  | [], _, _ => []
  | u :: r, i, v => cond (Nat.beq i 0) (v :: cond (Nat.beq v.1 1) (ab_jk r) r) ((cond (Nat.beq i 1 && Nat.beq u.1 1) (3, 0) u) :: ab_set r (Nat.pred i) v)
def ab_nth : List ab_V → Nat → Option ab_V
  | [], _ => none
  | u :: r, i => cond (Nat.beq i 0) (some u) (ab_nth r (Nat.pred i))
def ab_mask : List Bool → List ab_V → List ab_V
  | b :: bs, v :: vs => (cond b v (3, 0)) :: ab_mask bs vs
  | _, _ => []
def ab_args : List ab_V → List ab_V
  | [] => []
  | v :: r => cond (Nat.beq v.1 1) (v :: (3, 0) :: ab_args r) (v :: ab_args r)
def ab_entry (n : Nat) (as : List ab_V) : List ab_V := ab_args as ++ List.replicate (n - (ab_args as).length) (3, 0)
def ab_ld (L : List ab_V) (i t : Nat) (f : Int → ab_R) : ab_R := match ab_nth L i with
  | some (t', x) => cond (Nat.beq t' t) (f x) none
  | none => none
/-- stack -/
def ab_p1 (t : Nat) (st : List ab_V) (f : Int → List ab_V → ab_R) : ab_R := match st with
  | (t', x) :: r => cond (Nat.beq t' t) (f x r) none
  | [] => none
def ab_pop (st : List ab_V) (f : ab_V → List ab_V → ab_R) : ab_R := match st with
  | v :: r => f v r
  | [] => none
def ab_one (v : ab_V) (x : ab_R) : ab_R := cond (Nat.beq v.1 1) none (cond (Nat.ble v.1 2) x none)
def ab_two (v : ab_V) (x : ab_R) : ab_R := cond (Nat.beq v.1 1) x none
def ab_nil (st : List ab_V) (x : ab_R) : ab_R := match st with
  | [] => x
  | _ => none
/-- a stack of at most n -/
def ab_sh : Nat → List ab_V → ab_R → ab_R
  | _, [], x => x
  | 0, _ :: _, _ => none
  | n + 1, _ :: r, x => ab_sh n r x
def ab_takes : Nat → List ab_V → List ab_V → (List ab_V → List ab_V → ab_R) → ab_R
  | 0, acc, st, f => f acc st
  | n + 1, acc, st, f => ab_pop st fun v r => cond (Nat.ble v.1 2) (ab_takes n (v :: acc) r f) none
def ab_br (c : ClassFile.Cond) (x y : Int) (A B : ab_R) : ab_R := match c with
  | .eq => if x = y then A else B
  | .ne => if x = y then B else A
  | .lt => if x < y then A else B
  | .ge => if x < y then B else A
  | .gt => if y < x then A else B
  | .le => if y < x then B else A
/-- what a type code takes: 0 int, 1 long, 2 reference, 3 boolean, 4 byte, 5 short, 6 char, 7 static reference -/
def ab_tag (ty : Nat) : Nat := match ty with
  | 1 => 1
  | 2 => 2
  | 7 => 2
  | _ => 0
def ab_fit (ty : Nat) (x : Int) (A : ab_R) : ab_R := match ty with
  | 3 => if x = 0 ∨ x = 1 then A else none
  | 4 => if -128 ≤ x ∧ x < 128 then A else none
  | 5 => if -32768 ≤ x ∧ x < 32768 then A else none
  | 6 => if 0 ≤ x ∧ x < 65536 then A else none
  | _ => A
/-- a call's answer -/
def ab_cal (x : ab_R) (t : Nat) (thr f : Int → ab_M → ab_R) : ab_R := match x with
  | none => none
  | some q => cond (Nat.beq q.1.1 4) (thr q.1.2 q.2) (cond (Nat.beq q.1.1 t) (f q.1.2 q.2) none)
def ab_sw (x : Int) : List (Int × Int) → (Int → ab_R) → Int → ab_R
  | [], f, d => f d
  | q :: r, f, d => if x = q.1 then f q.2 else ab_sw x r f d
def ab_tab : Int → List Int → List (Int × Int)
  | _, [] => []
  | k, o :: r => (k, o) :: ab_tab (k + 1) r
/-- a new cell: the next address (place 0 of row 0 tells it) -/
def ab_al (μ : ab_M) (n : Nat) : ab_M := fun b => cond (Nat.beq b (μ 0 0).toNat) (fun _ => 0) (cond (Nat.beq b 0) (ab_u1 (ab_u1 (μ 0) 0 (μ 0 0 + 1)) 1 (μ 0 1 + n)) (μ b))
/-- room for one more cell of n slots -/
abbrev ab_rm (μ : ab_M) (n : Nat) : Prop := 0 < μ 0 0 ∧ μ 0 0 < 182000 ∧ 0 ≤ μ 0 1 ∧ μ 0 1 + n ≤ 8500000
def ab_ix (P : ab_Pg) (μ : ab_M) (x i : Int) (ty : Nat) (A : ab_R) : ab_R := cond (Nat.beq ty 0) none (cond (Nat.beq (pg_ar P μ x.toNat).1 ty) (if 0 ≤ i ∧ i < (pg_ar P μ x.toNat).2 then A else none) none)
def ab_i2 (st : List ab_V) (f : Int → Int → List ab_V → ab_R) : ab_R := ab_p1 0 st fun y r => ab_p1 0 r fun x r => f x y r
def ab_l2 (st : List ab_V) (f : Int → Int → List ab_V → ab_R) : ab_R := ab_p1 1 st fun y r => ab_p1 1 r fun x r => f x y r
def ab_ls (st : List ab_V) (f : Int → Int → List ab_V → ab_R) : ab_R := ab_p1 0 st fun y r => ab_p1 1 r fun x r => f x y r
def ab_recv (P : ab_Pg) (μ : ab_M) (c : Nat) (as : List ab_V) (A : ab_R) : ab_R := match c with
  | 0 => A
  | c + 1 => match as with
    | v :: _ => cond (Nat.beq v.1 2 && pg_ob P μ v.2.toNat c) A none
    | [] => none
noncomputable def ab_stp (P : ab_Pg) (k pc : Nat) (i : Instr) (len : Nat) (q : ab_K) (L st : List ab_V) (μ : ab_M) (go : Nat → List ab_V → List ab_V → ab_M → ab_R) (cl : Nat → List ab_V → ab_M → ab_R) : ab_R := match i with
  | .nop => go (pc + len) L st μ
  | .aconst_null => go (pc + len) L ((2, 0) :: st) μ
  | .iconst v => go (pc + len) L ((0, v) :: st) μ
  | .bipush v => go (pc + len) L ((0, v) :: st) μ
  | .sipush v => go (pc + len) L ((0, v) :: st) μ
  | .lconst v => go (pc + len) L ((1, (v.val : Int)) :: st) μ
  | .ldc _ => go (pc + len) L ((ab_tag q.2.2.1, q.2.2.2) :: st) μ
  | .ldc_w _ => go (pc + len) L ((ab_tag q.2.2.1, q.2.2.2) :: st) μ
  | .ldc2_w _ => go (pc + len) L ((1, q.2.2.2) :: st) μ
  | .getstatic _ => go (pc + len) L ((2, q.2.2.2) :: st) μ
  | .iload j => ab_ld L j 0 fun x => go (pc + len) L ((0, x) :: st) μ
  | .iload_n j => ab_ld L j.val 0 fun x => go (pc + len) L ((0, x) :: st) μ
  | .lload j => ab_ld L j 1 fun x => go (pc + len) L ((1, x) :: st) μ
  | .lload_n j => ab_ld L j.val 1 fun x => go (pc + len) L ((1, x) :: st) μ
  | .aload j => ab_ld L j 2 fun x => go (pc + len) L ((2, x) :: st) μ
  | .aload_n j => ab_ld L j.val 2 fun x => go (pc + len) L ((2, x) :: st) μ
  | .istore j => ab_p1 0 st fun x r => go (pc + len) (ab_set L j (0, x)) r μ
  | .istore_n j => ab_p1 0 st fun x r => go (pc + len) (ab_set L j.val (0, x)) r μ
  | .lstore j => ab_p1 1 st fun x r => go (pc + len) (ab_set L j (1, x)) r μ
  | .lstore_n j => ab_p1 1 st fun x r => go (pc + len) (ab_set L j.val (1, x)) r μ
  | .astore j => ab_p1 2 st fun x r => go (pc + len) (ab_set L j (2, x)) r μ
  | .astore_n j => ab_p1 2 st fun x r => go (pc + len) (ab_set L j.val (2, x)) r μ
  | .iinc j c => ab_ld L j 0 fun x => go (pc + len) (ab_set L j (0, w32 (x + c))) st μ
  | .pop => ab_pop st fun v r => ab_one v (go (pc + len) L r μ)
  | .pop2 => ab_pop st fun v r => ab_two v (go (pc + len) L r μ)
  | .dup => ab_pop st fun v r => ab_one v (go (pc + len) L (v :: v :: r) μ)
  | .dup_x1 => ab_pop st fun v r => ab_pop r fun u r => ab_one v (ab_one u (go (pc + len) L (v :: u :: v :: r) μ))
  | .dup2 => ab_pop st fun v r => cond (Nat.beq v.1 1) (go (pc + len) L (v :: v :: r) μ) (ab_pop r fun u r => ab_one v (ab_one u (go (pc + len) L (v :: u :: v :: u :: r) μ)))
  | .dup2_x1 => ab_pop st fun v r => ab_pop r fun u r => ab_two v (ab_one u (go (pc + len) L (v :: u :: v :: r) μ))
  | .iadd => ab_i2 st fun x y r => go (pc + len) L ((0, w32 (x + y)) :: r) μ
  | .isub => ab_i2 st fun x y r => go (pc + len) L ((0, w32 (x - y)) :: r) μ
  | .imul => ab_i2 st fun x y r => go (pc + len) L ((0, w32 (x * y)) :: r) μ
  | .idiv => ab_i2 st fun x y r => if y = 0 then none else go (pc + len) L ((0, w32 (Int.tdiv x y)) :: r) μ
  | .irem => ab_i2 st fun x y r => if y = 0 then none else go (pc + len) L ((0, Int.tmod x y) :: r) μ
  | .ineg => ab_p1 0 st fun x r => go (pc + len) L ((0, w32 (-x)) :: r) μ
  | .iand => ab_i2 st fun x y r => go (pc + len) L ((0, and32 x y) :: r) μ
  | .ior => ab_i2 st fun x y r => go (pc + len) L ((0, or32 x y) :: r) μ
  | .ixor => ab_i2 st fun x y r => go (pc + len) L ((0, xor32 x y) :: r) μ
  | .ishl => ab_i2 st fun x y r => go (pc + len) L ((0, shl32 x y) :: r) μ
  | .ishr => ab_i2 st fun x y r => go (pc + len) L ((0, shr32 x y) :: r) μ
  | .iushr => ab_i2 st fun x y r => go (pc + len) L ((0, ushr32 x y) :: r) μ
  | .ladd => ab_l2 st fun x y r => go (pc + len) L ((1, w64 (x + y)) :: r) μ
  | .lsub => ab_l2 st fun x y r => go (pc + len) L ((1, w64 (x - y)) :: r) μ
  | .lmul => ab_l2 st fun x y r => go (pc + len) L ((1, w64 (x * y)) :: r) μ
  | .ldiv => ab_l2 st fun x y r => if y = 0 then none else go (pc + len) L ((1, w64 (Int.tdiv x y)) :: r) μ
  | .lrem => ab_l2 st fun x y r => if y = 0 then none else go (pc + len) L ((1, Int.tmod x y) :: r) μ
  | .lneg => ab_p1 1 st fun x r => go (pc + len) L ((1, w64 (-x)) :: r) μ
  | .land => ab_l2 st fun x y r => go (pc + len) L ((1, and64 x y) :: r) μ
  | .lor => ab_l2 st fun x y r => go (pc + len) L ((1, or64 x y) :: r) μ
  | .lxor => ab_l2 st fun x y r => go (pc + len) L ((1, xor64 x y) :: r) μ
  | .lshl => ab_ls st fun x y r => go (pc + len) L ((1, shl64 x y) :: r) μ
  | .lshr => ab_ls st fun x y r => go (pc + len) L ((1, shr64 x y) :: r) μ
  | .lushr => ab_ls st fun x y r => go (pc + len) L ((1, ushr64 x y) :: r) μ
  | .lcmp => ab_l2 st fun x y r => go (pc + len) L ((0, lcm3 x y) :: r) μ
  | .i2l => ab_p1 0 st fun x r => go (pc + len) L ((1, x) :: r) μ
  | .l2i => ab_p1 1 st fun x r => go (pc + len) L ((0, w32 x) :: r) μ
  | .i2b => ab_p1 0 st fun x r => go (pc + len) L ((0, i2b x) :: r) μ
  | .i2s => ab_p1 0 st fun x r => go (pc + len) L ((0, i2s x) :: r) μ
  | .i2c => ab_p1 0 st fun x r => go (pc + len) L ((0, i2c x) :: r) μ
  | .goto o => go ((pc : Int) + o).toNat L st μ
  | .ifCond c o => ab_p1 0 st fun x r => ab_br c x 0 (go ((pc : Int) + o).toNat L r μ) (go (pc + len) L r μ)
  | .if_icmp c o => ab_i2 st fun x y r => ab_br c x y (go ((pc : Int) + o).toNat L r μ) (go (pc + len) L r μ)
  | .if_acmp c o => ab_p1 2 st fun y r => ab_p1 2 r fun x r => match c with
    | .eq => if x = y then go ((pc : Int) + o).toNat L r μ else go (pc + len) L r μ
    | .ne => if x = y then go (pc + len) L r μ else go ((pc : Int) + o).toNat L r μ
  | .ifnull o => ab_p1 2 st fun x r => if x = 0 then go ((pc : Int) + o).toNat L r μ else go (pc + len) L r μ
  | .ifnonnull o => ab_p1 2 st fun x r => if x = 0 then go (pc + len) L r μ else go ((pc : Int) + o).toNat L r μ
  | .tableswitch d lo _ os => ab_p1 0 st fun x r => ab_sw x (ab_tab lo os.toList) (fun o => go ((pc : Int) + o).toNat L r μ) d
  | .lookupswitch d ps => ab_p1 0 st fun x r => ab_sw x ps.toList (fun o => go ((pc : Int) + o).toNat L r μ) d
  | .getfield _ => ab_p1 2 st fun x r => cond (pg_ob P μ x.toNat q.1) (cond (Nat.ble 7 q.2.2.1) (go (pc + len) L ((ab_tag q.2.2.1, pg_st P x.toNat q.2.1) :: r) μ) (go (pc + len) L ((ab_tag q.2.2.1, μ x.toNat q.2.1) :: r) μ)) none
  | .putfield _ => ab_p1 (ab_tag q.2.2.1) st fun y r => ab_p1 2 r fun x r => cond (pg_ob P μ x.toNat q.1) (cond (Nat.ble 7 q.2.2.1) none (ab_fit q.2.2.1 y (go (pc + len) L r (ab_up μ x.toNat q.2.1 y)))) none
  | .iaload => ab_p1 0 st fun i r => ab_p1 2 r fun x r => ab_ix P μ x i q.2.2.1 (go (pc + len) L ((0, μ x.toNat i.toNat) :: r) μ)
  | .laload => ab_p1 0 st fun i r => ab_p1 2 r fun x r => ab_ix P μ x i 2 (go (pc + len) L ((1, μ x.toNat i.toNat) :: r) μ)
  | .baload => ab_p1 0 st fun i r => ab_p1 2 r fun x r => ab_ix P μ x i q.2.2.1 (go (pc + len) L ((0, μ x.toNat i.toNat) :: r) μ)
  | .aaload => ab_p1 0 st fun i r => ab_p1 2 r fun x r => ab_ix P μ x i q.2.2.1 (cond (Nat.beq q.1 1) (go (pc + len) L ((2, pg_st P x.toNat i.toNat) :: r) μ) (go (pc + len) L ((2, μ x.toNat i.toNat) :: r) μ))
  | .iastore => ab_p1 0 st fun y r => ab_p1 0 r fun i r => ab_p1 2 r fun x r => ab_ix P μ x i 1 (go (pc + len) L r (ab_up μ x.toNat i.toNat y))
  | .lastore => ab_p1 1 st fun y r => ab_p1 0 r fun i r => ab_p1 2 r fun x r => ab_ix P μ x i 2 (go (pc + len) L r (ab_up μ x.toNat i.toNat y))
  | .bastore => ab_p1 0 st fun y r => ab_p1 0 r fun i r => ab_p1 2 r fun x r => ab_ix P μ x i q.2.2.1 (match q.2.2.1 with
    | 3 => if y = 0 ∨ y = 1 then go (pc + len) L r (ab_up μ x.toNat i.toNat y) else none
    | _ => go (pc + len) L r (ab_up μ x.toNat i.toNat (i2b y)))
  | .aastore => ab_p1 2 st fun y r => ab_p1 0 r fun i r => ab_p1 2 r fun x r => ab_ix P μ x i q.2.2.1 (cond (Nat.beq q.1 1) none (if y = 0 then go (pc + len) L r (ab_up μ x.toNat i.toNat y) else cond (pg_ob P μ y.toNat q.2.1) (go (pc + len) L r (ab_up μ x.toNat i.toNat y)) none))
  | .arraylength => ab_p1 2 st fun x r => cond (Nat.beq (pg_ar P μ x.toNat).1 0) none (go (pc + len) L ((0, ((pg_ar P μ x.toNat).2 : Int)) :: r) μ)
  | .new _ => cond (pg_ob P (ab_al μ q.2.1) (μ 0 0).toNat q.1) (if ab_rm μ q.2.1 then go (pc + len) L ((2, μ 0 0) :: st) (ab_al μ q.2.1) else none) none
  | .newarray _ => ab_p1 0 st fun n r => cond (Nat.beq q.2.2.1 0) none (cond (Nat.beq (pg_ar P (ab_al μ n.toNat) (μ 0 0).toNat).1 q.2.2.1) (if 0 ≤ n ∧ n = (pg_ar P (ab_al μ n.toNat) (μ 0 0).toNat).2 ∧ ab_rm μ n.toNat then go (pc + len) L ((2, μ 0 0) :: r) (ab_al μ n.toNat) else none) none)
  | .anewarray _ => ab_p1 0 st fun n r => cond (Nat.beq q.2.2.1 0) none (cond (Nat.beq (pg_ar P (ab_al μ n.toNat) (μ 0 0).toNat).1 q.2.2.1) (if 0 ≤ n ∧ n = (pg_ar P (ab_al μ n.toNat) (μ 0 0).toNat).2 ∧ ab_rm μ n.toNat then go (pc + len) L ((2, μ 0 0) :: r) (ab_al μ n.toNat) else none) none)
  | .athrow => ab_p1 2 st fun x _ => cond (pg_ob P μ x.toNat q.1) (match pg_hn P k pc with
    | some h => go h L [(2, x)] μ
    | none => some ((4, x), μ)) none
  | .ireturn => ab_p1 0 st fun x w => ab_nil w (ab_fit (pg_mt P k).2 x (some ((0, x), μ)))
  | .lreturn => ab_p1 1 st fun x w => ab_nil w (some ((1, x), μ))
  | .areturn => ab_p1 2 st fun x w => ab_nil w (some ((2, x), μ))
  | .return_ => ab_nil st (some ((3, 0), μ))
  | .invokevirtual _ => ab_takes q.2.1 [] st fun as r => ab_sh 16 r (ab_recv P μ q.2.2.1 as (ab_cal (cl q.1 as μ) q.2.2.2.toNat (fun x μ => match pg_hn P k pc with
    | some h => go h L [(2, x)] μ
    | none => some ((4, x), μ)) (fun x μ => cond (Nat.beq q.2.2.2.toNat 3) (go (pc + len) L r μ) (go (pc + len) L ((q.2.2.2.toNat, x) :: r) μ))))
  | .invokespecial _ => ab_takes q.2.1 [] st fun as r => ab_sh 16 r (ab_recv P μ q.2.2.1 as (ab_cal (cl q.1 as μ) q.2.2.2.toNat (fun x μ => match pg_hn P k pc with
    | some h => go h L [(2, x)] μ
    | none => some ((4, x), μ)) (fun x μ => cond (Nat.beq q.2.2.2.toNat 3) (go (pc + len) L r μ) (go (pc + len) L ((q.2.2.2.toNat, x) :: r) μ))))
  | .invokestatic _ => ab_takes q.2.1 [] st fun as r => ab_sh 16 r (ab_cal (cl q.1 as μ) q.2.2.2.toNat (fun x μ => match pg_hn P k pc with
    | some h => go h L [(2, x)] μ
    | none => some ((4, x), μ)) (fun x μ => cond (Nat.beq q.2.2.2.toNat 3) (go (pc + len) L r μ) (go (pc + len) L ((q.2.2.2.toNat, x) :: r) μ)))
  | _ => none
/-- instructions of one stretch (up to a cut point): R is the machine, C the callees, cd and mk the method's code and cut points -/
noncomputable def ab_runJ (P : ab_Pg) (cd : Nat → Option (Instr × Nat × ab_K)) (mk : Nat → Option (List Bool)) (R : Nat → Nat → List ab_V → List ab_V → ab_M → ab_R) (C : Nat → List ab_V → ab_M → ab_R) : Nat → Nat → Nat → List ab_V → List ab_V → ab_M → ab_R
  | 0, _, _, _, _, _ => none
  | j + 1, k, pc, L, st, μ => match cd pc with
    | none => none
    | some q => ab_stp P k pc q.1 q.2.1 q.2.2 L st μ (fun pc' L' st' μ' => match mk pc' with
      | some m => R k pc' (ab_mask m L') st' μ'
      | none => ab_runJ P cd mk R C j k pc' L' st' μ') C
def ab_call (P : ab_Pg) (R : Nat → Nat → List ab_V → List ab_V → ab_M → ab_R) (k : Nat) (as : List ab_V) (μ : ab_M) : ab_R := match pg_pr P k with
  | some f => f as μ
  | none => cond (Nat.ble (ab_args as).length (pg_mt P k).1) (R k 0 (ab_entry (pg_mt P k).1 as) [] μ) none
abbrev ab_F : Type := Nat → Nat → Nat → List ab_V → List ab_V → ab_M → ab_R
noncomputable def ab_step (P : ab_Pg) (f : ab_F) : ab_F := fun d k pc L st μ => match d with
  | 0 => none
  | d + 1 => ab_runJ P (pg_code P k) (pg_mk P k) (f (d + 1)) (ab_call P (f d)) 30000 k pc L st μ
/-! it is monotone -/
def ab_le (x y : ab_R) : Prop := x = none ∨ x = y
theorem ab_le_r (x : ab_R) : ab_le x x := Or.inr rfl
theorem ab_le_n (x : ab_R) : ab_le none x := Or.inl rfl
theorem ab_le_p1 {t : Nat} {st : List ab_V} {f g : Int → List ab_V → ab_R} (h : ∀ x r, ab_le (f x r) (g x r)) : ab_le (ab_p1 t st f) (ab_p1 t st g) := by
  unfold ab_p1
  cases st with
  | nil => exact ab_le_r _
  | cons v r =>
    obtain ⟨t', x⟩ := v
    dsimp only
    cases Nat.beq t' t with
    | true => exact h _ _
    | false => exact ab_le_r _
theorem ab_le_ld {L : List ab_V} {i t : Nat} {f g : Int → ab_R} (h : ∀ x, ab_le (f x) (g x)) : ab_le (ab_ld L i t f) (ab_ld L i t g) := by
  unfold ab_ld
  cases ab_nth L i with
  | none => exact ab_le_r _
  | some v =>
    obtain ⟨t', x⟩ := v
    dsimp only
    cases Nat.beq t' t with
    | true => exact h _
    | false => exact ab_le_r _
theorem ab_le_pop {st : List ab_V} {f g : ab_V → List ab_V → ab_R} (h : ∀ x r, ab_le (f x r) (g x r)) : ab_le (ab_pop st f) (ab_pop st g) := by
  unfold ab_pop
  cases st with
  | nil => exact ab_le_r _
  | cons v r => exact h _ _
theorem ab_le_c {b : Bool} {x y x' y' : ab_R} (h : ab_le x x') (h2 : ab_le y y') : ab_le (cond b x y) (cond b x' y') := by
  cases b with
  | true => exact h
  | false => exact h2
theorem ab_le_if {c : Prop} [Decidable c] {x y x' y' : ab_R} (h : ab_le x x') (h2 : ab_le y y') : ab_le (if c then x else y) (if c then x' else y') := by
  by_cases q : c
  · rw [if_pos q, if_pos q]; exact h
  · rw [if_neg q, if_neg q]; exact h2
theorem ab_le_takes {f g : List ab_V → List ab_V → ab_R} (h : ∀ x r, ab_le (f x r) (g x r)) : ∀ (n : Nat) (acc st : List ab_V), ab_le (ab_takes n acc st f) (ab_takes n acc st g)
  | 0, acc, st => h acc st
  | n + 1, acc, st => by
    unfold ab_takes
    exact ab_le_pop fun v r => ab_le_c (ab_le_takes h n _ _) (ab_le_r _)
theorem ab_le_sh {x y : ab_R} (h : ab_le x y) : ∀ (n : Nat) (r : List ab_V), ab_le (ab_sh n r x) (ab_sh n r y)
  | 0, [] => h
  | n + 1, [] => h
  | 0, _ :: _ => ab_le_r _
  | n + 1, _ :: r => ab_le_sh h n r
theorem ab_le_br {c : ClassFile.Cond} {x y : Int} {A B A' B' : ab_R} (h : ab_le A A') (h2 : ab_le B B') : ab_le (ab_br c x y A B) (ab_br c x y A' B') := by
  cases c <;> unfold ab_br <;> first | exact ab_le_if h h2 | exact ab_le_if h2 h
theorem ab_le_fit {ty : Nat} {x : Int} {A A' : ab_R} (h : ab_le A A') : ab_le (ab_fit ty x A) (ab_fit ty x A') := by
  unfold ab_fit
  split <;> first | exact ab_le_if h (ab_le_r _) | exact h
theorem ab_le_cal {x x' : ab_R} {t : Nat} {f g f' g' : Int → ab_M → ab_R} (h : ab_le x x') (hf : ∀ x r, ab_le (f x r) (f' x r)) (hg : ∀ x r, ab_le (g x r) (g' x r)) : ab_le (ab_cal x t f g) (ab_cal x' t f' g') := by
  rcases h with rfl | rfl
  · exact ab_le_n _
  · cases x with
    | none => exact ab_le_r _
    | some q => exact ab_le_c (hf _ _) (ab_le_c (hg _ _) (ab_le_r _))
theorem ab_le_sw {x : Int} {f g : Int → ab_R} (h : ∀ o, ab_le (f o) (g o)) {d : Int} : ∀ l : List (Int × Int), ab_le (ab_sw x l f d) (ab_sw x l g d)
  | [] => h _
  | q :: r => ab_le_if (h _) (ab_le_sw h r)
theorem ab_le_ix {P : ab_Pg} {μ : ab_M} {x i : Int} {ty : Nat} {A A' : ab_R} (h : ab_le A A') : ab_le (ab_ix P μ x i ty A) (ab_ix P μ x i ty A') := ab_le_c (ab_le_r _) (ab_le_c (ab_le_if h (ab_le_r _)) (ab_le_r _))
theorem ab_le_i2 {st : List ab_V} {f g : Int → Int → List ab_V → ab_R} (h : ∀ x y r, ab_le (f x y r) (g x y r)) : ab_le (ab_i2 st f) (ab_i2 st g) := ab_le_p1 fun _ _ => ab_le_p1 fun _ _ => h _ _ _
theorem ab_le_l2 {st : List ab_V} {f g : Int → Int → List ab_V → ab_R} (h : ∀ x y r, ab_le (f x y r) (g x y r)) : ab_le (ab_l2 st f) (ab_l2 st g) := ab_le_p1 fun _ _ => ab_le_p1 fun _ _ => h _ _ _
theorem ab_le_ls {st : List ab_V} {f g : Int → Int → List ab_V → ab_R} (h : ∀ x y r, ab_le (f x y r) (g x y r)) : ab_le (ab_ls st f) (ab_ls st g) := ab_le_p1 fun _ _ => ab_le_p1 fun _ _ => h _ _ _
theorem ab_le_recv {P : ab_Pg} {μ : ab_M} {c : Nat} {as : List ab_V} {A A' : ab_R} (h : ab_le A A') : ab_le (ab_recv P μ c as A) (ab_recv P μ c as A') := by
  unfold ab_recv
  cases c with
  | zero => exact h
  | succ c => cases as with
    | nil => exact ab_le_r _
    | cons v r => exact ab_le_c h (ab_le_r _)
theorem ab_le_one {v : ab_V} {A A' : ab_R} (h : ab_le A A') : ab_le (ab_one v A) (ab_one v A') := ab_le_c (ab_le_r _) (ab_le_c h (ab_le_r _))
theorem ab_le_two {v : ab_V} {A A' : ab_R} (h : ab_le A A') : ab_le (ab_two v A) (ab_two v A') := ab_le_c h (ab_le_r _)
theorem ab_le_hn {o : Option Nat} {f g : Nat → ab_R} {x : ab_R} (h : ∀ a, ab_le (f a) (g a)) : ab_le (match o with
  | some q => f q
  | none => x) (match o with
  | some q => g q
  | none => x) := by
  cases o with
  | none => exact ab_le_r _
  | some q => exact h q
set_option maxHeartbeats 4000000 in
theorem ab_stp_mono {P : ab_Pg} {k pc : Nat} {i : Instr} {len : Nat} {q : ab_K} {L st : List ab_V} {μ : ab_M} {go go' : Nat → List ab_V → List ab_V → ab_M → ab_R} {cl cl' : Nat → List ab_V → ab_M → ab_R} (hgo : ∀ a b c e, ab_le (go a b c e) (go' a b c e)) (hcl : ∀ a b c, ab_le (cl a b c) (cl' a b c)) : ab_le (ab_stp P k pc i len q L st μ go cl) (ab_stp P k pc i len q L st μ go' cl') := by
  cases i <;> dsimp only [ab_stp] <;> first
    | exact ab_le_r _
    | exact hgo _ _ _ _
    | exact ab_le_ld fun _ => hgo _ _ _ _
    | exact ab_le_i2 fun _ _ _ => hgo _ _ _ _
    | exact ab_le_l2 fun _ _ _ => hgo _ _ _ _
    | exact ab_le_ls fun _ _ _ => hgo _ _ _ _
    | exact ab_le_p1 fun _ _ => hgo _ _ _ _
    | exact ab_le_i2 fun _ _ _ => ab_le_if (ab_le_r _) (hgo _ _ _ _)
    | exact ab_le_l2 fun _ _ _ => ab_le_if (ab_le_r _) (hgo _ _ _ _)
    | exact ab_le_pop fun _ _ => ab_le_one (hgo _ _ _ _)
    | exact ab_le_pop fun _ _ => ab_le_two (hgo _ _ _ _)
    | exact ab_le_pop fun _ _ => ab_le_pop fun _ _ => ab_le_one (ab_le_one (hgo _ _ _ _))
    | exact ab_le_pop fun _ _ => ab_le_pop fun _ _ => ab_le_two (ab_le_one (hgo _ _ _ _))
    | exact ab_le_pop fun _ _ => ab_le_c (hgo _ _ _ _) (ab_le_pop fun _ _ => ab_le_one (ab_le_one (hgo _ _ _ _)))
    | exact ab_le_p1 fun _ _ => ab_le_br (hgo _ _ _ _) (hgo _ _ _ _)
    | exact ab_le_i2 fun _ _ _ => ab_le_br (hgo _ _ _ _) (hgo _ _ _ _)
    | exact ab_le_p1 fun _ _ => ab_le_if (hgo _ _ _ _) (hgo _ _ _ _)
    | (refine ab_le_p1 fun _ _ => ab_le_p1 fun _ _ => ?_; split <;> exact ab_le_if (hgo _ _ _ _) (hgo _ _ _ _))
    | exact ab_le_p1 fun _ _ => ab_le_sw (fun _ => hgo _ _ _ _) _
    | exact ab_le_p1 fun _ _ => ab_le_c (hgo _ _ _ _) (ab_le_r _)
    | exact ab_le_p1 fun _ _ => ab_le_c (ab_le_c (hgo _ _ _ _) (hgo _ _ _ _)) (ab_le_r _)
    | exact ab_le_p1 fun _ _ => ab_le_c (ab_le_r _) (hgo _ _ _ _)
    | exact ab_le_p1 fun _ _ => ab_le_p1 fun _ _ => ab_le_c (ab_le_c (ab_le_r _) (ab_le_fit (hgo _ _ _ _))) (ab_le_r _)
    | exact ab_le_p1 fun _ _ => ab_le_p1 fun _ _ => ab_le_ix (hgo _ _ _ _)
    | exact ab_le_p1 fun _ _ => ab_le_p1 fun _ _ => ab_le_ix (ab_le_c (hgo _ _ _ _) (hgo _ _ _ _))
    | exact ab_le_p1 fun _ _ => ab_le_p1 fun _ _ => ab_le_p1 fun _ _ => ab_le_ix (hgo _ _ _ _)
    | (refine ab_le_p1 fun _ _ => ab_le_p1 fun _ _ => ab_le_p1 fun _ _ => ab_le_ix ?_; split <;> first | exact ab_le_if (hgo _ _ _ _) (ab_le_r _) | exact hgo _ _ _ _)
    | exact ab_le_p1 fun _ _ => ab_le_p1 fun _ _ => ab_le_p1 fun _ _ => ab_le_ix (ab_le_c (ab_le_r _) (ab_le_if (hgo _ _ _ _) (ab_le_c (hgo _ _ _ _) (ab_le_r _))))
    | exact ab_le_c (ab_le_if (hgo _ _ _ _) (ab_le_r _)) (ab_le_r _)
    | exact ab_le_p1 fun _ _ => ab_le_c (ab_le_if (hgo _ _ _ _) (ab_le_r _)) (ab_le_r _)
    | exact ab_le_p1 fun _ _ => ab_le_c (ab_le_r _) (ab_le_c (ab_le_if (hgo _ _ _ _) (ab_le_r _)) (ab_le_r _))
    | exact ab_le_p1 fun _ _ => ab_le_c (ab_le_hn fun _ => hgo _ _ _ _) (ab_le_r _)
    | exact ab_le_takes (fun _ _ => ab_le_sh (ab_le_recv (ab_le_cal (hcl _ _ _) (fun _ _ => ab_le_hn fun _ => hgo _ _ _ _) (fun _ _ => ab_le_c (hgo _ _ _ _) (hgo _ _ _ _)))) _ _) _ _ _
    | exact ab_le_takes (fun _ _ => ab_le_sh (ab_le_cal (hcl _ _ _) (fun _ _ => ab_le_hn fun _ => hgo _ _ _ _) (fun _ _ => ab_le_c (hgo _ _ _ _) (hgo _ _ _ _))) _ _) _ _ _
theorem ab_runJ_mono {P : ab_Pg} {cd : Nat → Option (Instr × Nat × ab_K)} {mk : Nat → Option (List Bool)} {R R' : Nat → Nat → List ab_V → List ab_V → ab_M → ab_R} {C C' : Nat → List ab_V → ab_M → ab_R} (hR : ∀ a b c e f, ab_le (R a b c e f) (R' a b c e f)) (hC : ∀ a b c, ab_le (C a b c) (C' a b c)) : ∀ (j k pc : Nat) (L st : List ab_V) (μ : ab_M), ab_le (ab_runJ P cd mk R C j k pc L st μ) (ab_runJ P cd mk R' C' j k pc L st μ)
  | 0, _, _, _, _, _ => ab_le_r _
  | j + 1, k, pc, L, st, μ => by
    unfold ab_runJ
    cases cd pc with
    | none => exact ab_le_r _
    | some q =>
      refine ab_stp_mono (fun a b c e => ?_) hC
      cases mk a with
      | none => exact ab_runJ_mono hR hC j _ _ _ _ _
      | some m => exact hR _ _ _ _ _
theorem ab_rel {x y : ab_R} (h : Lean.Order.FlatOrder.rel (b := (none : ab_R)) x y) : ab_le x y := by
  cases h with
  | bot => exact Or.inl rfl
  | refl => exact Or.inr rfl
theorem ab_mono (P : ab_Pg) : Lean.Order.monotone (ab_step P) := by
  intro f g h d k pc L st μ
  have h : ∀ d k pc L st μ, ab_le (f d k pc L st μ) (g d k pc L st μ) := by
    intro d k pc L st μ
    exact ab_rel (h d k pc L st μ)
  have q : ab_le (ab_step P f d k pc L st μ) (ab_step P g d k pc L st μ) := by
    cases d with
    | zero => exact ab_le_r _
    | succ d =>
      refine ab_runJ_mono (fun a b c e f => h _ _ _ _ _ _) (fun a b c => ?_) _ _ _ _ _ _
      unfold ab_call
      cases pg_pr P a with
      | none => exact ab_le_c (h _ _ _ _ _ _) (ab_le_r _)
      | some z => exact ab_le_r _
  rcases q with q | q
  · rw [q]; exact Lean.Order.FlatOrder.rel.bot
  · rw [q]; exact Lean.Order.FlatOrder.rel.refl
/-- THE MACHINE: depth d, method k at pc, locals, stack, memory -/
noncomputable def ab_run (P : ab_Pg) : ab_F := Lean.Order.fix (ab_step P) (ab_mono P)
theorem ab_eq (P : ab_Pg) {cd : Nat → Option (Instr × Nat × ab_K)} {mk : Nat → Option (List Bool)} (d k pc : Nat) (L st : List ab_V) (μ : ab_M) (hc : pg_code P k = cd) (hm : pg_mk P k = mk) : ab_run P (d + 1) k pc L st μ = ab_runJ P cd mk (ab_run P (d + 1)) (ab_call P (ab_run P d)) 30000 k pc L st μ := by
  subst hc hm
  have h : ab_run P = ab_step P (ab_run P) := Lean.Order.fix_eq (ab_mono P)
  have h2 := congrFun (congrFun (congrFun (congrFun (congrFun (congrFun h (d + 1)) k) pc) L) st) μ
  exact h2
