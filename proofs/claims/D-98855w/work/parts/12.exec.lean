/-! THE RUN: one step of an instruction; calls; ends -/
set_option maxRecDepth 100000
def f_v (w : Wd) (a k kd : Nat) : Vl := if kd = 1 then v_L (w_l w a k) else if kd = 2 then v_R (w_r w a k) else v_I (w_i w a k)
def p_v (w : Wd) (a k kd : Nat) (v : Vl) : Option Wd := match v with
  | Sum.inl x => if kd = 0 then some (s_i w a k x) else if (kd = 3 ∨ kd = 4 ∨ kd = 5) ∧ k_o kd x = true then some (s_i w a k x) else none
  | Sum.inr (Sum.inl x) => if kd = 1 then some (s_l w a k x) else none
  | Sum.inr (Sum.inr o) => if kd = 2 then some (s_r w a k o) else none
def i_c (c : Jvm.ClassFile.Cond) (x y : Int32) : Bool := match c with
  | .eq => decide (x = y)
  | .ne => decide (¬ x = y)
  | .lt => decide (x < y)
  | .ge => decide (y ≤ x)
  | .gt => decide (y < x)
  | .le => decide (x ≤ y)
def z_c (c : Jvm.ClassFile.Cond) (x : Int32) : Bool := match c with
  | .eq => decide (x = 0)
  | .ne => decide (¬ x = 0)
  | .lt => decide (x < 0)
  | .ge => decide (0 ≤ x)
  | .gt => decide (0 < x)
  | .le => decide (x ≤ 0)
/-- references that may be compared; that are known to be some or none -/
def q_k (o : Option Nat) : Bool := match o with
  | none => true
  | some a => decide (1000 ≤ a ∨ a < 232)
def q_q (o p : Option Nat) : Bool := match o, p with
  | some a, some b => decide (((1000 ≤ a ∨ 1000 ≤ b) ∧ a ≠ 230 ∧ b ≠ 230) ∨ a = b ∨ (210 ≤ a ∧ a < 215 ∧ 210 ≤ b ∧ b < 215)) && q_k (some a) && q_k (some b)
  | o, p => q_k o && q_k p
def a_t (t : ArrayType) : Nat := match t with
  | .int => 1
  | .byte => 2
  | .boolean => 3
  | .long => 4
  | _ => 0
/-- where a switch goes -/
def t_s (dflt lo hi : Int) (offs : Array Int) (x : Int32) : Option Int := if x.toInt < lo ∨ hi < x.toInt then some dflt else offs[(x.toInt - lo).toNat]?
abbrev St_ : Type := Nat × List (Option Vl) × List Vl × Wd
def g_o (b : Bool) (pc : Nat) (off : Int) (pc2 : Nat) (ls : List (Option Vl)) (r : List Vl) (w : Wd) : Option St_ :=
  if j_k pc off = true then (if b = true then some (j_t pc off, ls, r, w) else some (pc2, ls, r, w)) else none
/-- a load -/
def ld_ (ls : List (Option Vl)) (k pc2 : Nat) (kd : Nat) (st : List Vl) (w : Wd) : Option St_ := match ls[k]? with
  | some (some (Sum.inl x)) => if kd = 0 then some (pc2, ls, v_I x :: st, w) else none
  | some (some (Sum.inr (Sum.inl x))) => if kd = 1 then some (pc2, ls, v_L x :: st, w) else none
  | some (some (Sum.inr (Sum.inr o))) => if kd = 2 then some (pc2, ls, v_R o :: st, w) else none
  | _ => none
/-- a store -/
def sv_ (ls : List (Option Vl)) (k pc2 : Nat) (kd : Nat) (st : List Vl) (w : Wd) : Option St_ := match st with
  | Sum.inl x :: r => if kd = 0 ∧ k < ls.length then some (pc2, l_set ls k (v_I x), r, w) else none
  | Sum.inr (Sum.inl x) :: r => if kd = 1 ∧ k + 1 < ls.length then some (pc2, l_set2 ls k (v_L x), r, w) else none
  | Sum.inr (Sum.inr o) :: r => if kd = 2 ∧ k < ls.length then some (pc2, l_set ls k (v_R o), r, w) else none
  | _ => none
/-- an int of two -/
def b_2 (f : Int32 → Int32 → Int32) (pc : Nat) (ls : List (Option Vl)) (st : List Vl) (w : Wd) : Option St_ := match st with
  | Sum.inl y :: Sum.inl x :: r => some (pc + 1, ls, v_I (f x y) :: r, w)
  | _ => none
def b_1 (f : Int32 → Vl) (pc : Nat) (ls : List (Option Vl)) (st : List Vl) (w : Wd) : Option St_ := match st with
  | Sum.inl x :: r => some (pc + 1, ls, f x :: r, w)
  | _ => none
/-- nothing, or an object -/
def r_k (w : Wd) (o : Option Nat) : Bool := match o with
  | none => true
  | some b => decide (20 ≤ w_t w b)
/-- a copy of a stretch -/
def cp_ (w : Wd) (s d : Nat) (sp dp n : Int32) : Option Wd :=
  if ¬ sp < 0 ∧ ¬ dp < 0 ∧ ¬ n < 0 ∧ sp.toNatClampNeg + n.toNatClampNeg ≤ w_n w s ∧ dp.toNatClampNeg + n.toNatClampNeg ≤ w_n w d then
    (if (w_t w s = 1 ∧ w_t w d = 1) ∨ (w_t w s = 2 ∧ w_t w d = 2) then some (s_I w d (va_cpy (w_i w s) (w_i w d) sp.toNatClampNeg dp.toNatClampNeg n.toNatClampNeg))
     else if w_t w s = 5 ∧ w_t w d = 5 ∧ (List.range n.toNatClampNeg).all (fun i => r_k w (w_r w s (sp.toNatClampNeg + i))) = true then some (s_R w d (va_cpy (w_r w s) (w_r w d) sp.toNatClampNeg dp.toNatClampNeg n.toNatClampNeg)) else none)
  else none
/-- natives and super constructors, done at once -/
def na_1 (st : List Vl) (w : Wd) : Option (List Vl × Wd) := match st with
  | Sum.inl n :: Sum.inl dp :: Sum.inr (Sum.inr (some d)) :: Sum.inl sp :: Sum.inr (Sum.inr (some s)) :: r => match cp_ w s d sp dp n with
    | some w1 => some (r, w1)
    | none => none
  | _ => none
def na_2 (st : List Vl) (w : Wd) : Option (List Vl × Wd) := match st with
  | Sum.inr (Sum.inr (some a)) :: r => if 20 ≤ w_t w a then some (r, w) else none
  | _ => none
def na_3 (st : List Vl) (w : Wd) : Option (List Vl × Wd) := match st with
  | Sum.inr (Sum.inr (some a)) :: r => if w_t w a = 5 then some (v_R (some 230) :: r, w) else none
  | _ => none
def na_4 (st : List Vl) (w : Wd) : Option (List Vl × Wd) := match st with
  | Sum.inr (Sum.inr (some a)) :: r => if w_t w a = 2 then some (v_R (some (w_z w)) :: r, s_I (s_n w 2 (w_n w a)) (w_z w) (w_i w a)) else none
  | _ => none
def na_9 (st : List Vl) (w : Wd) : Option (List Vl × Wd) := match st with
  | Sum.inr (Sum.inr (some a)) :: r => if w_t w a = 15 then some (v_R (some (w_z w)) :: r, s_R (s_n w 7 (w_n w a)) (w_z w) (w_r w a)) else none
  | _ => none
def na_5 (st : List Vl) (w : Wd) : Option (List Vl × Wd) := match st with
  | Sum.inr (Sum.inr (some a)) :: r => if w_t w a = 27 then some (r, s_i (s_i (s_t w a 41) a 0 (w_i w a 6)) a 1 (w_i w a 7)) else none
  | _ => none
def na_6 (st : List Vl) (w : Wd) : Option (List Vl × Wd) := match st with
  | Sum.inl y :: Sum.inl x :: r => some (v_I (if x < y then y else x) :: r, w)
  | _ => none
def na_7 (st : List Vl) (w : Wd) : Option (List Vl × Wd) := match st with
  | Sum.inl y :: Sum.inl x :: r => some (v_I (if y < x then y else x) :: r, w)
  | _ => none
def na_8 (st : List Vl) (w : Wd) : Option (List Vl × Wd) := match st with
  | Sum.inl x :: r => some (v_I (if 0 ≤ x then x else 0 - x) :: r, w)
  | _ => none
def nt_ (b : Nat) (st : List Vl) (w : Wd) : Option (List Vl × Wd) := match b with
  | 1 => na_1 st w
  | 2 => na_2 st w
  | 3 => na_3 st w
  | 4 => na_4 st w
  | 5 => na_5 st w
  | 6 => na_6 st w
  | 7 => na_7 st w
  | 8 => na_8 st w
  | 9 => na_9 st w
  | _ => none
def n_2 (pc : Nat) (ls : List (Option Vl)) (rs : Option (List Vl × Wd)) (b : Bool) : Option St_ := match rs with
  | some (r, w) => if b = true then some (pc + 3, ls, r, w) else none
  | none => none
/-- a stack small enough below a call -/
def s_8 (r : List Vl) : Bool := decide ((r.map v_c).sum ≤ 8)
def nt_a (b : Nat) (st : List Vl) : Bool := s_8 (st.drop (if b = 1 then 5 else if b = 6 ∨ b = 7 then 2 else 1))
/-- a fault made whole, in check -/
def f_n (ls : List (Option Vl)) (st : List Vl) (w : Wd) : Option St_ := match st, ls[2]?, ls[0]? with
  | [], some (some (Sum.inl k)), some (some (Sum.inr (Sum.inr (some a)))) => if w_t w a = 26 then some (16, ls, [v_R (some (w_z w))], s_i (s_i (s_n w 41 8) (w_z w) 0 k) (w_z w) 1 (w_i w a 3)) else none
  | _, _, _ => none
def s_1 (m : Nat) (i : Instr) (pc : Nat) (ls : List (Option Vl)) (st : List Vl) (w : Wd) : Option St_ :=
  match i with
  | .iconst n => some (pc + 1, ls, v_I (Int32.ofInt n) :: st, w)
  | .bipush n => some (pc + 2, ls, v_I (Int8.ofInt n).toInt32 :: st, w)
  | .sipush n => some (pc + 3, ls, v_I (Int16.ofInt n).toInt32 :: st, w)
  | .lconst n => some (pc + 1, ls, v_L (Int64.ofNat n) :: st, w)
  | .aconst_null => some (pc + 1, ls, v_R none :: st, w)
  | .iload_n k => ld_ ls k (pc + 1) 0 st w
  | .iload k => ld_ ls k (pc + 2) 0 st w
  | .lload_n k => ld_ ls k (pc + 1) 1 st w
  | .lload k => ld_ ls k (pc + 2) 1 st w
  | .aload_n k => ld_ ls k (pc + 1) 2 st w
  | .aload k => ld_ ls k (pc + 2) 2 st w
  | .istore_n k => sv_ ls k (pc + 1) 0 st w
  | .istore k => sv_ ls k (pc + 2) 0 st w
  | .lstore_n k => sv_ ls k (pc + 1) 1 st w
  | .lstore k => sv_ ls k (pc + 2) 1 st w
  | .astore_n k => sv_ ls k (pc + 1) 2 st w
  | .astore k => sv_ ls k (pc + 2) 2 st w
  | .iinc k n => match ls[k]? with
    | some (some (Sum.inl x)) => some (pc + 3, l_set ls k (v_I (x + Int32.ofInt n)), st, w)
    | _ => none
  | .iadd => b_2 (fun x y => x + y) pc ls st w
  | .isub => b_2 (fun x y => x - y) pc ls st w
  | .imul => b_2 (fun x y => x * y) pc ls st w
  | .iand => b_2 (fun x y => x &&& y) pc ls st w
  | .ior => b_2 (fun x y => x ||| y) pc ls st w
  | .ixor => b_2 (fun x y => x ^^^ y) pc ls st w
  | .ishl => b_2 (fun x y => x <<< (y &&& 31)) pc ls st w
  | .ishr => b_2 (fun x y => x >>> (y &&& 31)) pc ls st w
  | .iushr => b_2 (fun x y => (x.toUInt32 >>> (y.toUInt32 &&& Int32.toUInt32 31)).toInt32) pc ls st w
  | .idiv => match st with
    | Sum.inl y :: Sum.inl x :: r => if y = 0 then none else some (pc + 1, ls, v_I (x / y) :: r, w)
    | _ => none
  | .irem => match st with
    | Sum.inl y :: Sum.inl x :: r => if y = 0 then none else some (pc + 1, ls, v_I (x - x / y * y) :: r, w)
    | _ => none
  | .ineg => b_1 (fun x => v_I (-x)) pc ls st w
  | .i2l => b_1 (fun x => v_L x.toInt64) pc ls st w
  | .i2b => b_1 (fun x => v_I x.toInt8.toInt32) pc ls st w
  | .i2c => b_1 (fun x => v_I (x.toUInt32 % 65536).toInt32) pc ls st w
  | .ladd => match st with
    | Sum.inr (Sum.inl y) :: Sum.inr (Sum.inl x) :: r => some (pc + 1, ls, v_L (x + y) :: r, w)
    | _ => none
  | .lcmp => match st with
    | Sum.inr (Sum.inl y) :: Sum.inr (Sum.inl x) :: r => some (pc + 1, ls, v_I (lg_cmp x y) :: r, w)
    | _ => none
  | .dup => match st with
    | v :: r => if v_c v = 1 then some (pc + 1, ls, v :: v :: r, w) else none
    | _ => none
  | .pop => match st with
    | v :: r => if v_c v = 1 then some (pc + 1, ls, r, w) else none
    | _ => none
  | .dup_x1 => match st with
    | v :: u :: r => if v_c v = 1 ∧ v_c u = 1 then some (pc + 1, ls, v :: u :: v :: r, w) else none
    | _ => none
  | .dup2 => match st with
    | v :: u :: r => if v_c v = 1 ∧ v_c u = 1 then some (pc + 1, ls, v :: u :: v :: u :: r, w) else none
    | _ => none
  | .goto off => g_o true pc off pc ls st w
  | .ifCond c off => match st with
    | Sum.inl x :: r => g_o (z_c c x) pc off (pc + 3) ls r w
    | _ => none
  | .if_icmp c off => match st with
    | Sum.inl y :: Sum.inl x :: r => g_o (i_c c x y) pc off (pc + 3) ls r w
    | _ => none
  | .if_acmp .eq off => match st with
    | Sum.inr (Sum.inr y) :: Sum.inr (Sum.inr x) :: r => if q_q x y = true then g_o (decide (x = y)) pc off (pc + 3) ls r w else none
    | _ => none
  | .if_acmp .ne off => match st with
    | Sum.inr (Sum.inr y) :: Sum.inr (Sum.inr x) :: r => if q_q x y = true then g_o (decide (¬ x = y)) pc off (pc + 3) ls r w else none
    | _ => none
  | .ifnull off => match st with
    | Sum.inr (Sum.inr x) :: r => if q_k x = true then g_o x.isNone pc off (pc + 3) ls r w else none
    | _ => none
  | .ifnonnull off => match st with
    | Sum.inr (Sum.inr x) :: r => if q_k x = true then g_o x.isSome pc off (pc + 3) ls r w else none
    | _ => none
  | .tableswitch dflt lo hi offs => match st with
    | Sum.inl x :: r => match t_s dflt lo hi offs x with
      | some off => g_o true pc off pc ls r w
      | none => none
    | _ => none
  | .getfield idx => match st with
    | Sum.inr (Sum.inr (some a)) :: r => match lk_3 f_T (o_m m) idx (w_t w a) with
      | some (k, kd, _) => some (pc + 3, ls, f_v w a k kd :: r, w)
      | none => none
    | _ => none
  | .putfield idx => match st with
    | v :: Sum.inr (Sum.inr (some a)) :: r => match lk_3 f_T (o_m m) idx (w_t w a) with
      | some (k, kd, fin) => if (fin = true → (m_y m).name = "<init>" ∧ ((c_e (w_t w a - 20)).2.1 k).1 = o_s (o_m m)) ∧ 20 ≤ w_t w a then (match p_v w a k kd v with
        | some w1 => some (pc + 3, ls, r, w1)
        | none => none) else none
      | none => none
    | _ => none
  | .getstatic idx => match lk_2 g_T (o_m m) idx with
    | some v => some (pc + 3, ls, v :: st, w)
    | none => none
  | .ldc idx => match lk_2 l_T (o_m m) idx with
    | some v => if v_c v = 1 then some (pc + 2, ls, v :: st, w) else none
    | none => none
  | .ldc_w idx => match lk_2 l_T (o_m m) idx with
    | some v => if v_c v = 1 ∧ v ≠ v_R (some 230) then some (pc + 3, ls, v :: st, w) else none
    | none => none
  | .ldc2_w idx => match lk_2 l_T (o_m m) idx with
    | some v => if v_c v = 2 then some (pc + 3, ls, v :: st, w) else none
    | none => none
  | .new idx => if m = 273 ∧ pc = 4 then f_n ls st w else match lk_2 x_T m pc with
    | some t => if s_8 st = true then some (pc + 7, ls, v_R (some (w_z w)) :: st, s_n w t 6) else none
    | none => match lk_2 n_T (o_m m) idx with
      | some (t, n) => some (pc + 3, ls, v_R (some (w_z w)) :: st, s_n w t n)
      | none => none
  | .newarray t => match st with
    | Sum.inl n :: r => if ¬ n < 0 ∧ n.toNatClampNeg ≤ 100000 ∧ 1 ≤ a_t t then some (pc + 2, ls, v_R (some (w_z w)) :: r, s_n w (a_t t) n.toNatClampNeg) else none
    | _ => none
  | .anewarray idx => match st with
    | Sum.inl n :: r => match lk_2 a_T (o_m m) idx with
      | some t => if ¬ n < 0 ∧ n.toNatClampNeg ≤ 100000 then some (pc + 3, ls, v_R (some (w_z w)) :: r, s_n w t n.toNatClampNeg) else none
      | none => none
    | _ => none
  | .arraylength => match st with
    | Sum.inr (Sum.inr (some a)) :: r => if 1 ≤ w_t w a ∧ w_t w a ≤ 9 then some (pc + 1, ls, v_I (Int32.ofNat (w_n w a)) :: r, w) else none
    | _ => none
  | .iaload => match st with
    | Sum.inl j :: Sum.inr (Sum.inr (some a)) :: r => if (w_t w a = 1 ∨ w_t w a = 8) ∧ in_r j (w_n w a) = true then some (pc + 1, ls, v_I (w_i w a j.toNatClampNeg) :: r, w) else none
    | _ => none
  | .baload => match st with
    | Sum.inl j :: Sum.inr (Sum.inr (some a)) :: r => if (w_t w a = 2 ∨ w_t w a = 3 ∨ w_t w a = 9) ∧ in_r j (w_n w a) = true then some (pc + 1, ls, v_I (w_i w a j.toNatClampNeg) :: r, w) else none
    | _ => none
  | .laload => match st with
    | Sum.inl j :: Sum.inr (Sum.inr (some a)) :: r => if w_t w a = 4 ∧ in_r j (w_n w a) = true then some (pc + 1, ls, v_L (w_l w a j.toNatClampNeg) :: r, w) else none
    | _ => none
  | .aaload => match st with
    | Sum.inl j :: Sum.inr (Sum.inr (some a)) :: r => if (w_t w a = 5 ∨ w_t w a = 6) ∧ in_r j (w_n w a) = true then some (pc + 1, ls, v_R (w_r w a j.toNatClampNeg) :: r, w) else none
    | _ => none
  | .iastore => match st with
    | Sum.inl x :: Sum.inl j :: Sum.inr (Sum.inr (some a)) :: r => if w_t w a = 1 ∧ in_r j (w_n w a) = true then some (pc + 1, ls, r, s_i w a j.toNatClampNeg x) else none
    | _ => none
  | .bastore => match st with
    | Sum.inl x :: Sum.inl j :: Sum.inr (Sum.inr (some a)) :: r => if w_t w a = 2 ∧ in_r j (w_n w a) = true then some (pc + 1, ls, r, s_i w a j.toNatClampNeg (vp_nar .byte x)) else if w_t w a = 3 ∧ in_r j (w_n w a) = true then some (pc + 1, ls, r, s_i w a j.toNatClampNeg (vp_nar .boolean x)) else none
    | _ => none
  | .lastore => match st with
    | Sum.inr (Sum.inl x) :: Sum.inl j :: Sum.inr (Sum.inr (some a)) :: r => if w_t w a = 4 ∧ in_r j (w_n w a) = true then some (pc + 1, ls, r, s_l w a j.toNatClampNeg x) else none
    | _ => none
  | .aastore => match st with
    | Sum.inr (Sum.inr none) :: Sum.inl j :: Sum.inr (Sum.inr (some a)) :: r => if w_t w a = 5 ∧ in_r j (w_n w a) = true then some (pc + 1, ls, r, s_r w a j.toNatClampNeg none) else none
    | Sum.inr (Sum.inr (some b)) :: Sum.inl j :: Sum.inr (Sum.inr (some a)) :: r => if ((w_t w a = 5 ∧ 20 ≤ w_t w b) ∨ (w_t w a = 6 ∧ w_t w b = 18)) ∧ in_r j (w_n w a) = true then some (pc + 1, ls, r, s_r w a j.toNatClampNeg (some b)) else none
    | _ => none
  | .checkcast idx => match st with
    | Sum.inr (Sum.inr none) :: r => some (pc + 3, ls, st, w)
    | Sum.inr (Sum.inr (some a)) :: r => match lk_3 c_T (o_m m) idx (w_t w a) with
      | some _ => some (pc + 3, ls, st, w)
      | none => none
    | _ => none
  | .instanceof idx => match st with
    | Sum.inr (Sum.inr (some a)) :: r => match lk_3 c_T (o_m m) idx (w_t w a) with
      | some _ => if 8 ≤ w_t w a then some (pc + 3, ls, v_I 1 :: r, w) else none
      | none => none
    | _ => none
  | .invokestatic idx => match lk_2 b_T (o_m m) idx with
    | some b => n_2 pc ls (if b = 1 ∨ b = 6 ∨ b = 7 ∨ b = 8 then nt_ b st w else none) (nt_a b st)
    | none => none
  | .invokespecial idx => match lk_2 b_T (o_m m) idx with
    | some b => n_2 pc ls (if b = 2 then nt_ b st w else none) (nt_a b st)
    | none => none
  | .invokevirtual idx => match lk_2 b_T (o_m m) idx with
    | some b => n_2 pc ls (if b = 3 ∨ b = 4 ∨ b = 9 then nt_ b st w else none) (nt_a b st)
    | none => none
  | _ => none
/-- a call: the callee, its arguments, the stack below -/
def s_c (m : Nat) (i : Instr) (st : List Vl) (w : Wd) : Option (Nat × List Vl × List Vl) :=
  match i with
  | .invokestatic idx => match lk_2 s_T (o_m m) idx with
    | some t => if m_n t ≤ st.length ∧ s_8 (st.drop (m_n t)) = true then some (t, (st.take (m_n t)).reverse, st.drop (m_n t)) else none
    | none => none
  | .invokespecial idx => match lk_2 p_T (o_m m) idx with
    | some t => match st.drop (m_n t) with
      | Sum.inr (Sum.inr (some a)) :: r => if 20 ≤ w_t w a ∧ s_8 r = true then some (t, v_R (some a) :: (st.take (m_n t)).reverse, r) else none
      | _ => none
    | none => none
  | .invokevirtual idx => match lk_2 v_N (o_m m) idx with
    | some n => match st.drop n with
      | Sum.inr (Sum.inr (some a)) :: r => match lk_3 v_T (o_m m) idx (w_t w a) with
        | some t => if s_8 r = true ∧ m_n t = n then some (t, v_R (some a) :: (st.take n).reverse, r) else none
        | none => none
      | _ => none
    | none => none
  | _ => none
abbrev Rs : Type := Option Vl ⊕ Nat
/-- an end: an answer, or a throw -/
def s_e (m : Nat) (i : Instr) (st : List Vl) (w : Wd) : Option Rs :=
  match i with
  | .ireturn => match st with
    | [Sum.inl x] => if m_k m = 0 then some (Sum.inl (some (v_I x))) else if (m_k m = 3 ∨ m_k m = 4 ∨ m_k m = 5) ∧ k_o (m_k m) x = true then some (Sum.inl (some (v_I x))) else none
    | _ => none
  | .lreturn => match st with
    | [Sum.inr (Sum.inl x)] => if m_k m = 1 then some (Sum.inl (some (v_L x))) else none
    | _ => none
  | .areturn => match st with
    | [Sum.inr (Sum.inr o)] => if m_k m = 2 then some (Sum.inl (some (v_R o))) else none
    | _ => none
  | .return_ => match st with
    | [] => if m_k m = 6 then some (Sum.inl none) else none
    | _ => none
  | .athrow => match st with
    | Sum.inr (Sum.inr (some q)) :: _ => if 39 ≤ w_t w q ∧ w_t w q ≤ 41 then some (Sum.inr q) else none
    | _ => none
  | _ => none
/-- which row of a table catches: 13 IllegalArgumentException, 18 NoSuchElementException in the law, 116 Fault in town -/
def h_c (m c t : Nat) : Bool := decide ((o_m m = 0 ∧ c = 13 ∧ t = 39) ∨ (o_m m = 0 ∧ c = 18 ∧ t = 40) ∨ (o_m m = 1 ∧ c = 116 ∧ t = 41))
/-- which row lets it pass -/
def h_p (m c t : Nat) : Bool := decide (o_m m = 0 ∧ c = 18 ∧ t = 39)
def h_f (m pc t : Nat) : List (Nat × Nat × Nat × Nat) → Option (Option Nat)
  | [] => some none
  | h :: r => if h.1 ≤ pc ∧ pc < h.2.1 then (if h_c m h.2.2.2 t = true then some (some h.2.2.1) else if h_p m h.2.2.2 t = true then h_f m pc t r else none) else h_f m pc t r
def h_m (m pc t : Nat) : Option (Option Nat) := match m_h m with
  | none => some none
  | some hh => h_f m pc t hh
/-- how long an instruction is -/
def l_k (i : Instr) (len : Nat) : Bool := match i with
  | .tableswitch .. => true
  | .bipush _ | .iload _ | .lload _ | .aload _ | .istore _ | .lstore _ | .astore _ | .ldc _ | .newarray _ => len == 2
  | .sipush _ | .iinc _ _ | .goto _ | .ifCond _ _ | .if_icmp _ _ | .if_acmp _ _ | .ifnull _ | .ifnonnull _ | .getfield _ | .putfield _ | .getstatic _ | .ldc_w _ | .ldc2_w _ | .new _ | .anewarray _ | .checkcast _ | .instanceof _ | .invokestatic _ | .invokespecial _ | .invokevirtual _ => len == 3
  | _ => len == 1
/-- the run: n steps at most, d calls deep at most -/
def ex_ : Nat → Nat → Nat → Nat → List (Option Vl) → List Vl → Wd → Option (Rs × Wd)
  | 0, _, _, _, _, _, _ => none
  | n + 1, d, m, pc, ls, st, w => match decode (m_c m) pc with
    | .ok (i, len) => if l_k i len = true then match s_1 m i pc ls st w with
      | some (pc1, ls1, st1, w1) => ex_ n d m pc1 ls1 st1 w1
      | none => match s_c m i st w with
        | some (t, as, r) => match d with
          | 0 => none
          | d1 + 1 => if (e_a as).length ≤ m_l t then match ex_ n d1 t 0 (e_l (m_l t) as) [] w with
            | some (Sum.inl (some v), w1) => ex_ n d m (pc + 3) ls (v :: r) w1
            | some (Sum.inl none, w1) => ex_ n d m (pc + 3) ls r w1
            | some (Sum.inr q, w1) => match h_m m pc (w_t w1 q) with
              | some (some h) => ex_ n d m h ls [v_R (some q)] w1
              | some none => some (Sum.inr q, w1)
              | none => none
            | none => none
            else none
        | none => match s_e m i st w with
          | some (Sum.inl r) => some (Sum.inl r, w)
          | some (Sum.inr q) => match h_m m pc (w_t w q) with
            | some (some h) => ex_ n d m h ls [v_R (some q)] w
            | some none => some (Sum.inr q, w)
            | none => none
          | none => none
      else none
    | .error _ => none
