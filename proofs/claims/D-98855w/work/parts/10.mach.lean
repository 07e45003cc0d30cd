/-! THE ABSTRACT MACHINE: values, worlds, one step of an instruction that calls nothing, the run -/
set_option maxRecDepth 100000
abbrev Vl : Type := Int32 ⊕ (Int64 ⊕ Option Nat)
abbrev v_I (x : Int32) : Vl := Sum.inl x
abbrev v_L (x : Int64) : Vl := Sum.inr (Sum.inl x)
abbrev v_R (o : Option Nat) : Vl := Sum.inr (Sum.inr o)
/-- tags, lengths, ints, longs, references, the next address, the slots taken -/
abbrev Wd : Type := (Nat → Nat) × (Nat → Nat) × (Nat → Nat → Int32) × (Nat → Nat → Int64) × (Nat → Nat → Option Nat) × Nat × Nat
def w_t (w : Wd) (a : Nat) : Nat := w.1 a
def w_n (w : Wd) (a : Nat) : Nat := w.2.1 a
def w_i (w : Wd) (a k : Nat) : Int32 := w.2.2.1 a k
def w_l (w : Wd) (a k : Nat) : Int64 := w.2.2.2.1 a k
def w_r (w : Wd) (a k : Nat) : Option Nat := w.2.2.2.2.1 a k
def w_z (w : Wd) : Nat := w.2.2.2.2.2.1
def w_s (w : Wd) : Nat := w.2.2.2.2.2.2
def u_2 {α : Type} (f : Nat → Nat → α) (a k : Nat) (x : α) : Nat → Nat → α := fun b j => if b = a ∧ j = k then x else f b j
def u_1 {α : Type} (f : Nat → Nat → α) (a : Nat) (g : Nat → α) : Nat → Nat → α := fun b j => if b = a then g j else f b j
def u_0 (f : Nat → Nat) (a : Nat) (x : Nat) : Nat → Nat := fun b => if b = a then x else f b
def s_i (w : Wd) (a k : Nat) (x : Int32) : Wd := (w.1, w.2.1, u_2 w.2.2.1 a k x, w.2.2.2.1, w.2.2.2.2.1, w.2.2.2.2.2.1, w.2.2.2.2.2.2)
def s_l (w : Wd) (a k : Nat) (x : Int64) : Wd := (w.1, w.2.1, w.2.2.1, u_2 w.2.2.2.1 a k x, w.2.2.2.2.1, w.2.2.2.2.2.1, w.2.2.2.2.2.2)
def s_r (w : Wd) (a k : Nat) (x : Option Nat) : Wd := (w.1, w.2.1, w.2.2.1, w.2.2.2.1, u_2 w.2.2.2.2.1 a k x, w.2.2.2.2.2.1, w.2.2.2.2.2.2)
/-- a whole row of ints, of references -/
def s_I (w : Wd) (a : Nat) (g : Nat → Int32) : Wd := (w.1, w.2.1, u_1 w.2.2.1 a g, w.2.2.2.1, w.2.2.2.2.1, w.2.2.2.2.2.1, w.2.2.2.2.2.2)
def s_R (w : Wd) (a : Nat) (g : Nat → Option Nat) : Wd := (w.1, w.2.1, w.2.2.1, w.2.2.2.1, u_1 w.2.2.2.2.1 a g, w.2.2.2.2.2.1, w.2.2.2.2.2.2)
/-- a new cell, its tag, its length; n slots of it count -/
def s_n (w : Wd) (t n : Nat) : Wd := (u_0 w.1 w.2.2.2.2.2.1 t, u_0 w.2.1 w.2.2.2.2.2.1 n, u_1 w.2.2.1 w.2.2.2.2.2.1 (fun _ => 0), u_1 w.2.2.2.1 w.2.2.2.2.2.1 (fun _ => 0), u_1 w.2.2.2.2.1 w.2.2.2.2.2.1 (fun _ => none), w.2.2.2.2.2.1 + 1, w.2.2.2.2.2.2 + n)
/-- a tag changed -/
def s_t (w : Wd) (a t : Nat) : Wd := (u_0 w.1 a t, w.2)
theorem t_si (w a k x b) : w_t (s_i w a k x) b = w_t w b := rfl
theorem t_sl (w a k x b) : w_t (s_l w a k x) b = w_t w b := rfl
theorem t_sr (w a k x b) : w_t (s_r w a k x) b = w_t w b := rfl
theorem t_sI (w a x b) : w_t (s_I w a x) b = w_t w b := rfl
theorem t_sR (w a x b) : w_t (s_R w a x) b = w_t w b := rfl
theorem t_sn (w t n b) : w_t (s_n w t n) b = if b = w_z w then t else w_t w b := rfl
theorem t_st (w a t b) : w_t (s_t w a t) b = if b = a then t else w_t w b := rfl
theorem n_si (w a k x b) : w_n (s_i w a k x) b = w_n w b := rfl
theorem n_sl (w a k x b) : w_n (s_l w a k x) b = w_n w b := rfl
theorem n_sr (w a k x b) : w_n (s_r w a k x) b = w_n w b := rfl
theorem n_sI (w a x b) : w_n (s_I w a x) b = w_n w b := rfl
theorem n_sR (w a x b) : w_n (s_R w a x) b = w_n w b := rfl
theorem n_sn (w t n b) : w_n (s_n w t n) b = if b = w_z w then n else w_n w b := rfl
theorem n_st (w a t b) : w_n (s_t w a t) b = w_n w b := rfl
theorem i_si (w a k x b j) : w_i (s_i w a k x) b j = if b = a ∧ j = k then x else w_i w b j := rfl
theorem i_sl (w a k x b j) : w_i (s_l w a k x) b j = w_i w b j := rfl
theorem i_sr (w a k x b j) : w_i (s_r w a k x) b j = w_i w b j := rfl
theorem i_sI (w a g b j) : w_i (s_I w a g) b j = if b = a then g j else w_i w b j := rfl
theorem i_sR (w a g b j) : w_i (s_R w a g) b j = w_i w b j := rfl
theorem i_sn (w t n b j) : w_i (s_n w t n) b j = if b = w_z w then 0 else w_i w b j := rfl
theorem i_st (w a t b j) : w_i (s_t w a t) b j = w_i w b j := rfl
theorem l_si (w a k x b j) : w_l (s_i w a k x) b j = w_l w b j := rfl
theorem l_sl (w a k x b j) : w_l (s_l w a k x) b j = if b = a ∧ j = k then x else w_l w b j := rfl
theorem l_sr (w a k x b j) : w_l (s_r w a k x) b j = w_l w b j := rfl
theorem l_sI (w a g b j) : w_l (s_I w a g) b j = w_l w b j := rfl
theorem l_sR (w a g b j) : w_l (s_R w a g) b j = w_l w b j := rfl
theorem l_sn (w t n b j) : w_l (s_n w t n) b j = if b = w_z w then 0 else w_l w b j := rfl
theorem l_st (w a t b j) : w_l (s_t w a t) b j = w_l w b j := rfl
theorem r_si (w a k x b j) : w_r (s_i w a k x) b j = w_r w b j := rfl
theorem r_sl (w a k x b j) : w_r (s_l w a k x) b j = w_r w b j := rfl
theorem r_sr (w a k x b j) : w_r (s_r w a k x) b j = if b = a ∧ j = k then x else w_r w b j := rfl
theorem r_sI (w a g b j) : w_r (s_I w a g) b j = w_r w b j := rfl
theorem r_sR (w a g b j) : w_r (s_R w a g) b j = if b = a then g j else w_r w b j := rfl
theorem r_sn (w t n b j) : w_r (s_n w t n) b j = if b = w_z w then none else w_r w b j := rfl
theorem r_st (w a t b j) : w_r (s_t w a t) b j = w_r w b j := rfl
theorem z_si (w a k x) : w_z (s_i w a k x) = w_z w := rfl
theorem z_sl (w a k x) : w_z (s_l w a k x) = w_z w := rfl
theorem z_sr (w a k x) : w_z (s_r w a k x) = w_z w := rfl
theorem z_sI (w a x) : w_z (s_I w a x) = w_z w := rfl
theorem z_sR (w a x) : w_z (s_R w a x) = w_z w := rfl
theorem z_sn (w t n) : w_z (s_n w t n) = w_z w + 1 := rfl
theorem z_st (w a t) : w_z (s_t w a t) = w_z w := rfl
theorem s_si (w a k x) : w_s (s_i w a k x) = w_s w := rfl
theorem s_sl (w a k x) : w_s (s_l w a k x) = w_s w := rfl
theorem s_sr (w a k x) : w_s (s_r w a k x) = w_s w := rfl
theorem s_sI (w a x) : w_s (s_I w a x) = w_s w := rfl
theorem s_sR (w a x) : w_s (s_R w a x) = w_s w := rfl
theorem s_sn (w t n) : w_s (s_n w t n) = w_s w + n := rfl
theorem s_st (w a t) : w_s (s_t w a t) = w_s w := rfl
/-! locals -/
def n_l : Option Vl → Option Vl
  | some (Sum.inr (Sum.inl _)) => none
  | v => v
def l_set (ls : List (Option Vl)) (k : Nat) (v : Vl) : List (Option Vl) := (ls.modify (k - 1) n_l).set k (some v)
def l_set2 (ls : List (Option Vl)) (k : Nat) (v : Vl) : List (Option Vl) := (l_set ls k v).set (k + 1) none
def v_c : Vl → Nat
  | Sum.inr (Sum.inl _) => 2
  | _ => 1
/-- the locals at a method's entry -/
def e_a : List Vl → List (Option Vl)
  | [] => []
  | Sum.inr (Sum.inl x) :: r => some (Sum.inr (Sum.inl x)) :: none :: e_a r
  | v :: r => some v :: e_a r
def e_l (n : Nat) (as : List Vl) : List (Option Vl) := e_a as ++ List.replicate (n - (e_a as).length) none
def j_t (pc : Nat) (off : Int) : Nat := ((pc : Int) + off).toNat
def j_k (pc : Nat) (off : Int) : Bool := decide (0 ≤ (pc : Int) + off)
/-- a number in an int array's range -/
def in_r (i : Int32) (n : Nat) : Bool := decide (¬ (i < 0 ∨ n ≤ i.toNatClampNeg))
/-- what a field, an array, an answer of a kind takes: 0 int, 3 boolean, 4 byte, 5 char -/
def k_f (k : Nat) : FieldType := match k with | 3 => .boolean | 4 => .byte | 5 => .char | _ => .int
def k_o (k : Nat) (x : Int32) : Bool := decide (vp_nar (k_f k) x = x) && fits (k_f k) (.int x)
def lk_2 {β : Type} (t : List (Nat × Nat × β)) (a b : Nat) : Option β := (t.find? (fun e => e.1 == a && e.2.1 == b)).map (fun e => e.2.2)
def lk_3 {β : Type} (t : List (Nat × Nat × Nat × β)) (a b c : Nat) : Option β := (t.find? (fun e => e.1 == a && (e.2.1 == b && e.2.2.1 == c))).map (fun e => e.2.2.2)
theorem lk_2m {β : Type} {t : List (Nat × Nat × β)} {a b : Nat} {v : β} (h : lk_2 t a b = some v) : (a, b, v) ∈ t := by
  unfold lk_2 at h
  obtain ⟨e, he, hv⟩ := Option.map_eq_some_iff.mp h
  have h1 := List.find?_some he
  have h2 := List.mem_of_find?_eq_some he
  simp only [Bool.and_eq_true, beq_iff_eq] at h1
  obtain ⟨x, y, z⟩ := e
  simp only at h1 hv
  rw [← h1.1, ← h1.2, ← hv]
  exact h2
theorem lk_3m {β : Type} {t : List (Nat × Nat × Nat × β)} {a b c : Nat} {v : β} (h : lk_3 t a b c = some v) : (a, b, c, v) ∈ t := by
  unfold lk_3 at h
  obtain ⟨e, he, hv⟩ := Option.map_eq_some_iff.mp h
  have h1 := List.find?_some he
  have h2 := List.mem_of_find?_eq_some he
  simp only [Bool.and_eq_true, beq_iff_eq] at h1
  obtain ⟨x, y, z, u⟩ := e
  simp only at h1 hv
  rw [← h1.1, ← h1.2.1, ← h1.2.2, ← hv]
  exact h2
abbrev TXF : u_T := fun k => match k with
  | 0 => ("TableTower$Fault", "kind", "I", true)
  | _ => ("TableTower$Fault", "place", "I", true)
/-- the classes: number ci is the tag ci + 20 -/
def cL_ : List vw_C := [(RX1, TX1, 15), (RX2, TX2, 5), (RX3, TX3, 1), (RX5, TX5, 7), (RX6, TX6, 7), (RX7, TX7, 58), (RX8, TX8, 9), (RX9, TX9, 8), (RX11, TX11, 1), (RX12, TX12, 1), (RX13, TX13, 3), (RX14, TX14, 1), (RX15, TX15, 4), (RX16, TX16, 4), (RX17, TX17, 4), (RX18, TX18, 4), (RJ2, TJ2, 3), (RJ8, TJ8, 4), (RJ9, TJ9, 4), (RJ6, TJ6, 0), (RJ19, TJ19, 0), (RX9, TXF, 2)]
def c_d : vw_C := (RX1, TX1, 0)
def c_e (ci : Nat) : vw_C := cL_.getD ci c_d
def k_d : FieldType → Nat
  | .int => 0
  | .long => 1
  | .boolean => 3
  | .byte => 4
  | .char => 5
  | .object _ => 2
  | .array _ => 2
  | _ => 9
/-- a field's kind -/
def kd_ (ci k : Nat) : Nat := match parseFieldDescriptor ((c_e ci).2.1 k).2.2.1 with
  | some ty => k_d ty
  | none => 9
