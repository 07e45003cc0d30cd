/-! NUMBERS, LOOPS: what every walk of the pure layer uses -/
set_option maxRecDepth 100000
theorem nl_I (x : Int32) : n_l (some (v_I x)) = some (v_I x) := rfl
theorem nl_R (x : Option Nat) : n_l (some (v_R x)) = some (v_R x) := rfl
theorem nl_L (x : Int64) : n_l (some (v_L x)) = none := rfl
theorem nl_0 : n_l none = none := rfl
theorem oo_lt {a b : Nat} (ha : a < 2147483648) (hb : b < 2147483648) : (Int32.ofNat a < Int32.ofNat b) = (a < b) := propext (Int32.ofNat_lt_iff_lt ha hb)
theorem oo_le {a b : Nat} (ha : a < 2147483648) (hb : b < 2147483648) : (Int32.ofNat a ≤ Int32.ofNat b) = (a ≤ b) := propext (Int32.ofNat_le_iff_le ha hb)
theorem oo_in {a : Nat} (ha : a < 2147483648) : (Int32.ofNat a).toInt = (a : Int) := Int32.toInt_ofNat_of_lt ha
theorem oo_inj {a b : Nat} (ha : a < 2147483648) (hb : b < 2147483648) (h : Int32.ofNat a = Int32.ofNat b) : a = b := by
  have := congrArg Int32.toInt h
  rw [oo_in ha, oo_in hb] at this
  omega
theorem oo_eq {a b : Nat} (ha : a < 2147483648) (hb : b < 2147483648) : (Int32.ofNat a = Int32.ofNat b) = (a = b) := propext ⟨oo_inj ha hb, fun h => h ▸ rfl⟩
theorem oo_add (a b : Nat) : Int32.ofNat a + Int32.ofNat b = Int32.ofNat (a + b) := (Int32.ofNat_add a b).symm
theorem oo_sub {a b : Nat} (h : b ≤ a) : Int32.ofNat a - Int32.ofNat b = Int32.ofNat (a - b) := (Int32.ofNat_sub a b h).symm
theorem oo_mul (a b : Nat) : Int32.ofNat a * Int32.ofNat b = Int32.ofNat (a * b) := (Int32.ofNat_mul a b).symm
theorem oo_tn {a : Nat} (h : a < 2147483648) : (Int32.ofNat a).toNatClampNeg = a := Int32.toNatClampNeg_ofNat_of_lt h
theorem oo_ir {a n : Nat} (h : a < n) (hn : n < 2147483648) : in_r (Int32.ofNat a) n = true := by
  have ha : a < 2147483648 := by omega
  have h0 : ¬ (Int32.ofNat a < 0) := by
    have := oo_lt (b := 0) ha (by omega)
    intro h9
    exact absurd (this.mp h9) (by omega)
  unfold in_r
  rw [oo_tn ha]
  exact decide_eq_true (fun h => h.elim h0 (by omega))
theorem oo_cp {w : Wd} {a b p q r : Nat} (hp : p < 2147483648) (hq : q < 2147483648) (hr : r < 2147483648) (h1 : p + r ≤ w_n w a) (h2 : q + r ≤ w_n w b) : cp_k w a b (Int32.ofNat p) (Int32.ofNat q) (Int32.ofNat r) := by
  have f : ∀ {n : Nat}, n < 2147483648 → ¬ Int32.ofNat n < 0 := fun {n} hn h9 => absurd ((oo_lt (b := 0) hn (by omega)).mp h9) (by omega)
  refine ⟨f hp, f hq, f hr, ?_, ?_⟩
  · rw [oo_tn hp, oo_tn hr]; exact h1
  · rw [oo_tn hq, oo_tn hr]; exact h2
/-- a truth value as an int -/
def b_v (b : Bool) : Int32 := if b = true then Int32.ofNat 1 else Int32.ofNat 0
theorem bv_t : b_v true = Int32.ofNat 1 := rfl
theorem bv_f : b_v false = Int32.ofNat 0 := rfl
theorem bv_0 (b : Bool) : (b_v b = Int32.ofNat 0) = (b = false) := by cases b <;> decide
theorem bv_1 (b : Bool) : (b_v b = Int32.ofNat 1) = (b = true) := by cases b <;> decide
theorem ko_b (b : Bool) : k_o 3 (b_v b) = true := by cases b <;> decide
theorem ko_1 : k_o 3 (Int32.ofNat 1) = true := by decide
theorem ko_0 : k_o 3 (Int32.ofNat 0) = true := by decide
theorem if_bv {P : Prop} [Decidable P] : (if P then Int32.ofNat 1 else Int32.ofNat 0) = b_v (decide P) := by
  by_cases h : P
  · rw [if_pos h, decide_eq_true h]; rfl
  · rw [if_neg h, decide_eq_false h]; rfl
/-! loops -/
/-- n steps from k on -/
def it_ {σ : Type} (f : Nat → σ → σ) : Nat → Nat → σ → σ
  | _, 0, s => s
  | k, n + 1, s => it_ f (k + 1) n (f k s)
/-- the first of n from k on -/
def ff_ (p : Nat → Bool) : Nat → Nat → Option Nat
  | _, 0 => none
  | k, n + 1 => if p k = true then some k else ff_ p (k + 1) n
theorem lp_it {σ : Type} (H : Nat → σ → Prop) (f : Nat → σ → σ) : ∀ (n k : Nat) (s : σ), (∀ j s, k ≤ j → j < k + n → H j s = H (j + 1) (f j s)) → H k s = H (k + n) (it_ f k n s) := by
  intro n
  induction n with
  | zero => intro k s _; rfl
  | succ n ih =>
    intro k s h
    rw [h k s (Nat.le_refl _) (by omega), ih (k + 1) (f k s) (fun j s h1 h2 => h j s (by omega) (by omega))]
    rw [show k + 1 + n = k + (n + 1) by omega]
    rfl
theorem lp_ff (H : Nat → Prop) (R : Nat → Prop) (p : Nat → Bool) : ∀ (n k : Nat), (∀ j, k ≤ j → j < k + n → H j = if p j = true then R j else H (j + 1)) → H k = match ff_ p k n with | some j => R j | none => H (k + n) := by
  intro n
  induction n with
  | zero => intro k _; rfl
  | succ n ih =>
    intro k h
    rw [h k (Nat.le_refl _) (by omega), ff_]
    by_cases hp : p k = true
    · rw [if_pos hp, if_pos hp]
    · rw [if_neg hp, if_neg hp, ih (k + 1) (fun j h1 h2 => h j (by omega) (by omega))]
      rw [show k + 1 + n = k + (n + 1) by omega]
/-- a loop that may end early, with a state: left goes on, right ends -/
def ix_ {σ ρ : Type} (f : Nat → σ → σ ⊕ ρ) : Nat → Nat → σ → σ ⊕ ρ
  | _, 0, s => Sum.inl s
  | k, n + 1, s => match f k s with
    | Sum.inl s1 => ix_ f (k + 1) n s1
    | Sum.inr r => Sum.inr r
theorem ff_s {p : Nat → Bool} : ∀ {n k j : Nat}, ff_ p k n = some j → k ≤ j ∧ j < k + n ∧ p j = true ∧ ∀ i, k ≤ i → i < j → p i = false := by
  intro n
  induction n with
  | zero => intro k j h; cases h
  | succ n ih =>
    intro k j h
    rw [ff_] at h
    by_cases hp : p k = true
    · rw [if_pos hp] at h
      cases h
      exact ⟨Nat.le_refl _, by omega, hp, fun i h1 h2 => by omega⟩
    · rw [if_neg hp] at h
      obtain ⟨h1, h2, h3, h4⟩ := ih h
      refine ⟨by omega, by omega, h3, fun i h5 h6 => ?_⟩
      by_cases e : i = k
      · rw [e]; exact Bool.eq_false_iff.mpr hp
      · exact h4 i (by omega) h6
theorem ff_n {p : Nat → Bool} : ∀ {n k : Nat}, ff_ p k n = none → ∀ i, k ≤ i → i < k + n → p i = false := by
  intro n
  induction n with
  | zero => intro k _ i h1 h2; omega
  | succ n ih =>
    intro k h i h1 h2
    rw [ff_] at h
    by_cases hp : p k = true
    · rw [if_pos hp] at h; cases h
    · rw [if_neg hp] at h
      by_cases e : i = k
      · rw [e]; exact Bool.eq_false_iff.mpr hp
      · exact ih h i (by omega) (by omega)
theorem ff_c {p q : Nat → Bool} : ∀ {n k : Nat}, (∀ i, k ≤ i → i < k + n → p i = q i) → ff_ p k n = ff_ q k n := by
  intro n
  induction n with
  | zero => intro k _; rfl
  | succ n ih =>
    intro k h
    rw [ff_, ff_, h k (Nat.le_refl _) (by omega), ih (fun i h1 h2 => h i (by omega) (by omega))]
theorem it_c {σ : Type} {f g : Nat → σ → σ} : ∀ {n k : Nat} {s : σ}, (∀ i s, k ≤ i → i < k + n → f i s = g i s) → it_ f k n s = it_ g k n s := by
  intro n
  induction n with
  | zero => intro k s _; rfl
  | succ n ih =>
    intro k s h
    rw [it_, it_, h k s (Nat.le_refl _) (by omega), ih (fun i s h1 h2 => h i s (by omega) (by omega))]
theorem it_1 {σ : Type} (f : Nat → σ → σ) : ∀ (n k : Nat) (s : σ), it_ f k (n + 1) s = f (k + n) (it_ f k n s) := by
  intro n
  induction n with
  | zero => intro k s; rfl
  | succ n ih =>
    intro k s
    show it_ f (k + 1) (n + 1) (f k s) = f (k + (n + 1)) (it_ f (k + 1) n (f k s))
    rw [ih, show k + 1 + n = k + (n + 1) by omega]
/-- an Int32 in a range -/
theorem oo_of {x : Int32} (h : ¬ x < Int32.ofNat 0) : ∃ k, k < 2147483648 ∧ x = Int32.ofNat k := by
  refine ⟨x.toNatClampNeg, Int32.toNatClampNeg_lt x, ?_⟩
  refine (Int32.ofNat_toNatClampNeg x ?_).symm
  have h1 : ¬ x < 0 := h
  rw [Int32.lt_iff_toInt_lt] at h1
  rw [Int32.le_iff_toInt_le]
  omega
theorem oo_3 (x : Int32) (n : Nat) (hn : n < 2147483648) : (∃ k, k < n ∧ x = Int32.ofNat k) ∨ x < Int32.ofNat 0 ∨ ∃ k, n ≤ k ∧ k < 2147483648 ∧ x = Int32.ofNat k := by
  by_cases h : x < Int32.ofNat 0
  · exact Or.inr (Or.inl h)
  · obtain ⟨k, hk, e⟩ := oo_of h
    by_cases hl : k < n
    · exact Or.inl ⟨k, hl, e⟩
    · exact Or.inr (Or.inr ⟨k, by omega, hk, e⟩)
theorem nn_leT {a b : Nat} (h : a ≤ b) : (a ≤ b) = True := eq_true h
theorem nn_leF {a b : Nat} (h : b < a) : (a ≤ b) = False := eq_false (Nat.not_le.mpr h)
theorem nn_ltT {a b : Nat} (h : a < b) : (a < b) = True := eq_true h
theorem nn_ltF {a b : Nat} (h : b ≤ a) : (a < b) = False := eq_false (Nat.not_lt.mpr h)
theorem nn_eqT {a b : Nat} (h : a = b) : (a = b) = True := eq_true h
theorem nn_eqF {a b : Nat} (h : a < b ∨ b < a) : (a = b) = False := eq_false (by omega)
theorem lp_fo (H : Nat → Prop) (K : Option Nat → Prop) (p : Nat → Bool) (n k : Nat) (h : ∀ j, k ≤ j → j < k + n → H j = if p j = true then K (some j) else H (j + 1)) (e : H (k + n) = K none) : H k = K (ff_ p k n) := by
  rw [lp_ff H (fun j => K (some j)) p n k h]
  cases ff_ p k n with
  | none => exact e
  | some j => rfl
theorem lp_io {σ : Type} (H : Nat → σ → Prop) (K : σ → Prop) (f : Nat → σ → σ) (n k : Nat) (s : σ) (h : ∀ j s, k ≤ j → j < k + n → H j s = H (j + 1) (f j s)) (e : ∀ s, H (k + n) s = K s) : H k s = K (it_ f k n s) := by
  rw [lp_it H f n k s h, e]
theorem oo_02 : (Int32.ofNat 2 = 0) = False := eq_false (by decide)
theorem lg_lt (x y : Int64) : (lg_cmp x y < Int32.ofNat 0) = (x < y) := by
  unfold lg_cmp
  by_cases h1 : x > y
  · rw [if_pos h1]
    exact propext ⟨fun h => absurd h (by decide), fun h => absurd (Int64.lt_trans h1 h) (Int64.lt_irrefl)⟩
  · rw [if_neg h1]
    by_cases h2 : x = y
    · rw [if_pos h2]
      exact propext ⟨fun h => absurd h (by decide), fun h => absurd (h2 ▸ h) (Int64.lt_irrefl)⟩
    · rw [if_neg h2]
      refine propext ⟨fun _ => ?_, fun _ => by decide⟩
      rw [Int64.lt_iff_toInt_lt]
      have a1 : ¬ y.toInt < x.toInt := fun h => h1 (Int64.lt_iff_toInt_lt.mpr h)
      have a2 : x.toInt ≠ y.toInt := fun h => h2 (Int64.toInt_inj.mp h)
      omega
theorem lg_gt (x y : Int64) : (Int32.ofNat 0 < lg_cmp x y) = (y < x) := by
  unfold lg_cmp
  by_cases h1 : x > y
  · rw [if_pos h1]
    exact propext ⟨fun _ => h1, fun _ => by decide⟩
  · rw [if_neg h1]
    by_cases h2 : x = y
    · rw [if_pos h2]
      exact propext ⟨fun h => absurd h (by decide), fun h => absurd h h1⟩
    · rw [if_neg h2]
      exact propext ⟨fun h => absurd h (by decide), fun h => absurd h h1⟩
theorem lg_eq (x y : Int64) : (lg_cmp x y = Int32.ofNat 0) = (x = y) := by
  unfold lg_cmp
  by_cases h1 : x > y
  · rw [if_pos h1]
    exact propext ⟨fun h => absurd h (by decide), fun h => absurd (h ▸ h1) (Int64.lt_irrefl)⟩
  · rw [if_neg h1]
    by_cases h2 : x = y
    · rw [if_pos h2]
      exact propext ⟨fun _ => h2, fun _ => by decide⟩
    · rw [if_neg h2]
      exact propext ⟨fun h => absurd h (by decide), fun h => absurd h h2⟩
theorem lg_le (x y : Int64) : (lg_cmp x y ≤ Int32.ofNat 0) = (x ≤ y) := by
  have := lg_gt x y
  have e1 : (lg_cmp x y ≤ Int32.ofNat 0) = ¬ (Int32.ofNat 0 < lg_cmp x y) := propext Int32.not_lt.symm
  rw [e1, this]
  exact propext Int64.not_lt
theorem ll_le (x y : Int32) : (x.toInt64 ≤ y.toInt64) = (x ≤ y) := by
  refine propext ?_
  rw [Int64.le_iff_toInt_le, Int32.le_iff_toInt_le, Int32.toInt_toInt64, Int32.toInt_toInt64]
theorem ll_lt (x y : Int32) : (x.toInt64 < y.toInt64) = (x < y) := by
  refine propext ?_
  rw [Int64.lt_iff_toInt_lt, Int32.lt_iff_toInt_lt, Int32.toInt_toInt64, Int32.toInt_toInt64]
theorem ll_eq (x y : Int32) : (x.toInt64 = y.toInt64) = (x = y) := by
  refine propext ⟨fun h => ?_, fun h => h ▸ rfl⟩
  have := congrArg Int64.toInt h
  rw [Int32.toInt_toInt64, Int32.toInt_toInt64] at this
  exact Int32.toInt_inj.mp this
theorem ll_o {k : Nat} (h : k < 2147483648) : Int64.ofNat k = (Int32.ofNat k).toInt64 := by
  apply Int64.toInt_inj.mp
  rw [Int32.toInt_toInt64, oo_in h, Int64.toInt_ofNat_of_lt (by omega)]
/-- a bit of a set, a set of one -/
theorem sb_1 : ∀ t : Fin 31, Int32.ofNat 1 <<< (Int32.ofNat t.val &&& 31) = Int32.ofNat (2 ^ t.val) := by decide +kernel
theorem sb_s {t : Nat} (h : t < 31) : Int32.ofNat 1 <<< (Int32.ofNat t &&& 31) = Int32.ofNat (2 ^ t) := sb_1 ⟨t, h⟩
theorem sb_o (a b : Nat) : Int32.ofNat a ||| Int32.ofNat b = Int32.ofNat (a ||| b) := by
  apply Int32.toBitVec_inj.mp
  rw [Int32.toBitVec_or]
  show BitVec.ofNat 32 a ||| BitVec.ofNat 32 b = BitVec.ofNat 32 (a ||| b)
  apply BitVec.eq_of_getLsbD_eq
  intro i hi
  simp only [BitVec.getLsbD_or, BitVec.getLsbD_ofNat, hi, decide_true, Bool.true_and, Nat.testBit_or]
theorem sb_a (a b : Nat) : Int32.ofNat a &&& Int32.ofNat b = Int32.ofNat (a &&& b) := by
  apply Int32.toBitVec_inj.mp
  rw [Int32.toBitVec_and]
  show BitVec.ofNat 32 a &&& BitVec.ofNat 32 b = BitVec.ofNat 32 (a &&& b)
  apply BitVec.eq_of_getLsbD_eq
  intro i hi
  simp only [BitVec.getLsbD_and, BitVec.getLsbD_ofNat, hi, decide_true, Bool.true_and, Nat.testBit_and]
theorem sb_tb0 : ∀ s : Fin 1024, ∀ t : Fin 10, (Int32.ofNat s.val >>> (Int32.ofNat t.val &&& 31)) &&& Int32.ofNat 1 = b_v (s.val.testBit t.val) := by decide +kernel
theorem sb_tb {s t : Nat} (hs : s < 1024) (ht : t < 10) : (Int32.ofNat s >>> (Int32.ofNat t &&& 31)) &&& Int32.ofNat 1 = b_v (s.testBit t) := sb_tb0 ⟨s, hs⟩ ⟨t, ht⟩
