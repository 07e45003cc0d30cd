/-! NUMBERS, NESTED LOOPS -/
set_option maxRecDepth 100000
theorem oo_div {a b : Nat} (ha : a < 2147483648) (hb : b < 2147483648) : Int32.ofNat a / Int32.ofNat b = Int32.ofNat (a / b) := (Int32.ofNat_div ha hb).symm
theorem it_add {σ : Type} (f : Nat → σ → σ) : ∀ (n k m : Nat) (s : σ), it_ f k (n + m) s = it_ f (k + n) m (it_ f k n s) := by
  intro n
  induction n with
  | zero => intro k m s; rw [Nat.zero_add]; rfl
  | succ n ih =>
    intro k m s
    rw [show n + 1 + m = (n + m) + 1 by omega, it_, ih, it_, show k + 1 + n = k + (n + 1) by omega]
theorem it_sh {σ : Type} (f : Nat → σ → σ) (c : Nat) : ∀ (n k : Nat) (s : σ), it_ f (c + k) n s = it_ (fun i s => f (c + i) s) k n s := by
  intro n
  induction n with
  | zero => intro k s; rfl
  | succ n ih =>
    intro k s
    rw [it_, it_, Nat.add_assoc, ih]
theorem it_nest {σ : Type} (f : Nat → Nat → σ → σ) {m : Nat} (hm : 0 < m) : ∀ (n : Nat) (s : σ), it_ (fun k s => f (k / m) (k % m) s) 0 (m * n) s = it_ (fun l s => it_ (f l) 0 m s) 0 n s := by
  intro n
  induction n with
  | zero => intro s; rfl
  | succ n ih =>
    intro s
    rw [Nat.mul_succ, it_add, ih, it_1, Nat.zero_add, Nat.zero_add, show m * n = m * n + 0 by omega, it_sh]
    refine it_c (fun i s h1 h2 => ?_)
    rw [Nat.mul_add_div hm, Nat.div_eq_of_lt (by omega), Nat.mul_add_mod, Nat.mod_eq_of_lt (by omega)]; rfl
theorem ff_add (p : Nat → Bool) : ∀ (n k m : Nat), ff_ p k (n + m) = (ff_ p k n).or (ff_ p (k + n) m) := by
  intro n
  induction n with
  | zero => intro k m; rw [Nat.zero_add]; rfl
  | succ n ih =>
    intro k m
    rw [show n + 1 + m = (n + m) + 1 by omega, ff_, ff_]
    by_cases h : p k = true
    · rw [if_pos h, if_pos h]; rfl
    · rw [if_neg h, if_neg h, ih, show k + 1 + n = k + (n + 1) by omega]
theorem ff_sh (p : Nat → Bool) (c : Nat) : ∀ (n k : Nat), ff_ p (c + k) n = (ff_ (fun i => p (c + i)) k n).map (c + ·) := by
  intro n
  induction n with
  | zero => intro k; rfl
  | succ n ih =>
    intro k
    rw [ff_, ff_]
    by_cases h : p (c + k) = true
    · rw [if_pos h, if_pos h]; rfl
    · rw [if_neg h, if_neg h, Nat.add_assoc, ih]
/-- the first of rows -/
def ff2_ (p : Nat → Nat → Bool) (m : Nat) : Nat → Option Nat
  | 0 => none
  | n + 1 => (ff2_ p m n).or ((ff_ (p n) 0 m).map (m * n + ·))
theorem ff_nest (p : Nat → Nat → Bool) {m : Nat} (hm : 0 < m) : ∀ n, ff_ (fun k => p (k / m) (k % m)) 0 (m * n) = ff2_ p m n := by
  intro n
  induction n with
  | zero => rfl
  | succ n ih =>
    rw [Nat.mul_succ, ff_add, ih, Nat.zero_add, show m * n = m * n + 0 by omega, ff_sh]
    rw [ff2_]
    congr 2
    refine ff_c (fun i h1 h2 => ?_)
    rw [Nat.mul_add_div hm, Nat.div_eq_of_lt (by omega), Nat.mul_add_mod, Nat.mod_eq_of_lt (by omega)]; rfl
theorem ff_1 (p : Nat → Bool) (k : Nat) : ff_ p k 1 = if p k = true then some k else none := rfl
theorem ff2_2 (p : Nat → Nat → Bool) (m : Nat) : ∀ n, ff2_ p m n = (ff_ (fun l => (ff_ (p l) 0 m).isSome) 0 n).bind (fun l => (ff_ (p l) 0 m).map (m * l + ·)) := by
  intro n
  induction n with
  | zero => rfl
  | succ n ih =>
    rw [ff2_, ih, ff_add, Nat.zero_add, ff_1]
    cases e : ff_ (fun l => (ff_ (p l) 0 m).isSome) 0 n with
    | some l =>
      obtain ⟨_, _, h3, _⟩ := ff_s e
      obtain ⟨j, hj⟩ := Option.isSome_iff_exists.mp h3
      simp only [Option.bind_some, Option.some_or, hj, Option.map_some]
    | none =>
      simp only [Option.none_or, Option.bind_none]
      cases e2 : ff_ (p n) 0 m with
      | none => rfl
      | some j => simp only [Option.isSome_some, if_true, Option.bind_some, e2]
theorem ff_rows (p : Nat → Nat → Bool) {m : Nat} (hm : 0 < m) (n : Nat) : ff_ (fun k => p (k / m) (k % m)) 0 (m * n) = (ff_ (fun l => (ff_ (p l) 0 m).isSome) 0 n).bind (fun l => (ff_ (p l) 0 m).map (m * l + ·)) := (ff_nest p hm n).trans (ff2_2 p m n)
/-- loops with a state of any kind -/
theorem lp_fg {σ : Type} (H : Nat → σ → Q_ → Prop) (K : Option Nat → σ → Q_ → Prop) (C : σ → Prop) (p : Nat → Bool) : ∀ (n k : Nat) (s : σ), (∀ j s, k ≤ j → j < k + n → C s → ∃ s1, C s1 ∧ ∀ Q, H j s Q = if p j = true then K (some j) s1 Q else H (j + 1) s1 Q) → (∀ s, C s → ∃ s1, C s1 ∧ ∀ Q, H (k + n) s Q = K none s1 Q) → C s → ∃ s1, C s1 ∧ ∀ Q, H k s Q = K (ff_ p k n) s1 Q := by
  intro n
  induction n with
  | zero => intro k s _ e hC; exact e s hC
  | succ n ih =>
    intro k s h e hC
    obtain ⟨s1, c1, q1⟩ := h k s (Nat.le_refl _) (by omega) hC
    rw [ff_]
    by_cases hp : p k = true
    · rw [if_pos hp]
      exact ⟨s1, c1, fun Q => by rw [q1 Q, if_pos hp]⟩
    · rw [if_neg hp]
      obtain ⟨s2, c2, q2⟩ := ih (k + 1) s1 (fun j s h1 h2 => h j s (by omega) (by omega)) (by rw [show k + 1 + n = k + (n + 1) by omega]; exact e) c1
      exact ⟨s2, c2, fun Q => by rw [q1 Q, if_neg hp, q2 Q]⟩
theorem lp_ig {σ τ : Type} (H : Nat → σ → τ → Q_ → Prop) (C : Nat → σ → τ → Prop) (f : Nat → σ → σ) : ∀ (n k : Nat) (s : σ) (t : τ), (∀ j s t, k ≤ j → j < k + n → C j s t → ∃ t1, C (j + 1) (f j s) t1 ∧ ∀ Q, H j s t Q = H (j + 1) (f j s) t1 Q) → C k s t → ∃ t1, C (k + n) (it_ f k n s) t1 ∧ ∀ Q, H k s t Q = H (k + n) (it_ f k n s) t1 Q := by
  intro n
  induction n with
  | zero => intro k s t _ hC; exact ⟨t, hC, fun _ => rfl⟩
  | succ n ih =>
    intro k s t h hC
    obtain ⟨t1, c1, q1⟩ := h k s t (Nat.le_refl _) (by omega) hC
    obtain ⟨t2, c2, q2⟩ := ih (k + 1) (f k s) t1 (fun j s t h1 h2 => h j s t (by omega) (by omega)) c1
    refine ⟨t2, ?_, fun Q => ?_⟩
    · rw [show k + (n + 1) = k + 1 + n by omega]; exact c2
    · rw [q1 Q, q2 Q, show k + 1 + n = k + (n + 1) by omega]
      rfl
