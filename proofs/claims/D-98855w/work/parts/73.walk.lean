/-! WALKS over sets -/
set_option maxRecDepth 100000
def sm_ (f : Nat → Nat) : Nat → Nat
  | 0 => 0
  | n + 1 => sm_ f n + f n
theorem sm_c {f g : Nat → Nat} : ∀ {n : Nat}, (∀ t, t < n → f t = g t) → sm_ f n = sm_ g n := by
  intro n
  induction n with
  | zero => intro _; rfl
  | succ n ih => intro h; rw [sm_, sm_, ih (fun t ht => h t (by omega)), h n (by omega)]
theorem sm_0 : ∀ n, sm_ (fun _ => 0) n = 0 := by
  intro n
  induction n with
  | zero => rfl
  | succ n ih => rw [sm_, ih]
theorem sm_a (f g : Nat → Nat) : ∀ n, sm_ (fun t => f t + g t) n = sm_ f n + sm_ g n := by
  intro n
  induction n with
  | zero => rfl
  | succ n ih => rw [sm_, sm_, sm_, ih]; omega
theorem sm_sw (g : Nat → Nat → Nat) (m : Nat) : ∀ n, sm_ (fun t => sm_ (g t) m) n = sm_ (fun s => sm_ (fun t => g t s) n) m := by
  intro n
  induction n with
  | zero => exact (sm_0 m).symm
  | succ n ih =>
    rw [sm_, ih, ← sm_a]
    rfl
theorem sm_if (b : Bool) (f : Nat → Nat) (n : Nat) : (if b = true then sm_ f n else 0) = sm_ (fun t => if b = true then f t else 0) n := by
  cases b with
  | false => exact (sm_0 n).symm
  | true => rfl
theorem sm_le {f : Nat → Nat} {c : Nat} : ∀ {n : Nat}, (∀ t, t < n → f t ≤ c) → sm_ f n ≤ n * c := by
  intro n
  induction n with
  | zero => intro _; exact Nat.zero_le _
  | succ n ih =>
    intro h
    have h1 := ih (fun t ht => h t (by omega))
    have h2 := h n (by omega)
    rw [sm_, Nat.succ_mul]
    omega
theorem sm_p {f : Nat → Nat} : ∀ {n : Nat}, 0 < sm_ f n ↔ ∃ t, t < n ∧ 0 < f t := by
  intro n
  induction n with
  | zero => exact ⟨fun h => absurd h (Nat.lt_irrefl 0), fun ⟨t, h, _⟩ => absurd h (Nat.not_lt_zero t)⟩
  | succ n ih =>
    rw [sm_]
    refine ⟨fun h => ?_, fun ⟨t, h1, h2⟩ => ?_⟩
    · by_cases h0 : 0 < f n
      · exact ⟨n, by omega, h0⟩
      · obtain ⟨t, h1, h2⟩ := ih.mp (by omega)
        exact ⟨t, by omega, h2⟩
    · by_cases e : t = n
      · subst e; omega
      · have := ih.mpr ⟨t, by omega, h2⟩
        omega
/-- walks of k steps from A to B -/
def wk_ (E : Nat → Nat → Bool) (n B : Nat) : Nat → Nat → Nat
  | 0, A => if A = B then 1 else 0
  | k + 1, A => sm_ (fun t => if (!A.testBit t && E A t) = true then wk_ E n B k (A ||| 2 ^ t) else 0) n
theorem wk_b0 {A B t : Nat} (h : A.testBit t = false) : (A ||| 2 ^ t = B) ↔ (B.testBit t = true ∧ A = B ^^^ 2 ^ t) := by
  constructor
  · intro e
    subst e
    refine ⟨by rw [Nat.testBit_or, Nat.testBit_two_pow_self, Bool.or_true], ?_⟩
    apply Nat.eq_of_testBit_eq
    intro i
    rw [Nat.testBit_xor, Nat.testBit_or]
    by_cases c : i = t
    · subst c; rw [h, Nat.testBit_two_pow_self]; rfl
    · rw [Nat.testBit_two_pow_of_ne (fun z => c z.symm), Bool.or_false, Bool.xor_false]
  · rintro ⟨h1, h2⟩
    subst h2
    apply Nat.eq_of_testBit_eq
    intro i
    rw [Nat.testBit_or, Nat.testBit_xor]
    by_cases c : i = t
    · subst c; rw [h1, Nat.testBit_two_pow_self]; rfl
    · rw [Nat.testBit_two_pow_of_ne (fun z => c z.symm), Bool.or_false, Bool.xor_false]
/-- by the last step -/
theorem wk_l (E : Nat → Nat → Bool) (n : Nat) : ∀ (k A B : Nat), wk_ E n B (k + 1) A = sm_ (fun s => if (B.testBit s && E (B ^^^ 2 ^ s) s) = true then wk_ E n (B ^^^ 2 ^ s) k A else 0) n := by
  intro k
  induction k with
  | zero =>
    intro A B
    rw [wk_]
    refine sm_c (fun t _ => ?_)
    unfold wk_
    by_cases h1 : A.testBit t = true
    · rw [if_neg (by rw [h1]; simp)]
      by_cases h2 : (B.testBit t && E (B ^^^ 2 ^ t) t) = true
      · rw [if_pos h2, if_neg]
        intro e
        simp only [Bool.and_eq_true] at h2
        rw [e, Nat.testBit_xor, h2.1, Nat.testBit_two_pow_self] at h1
        cases h1
      · rw [if_neg h2]
    · have h1 := Bool.eq_false_iff.mpr h1
      by_cases h2 : A ||| 2 ^ t = B
      · have h3 := (wk_b0 h1).mp h2
        rw [if_pos h2, h1, h3.1, ← h3.2, if_pos rfl]
        rfl
      · rw [if_neg h2, ite_self]
        by_cases h3 : (B.testBit t && E (B ^^^ 2 ^ t) t) = true
        · simp only [Bool.and_eq_true] at h3
          rw [if_neg (fun e => h2 ((wk_b0 h1).mpr ⟨h3.1, e⟩)), ite_self]
        · rw [if_neg h3]
  | succ k ih =>
    intro A B
    rw [wk_]
    have e1 : ∀ t, t < n → (if (!A.testBit t && E A t) = true then wk_ E n B (k + 1) (A ||| 2 ^ t) else 0) = sm_ (fun s => if (!A.testBit t && E A t) = true then (if (B.testBit s && E (B ^^^ 2 ^ s) s) = true then wk_ E n (B ^^^ 2 ^ s) k (A ||| 2 ^ t) else 0) else 0) n := fun t _ => by rw [ih, sm_if]
    rw [sm_c e1, sm_sw]
    refine sm_c (fun s _ => ?_)
    by_cases h : (B.testBit s && E (B ^^^ 2 ^ s) s) = true
    · simp only [h, if_true]
      rfl
    · simp only [h, Bool.false_eq_true, if_false, ite_self, sm_0]
theorem wk_le (E : Nat → Nat → Bool) (n B : Nat) : ∀ (k A : Nat), wk_ E n B k A ≤ n ^ k := by
  intro k
  induction k with
  | zero => intro A; unfold wk_; rw [Nat.pow_zero]; split <;> omega
  | succ k ih =>
    intro A
    rw [wk_, Nat.pow_succ, Nat.mul_comm]
    refine sm_le (fun t _ => ?_)
    split
    · exact ih _
    · exact Nat.zero_le _
