/-! BITS: sets without one; the lowest -/
set_option maxRecDepth 100000
/-- a set without one of it -/
def rmv_ (s t : Nat) : Nat := if s.testBit t = true then s ^^^ 2 ^ t else s
theorem rm_tb (s t i : Nat) : (rmv_ s t).testBit i = (s.testBit i && !decide (i = t)) := by
  unfold rmv_
  by_cases h : s.testBit t = true
  · rw [if_pos h, Nat.testBit_xor]
    by_cases e : i = t
    · subst e; rw [h, Nat.testBit_two_pow_self, decide_eq_true rfl]; rfl
    · rw [Nat.testBit_two_pow_of_ne (fun z => e z.symm), decide_eq_false e, Bool.xor_false, Bool.not_false, Bool.and_true]
  · rw [if_neg h]
    by_cases e : i = t
    · subst e; rw [Bool.eq_false_iff.mpr h]; rfl
    · rw [decide_eq_false e, Bool.not_false, Bool.and_true]
theorem rm_lt {s t : Nat} (hs : s < 1024) : rmv_ s t < 1024 := by
  refine Nat.lt_pow_two_of_testBit (n := 10) _ (fun i hi => ?_)
  rw [rm_tb, Nat.testBit_lt_two_pow (Nat.lt_of_lt_of_le hs (Nat.pow_le_pow_right (n := 2) (by decide) hi))]
  rfl
/-- how many of the first n -/
def bc_ (s n : Nat) : Nat := it_ (fun t v => if s.testBit t = true then v + 1 else v) 0 n 0
theorem bc_s (s n : Nat) : bc_ s (n + 1) = bc_ s n + if s.testBit n = true then 1 else 0 := by
  unfold bc_
  rw [it_1, Nat.zero_add]
  split <;> rfl
theorem bt_bc (s : Nat) : bt_n s = bc_ s 10 := rfl
theorem bc_le {s o : Nat} : ∀ n, (∀ t, t < n → s.testBit t = true → o.testBit t = true) → bc_ s n ≤ bc_ o n := by
  intro n
  induction n with
  | zero => intro _; exact Nat.le_refl _
  | succ n ih =>
    intro h
    have := ih (fun t ht => h t (by omega))
    have h2 := h n (by omega)
    rw [bc_s, bc_s]
    by_cases e : s.testBit n = true
    · rw [if_pos e, if_pos (h2 e)]; omega
    · rw [if_neg e]; omega
theorem bc_lt {s o : Nat} : ∀ n, (∀ t, t < n → s.testBit t = true → o.testBit t = true) → (∃ t, t < n ∧ o.testBit t = true ∧ s.testBit t = false) → bc_ s n < bc_ o n := by
  intro n
  induction n with
  | zero => intro _ ⟨t, h, _⟩; omega
  | succ n ih =>
    intro h ⟨t, h1, h2, h3⟩
    rw [bc_s, bc_s]
    by_cases e : t = n
    · subst e
      have := bc_le t (fun i hi => h i (by omega))
      rw [if_neg (by rw [h3]; decide), if_pos h2]; omega
    · have := ih (fun i hi => h i (by omega)) ⟨t, by omega, h2, h3⟩
      have h2 := h n (by omega)
      by_cases e : s.testBit n = true
      · rw [if_pos e, if_pos (h2 e)]; omega
      · rw [if_neg e]; omega
theorem bc_rm {s t : Nat} (h : s.testBit t = true) : ∀ n, t < n → bc_ s n = bc_ (rmv_ s t) n + 1 := by
  have same : ∀ n, n ≤ t → bc_ (rmv_ s t) n = bc_ s n := by
    intro n
    induction n with
    | zero => intro _; rfl
    | succ n ih =>
      intro hn
      rw [bc_s, bc_s, ih (by omega), rm_tb, decide_eq_false (by omega), Bool.not_false, Bool.and_true]
  intro n
  induction n with
  | zero => intro h; omega
  | succ n ih =>
    intro hn
    rw [bc_s, bc_s, rm_tb]
    by_cases e : t = n
    · subst e
      rw [same t (Nat.le_refl _), h, decide_eq_true rfl]; simp
    · rw [ih (by omega), decide_eq_false (by omega), Bool.not_false, Bool.and_true]; omega
theorem bt_rm {s t : Nat} (h : s.testBit t = true) (ht : t < 10) : bt_n s = bt_n (rmv_ s t) + 1 := bc_rm h 10 ht
theorem rm_bs {s t : Nat} (h : s.testBit t = true) : rmv_ s t = s ^^^ 2 ^ t := if_pos h
theorem tb_10 {s t : Nat} (hs : s < 1024) (h : s.testBit t = true) : t < 10 := by
  refine Nat.lt_of_not_le (fun hi => ?_)
  rw [Nat.testBit_lt_two_pow (Nat.lt_of_lt_of_le hs (Nat.pow_le_pow_right (n := 2) (by decide) hi))] at h
  cases h
theorem bt_0 {s : Nat} (hs : s < 1024) (h : bt_n s = 0) : s = 0 := by
  apply Nat.eq_of_testBit_eq
  intro i
  rw [Nat.zero_testBit]
  cases e : s.testBit i with
  | false => rfl
  | true =>
    have := bt_rm e (tb_10 hs e)
    omega
/-- the lowest of a set -/
def nz_ (s : Nat) : Nat := match ff_ (fun t => s.testBit t) 0 10 with
  | some t => t
  | none => 10
theorem nz_and : ∀ s : Fin 1024, s.val = 0 ∨ (s.val.testBit (nz_ s.val) = true ∧ nz_ s.val < 10 ∧ Int32.ofNat s.val &&& (Int32.ofNat s.val - Int32.ofNat 1) = Int32.ofNat (rmv_ s.val (nz_ s.val))) := by decide +kernel
theorem rmv_32 : ∀ s : Fin 1024, ∀ t : Fin 10, Int32.ofNat s.val &&& (Int32.ofNat (2 ^ t.val) ^^^ Int32.ofInt (-1)) = Int32.ofNat (rmv_ s.val t.val) := by decide +kernel
theorem rm_i {s t : Nat} (hs : s < 1024) (ht : t < 10) : Int32.ofNat s &&& (Int32.ofNat (2 ^ t) ^^^ Int32.ofInt (-1)) = Int32.ofNat (rmv_ s t) := rmv_32 ⟨s, hs⟩ ⟨t, ht⟩
/-! MARRIAGES: the most couples -/
def cpl1_ (can : Nat → Nat → Bool) (F : Nat → Nat) (a r b v : Nat) : Nat := if (r.testBit b && can a b) = true then max v (F (rmv_ r b) + 1) else v
def cpl_ (can : Nat → Nat → Bool) (n : Nat) : Nat → Nat → Nat
  | 0, _ => 0
  | f + 1, s => if s = 0 then 0 else it_ (cpl1_ can (cpl_ can n f) (nz_ s) (rmv_ s (nz_ s))) (nz_ s + 1) (n - (nz_ s + 1)) (cpl_ can n f (rmv_ s (nz_ s)))
theorem cpl_f (can : Nat → Nat → Bool) (n : Nat) : ∀ (f g s : Nat), s < 1024 → bt_n s ≤ f → bt_n s ≤ g → cpl_ can n f s = cpl_ can n g s := by
  intro f
  induction f with
  | zero =>
    intro g s hs h1 h2
    have := bt_0 hs (by omega)
    subst this
    cases g with
    | zero => rfl
    | succ g => rw [cpl_, cpl_, if_pos rfl]
  | succ f ih =>
    intro g s hs h1 h2
    rcases nz_and ⟨s, hs⟩ with h0 | ⟨h0, h3, -⟩
    · have h0 : s = 0 := h0
      subst h0
      rw [cpl_, if_pos rfl]
      cases g with
      | zero => rfl
      | succ g => rw [cpl_, if_pos rfl]
    · have h0 : s.testBit (nz_ s) = true := h0
      have h4 : bt_n s = bt_n (rmv_ s (nz_ s)) + 1 := bt_rm h0 h3
      have hs0 : s ≠ 0 := fun e => by rw [e, Nat.zero_testBit] at h0; cases h0
      cases g with
      | zero => omega
      | succ g =>
        rw [cpl_, cpl_, if_neg hs0, if_neg hs0, ih g _ (rm_lt hs) (by omega) (by omega)]
        refine it_c (fun b v _ _ => ?_)
        unfold cpl1_
        by_cases c : ((rmv_ s (nz_ s)).testBit b && can (nz_ s) b) = true
        · rw [if_pos c, if_pos c]
          have c1 : (rmv_ s (nz_ s)).testBit b = true := by
            rw [Bool.and_eq_true] at c; exact c.1
          have := bt_rm c1 (tb_10 (rm_lt hs) c1)
          rw [ih g _ (rm_lt (rm_lt hs)) (by omega) (by omega)]
        · rw [if_neg c, if_neg c]
/-! OUT: the fewest off; the component begins with none, the model with all others -/
def oc_ (g : Nat → Bool) (o s : Nat) (b : Option Nat) : Option Nat := if (s &&& o = s ∧ (∀ x, b = some x → bt_n s < bt_n x)) ∧ g s = true then some s else b
def om_ (g : Nat → Bool) (o s b : Nat) : Nat := if (s &&& o = s ∧ (bt_n s < bt_n b ∨ (bt_n s = bt_n b ∧ s < b))) ∧ g s = true then s else b
theorem bt_sub {s o : Nat} (h : s &&& o = s) : bt_n s ≤ bt_n o := bc_le 10 (fun t _ ht => by
  rw [← h, Nat.testBit_and, Bool.and_eq_true] at ht
  exact ht.2)
theorem bt_ssub {s o : Nat} (ho : o < 1024) (h : s &&& o = s) (hne : s ≠ o) : bt_n s < bt_n o := by
  refine bc_lt 10 (fun t _ ht => ?_) ?_
  · rw [← h, Nat.testBit_and, Bool.and_eq_true] at ht
    exact ht.2
  · refine Classical.byContradiction (fun hn => hne (Nat.eq_of_testBit_eq (fun i => ?_)))
    rw [← h, Nat.testBit_and]
    cases e : o.testBit i with
    | false => exact Bool.and_false _
    | true =>
      cases e2 : s.testBit i with
      | true => rfl
      | false => exact absurd ⟨i, tb_10 ho e, e, e2⟩ hn
theorem oc_om {g : Nat → Bool} {o : Nat} (ho : o < 1024) (hg : g o = true) {N : Nat} (hN : o < N) : it_ (oc_ g o) 0 (o + 1) none = some (it_ (om_ g o) 0 N o) := by
  have key : ∀ k, k ≤ o → it_ (om_ g o) 0 k o = (it_ (oc_ g o) 0 k none).getD o ∧ ∀ x, it_ (oc_ g o) 0 k none = some x → x < k ∧ x &&& o = x := by
    intro k
    induction k with
    | zero => intro _; exact ⟨rfl, fun x h => by cases h⟩
    | succ k ih =>
      intro hk
      obtain ⟨h1, h2⟩ := ih (by omega)
      rw [it_1, it_1, Nat.zero_add]
      cases e : it_ (oc_ g o) 0 k none with
      | none =>
        rw [e] at h1
        rw [h1]
        unfold oc_ om_
        by_cases c : k &&& o = k
        · have c2 := bt_ssub ho c (by omega)
          by_cases c3 : g k = true
          · rw [if_pos ⟨⟨c, Or.inl c2⟩, c3⟩, if_pos ⟨⟨c, fun x hx => by cases hx⟩, c3⟩]
            exact ⟨rfl, fun x hx => by cases hx; exact ⟨by omega, c⟩⟩
          · rw [if_neg (fun z => c3 z.2), if_neg (fun z => c3 z.2)]
            exact ⟨rfl, fun x hx => by cases hx⟩
        · rw [if_neg (fun z => c z.1.1), if_neg (fun z => c z.1.1)]
          exact ⟨rfl, fun x hx => by cases hx⟩
      | some b =>
        rw [e] at h1
        have h3 := h2 b e
        rw [h1]
        unfold oc_ om_
        by_cases c : (k &&& o = k ∧ bt_n k < bt_n b) ∧ g k = true
        · rw [if_pos ⟨⟨c.1.1, Or.inl c.1.2⟩, c.2⟩, if_pos ⟨⟨c.1.1, fun x hx => by cases hx; exact c.1.2⟩, c.2⟩]
          exact ⟨rfl, fun x hx => by cases hx; exact ⟨by omega, c.1.1⟩⟩
        · have d1 : ¬ ((k &&& o = k ∧ (bt_n k < bt_n ((some b).getD o) ∨ (bt_n k = bt_n ((some b).getD o) ∧ k < (some b).getD o))) ∧ g k = true) := by
            rintro ⟨⟨z1, z2⟩, z3⟩
            simp only [Option.getD_some] at z2
            have hb := h3.1
            exact c ⟨⟨z1, by omega⟩, z3⟩
          rw [if_neg d1, if_neg (fun z => c ⟨⟨z.1.1, z.1.2 b rfl⟩, z.2⟩)]
          exact ⟨rfl, fun x hx => by cases hx; exact ⟨by omega, h3.2⟩⟩
  have last : it_ (oc_ g o) 0 (o + 1) none = some (it_ (om_ g o) 0 (o + 1) o) := by
    obtain ⟨h1, h2⟩ := key o (Nat.le_refl _)
    rw [it_1, it_1, Nat.zero_add, h1]
    cases e : it_ (oc_ g o) 0 o none with
    | none =>
      unfold oc_ om_
      rw [if_pos ⟨⟨Nat.and_self o, fun x hx => by cases hx⟩, hg⟩, Option.getD_none, ite_self]
    | some b =>
      have h3 := h2 b e
      have := bt_sub h3.2
      unfold oc_ om_
      rw [if_neg (fun z => by have := z.1.2 b rfl; omega), Option.getD_some, if_neg (fun z => by have := z.1.2; omega)]
  rw [last]
  congr 1
  obtain ⟨m, rfl⟩ := Nat.le.dest (Nat.succ_le_of_lt hN)
  clear hN key last
  show it_ (om_ g o) 0 (o + 1) o = it_ (om_ g o) 0 (o + 1 + m) o
  induction m with
  | zero => rfl
  | succ m ih =>
    rw [← Nat.add_assoc, it_1 _ (o + 1 + m), Nat.zero_add, ← ih]
    unfold om_
    rw [if_neg]
    intro z
    have : (o + 1 + m) &&& o ≤ o := Nat.and_le_right
    have := z.1.1
    omega
theorem sb_n (a b : Nat) : Int32.ofNat a &&& (Int32.ofNat b ^^^ Int32.ofInt (-1)) = Int32.ofNat (a ^^^ (a &&& b)) := by
  apply Int32.toBitVec_inj.mp
  rw [Int32.toBitVec_and, Int32.toBitVec_xor]
  have e : (Int32.ofInt (-1)).toBitVec = BitVec.allOnes 32 := by decide
  rw [e]
  show BitVec.ofNat 32 a &&& (BitVec.ofNat 32 b ^^^ BitVec.allOnes 32) = BitVec.ofNat 32 (a ^^^ (a &&& b))
  apply BitVec.eq_of_getLsbD_eq
  intro i hi
  simp only [BitVec.getLsbD_and, BitVec.getLsbD_xor, BitVec.getLsbD_ofNat, hi, decide_true, Bool.true_and, Nat.testBit_xor, Nat.testBit_and, BitVec.getLsbD_allOnes]
  cases a.testBit i <;> cases b.testBit i <;> rfl
theorem sn_0 (a b : Nat) : (a ^^^ (a &&& b) = 0) = (a &&& b = a) := by
  refine propext ⟨fun h => ?_, fun h => by rw [h, Nat.xor_self]⟩
  apply Nat.eq_of_testBit_eq
  intro i
  have h1 := congrArg (fun n => Nat.testBit n i) h
  simp only [Nat.testBit_xor, Nat.testBit_and, Nat.zero_testBit] at h1 ⊢
  revert h1
  cases a.testBit i <;> cases b.testBit i <;> decide
