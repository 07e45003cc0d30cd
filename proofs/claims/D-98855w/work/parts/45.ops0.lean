/-! FIRST OPERATIONS: what changes nothing -/
set_option maxRecDepth 100000
/-- outcomes -/
def CR_ (G : Gm) (d t : Nat) (as : S_) (w : Wd) (r : Vl) : Prop := ∃ w1, Fr_ (pc_ (gm_of G)) w w1 ∧ ∀ Q, cl d t as w Q = Q (Sum.inl (some r)) w1
def CX_ (G : Gm) (d t : Nat) (as : S_) (w : Wd) (g : Nat) : Prop := ∃ w1, Fr_ (pc_ (gm_of G)) w w1 ∧ ∀ Q, cl d t as w Q = Q (Sum.inr (w_z w1)) (s_n w1 g 6)
def MR_ (d t : Nat) (as : S_) (w : Wd) (r : Vl) (c : Nat) : Prop := ∃ w1, Fr_ pm_ w w1 ∧ w_i w1 1440 3 = Int32.ofNat c ∧ ∀ Q, cl d t as w Q = Q (Sum.inl (some r)) w1
theorem mr_go {d t c : Nat} {as : S_} {ls : L_} {w : Wd} {r : Vl} (he : ∀ Q, cl d t as w Q = wp d t 5 ls [] (s_i w 1440 3 (Int32.ofNat 0)) Q) (h : ∀ w0, Fr_ pm_ w w0 → w_i w0 1440 3 = Int32.ofNat 0 → ∃ w1, Fr_ pm_ w0 w1 ∧ w_i w1 1440 3 = Int32.ofNat c ∧ ∀ Q, wp d t 5 ls [] w0 Q = Q (Sum.inl (some r)) w1) : MR_ d t as w r c := by
  obtain ⟨w1, h1, h2, h3⟩ := h (s_i w 1440 3 (Int32.ofNat 0)) (fr_3 _ _) (by rw [i_si, if_pos ⟨rfl, rfl⟩])
  exact ⟨w1, fr_tr (fr_3 _ _) h1, h2, fun Q => (he Q).trans (h3 Q)⟩
/-- no change -/
theorem mr_0 {d t : Nat} {ls : L_} {w : Wd} {r : Vl} (hc : w_i w 1440 3 = Int32.ofNat 0) (h : ∀ Q, wp d t 5 ls [] w Q = Q (Sum.inl (some r)) w) : ∃ w1, Fr_ pm_ w w1 ∧ w_i w1 1440 3 = Int32.ofNat 0 ∧ ∀ Q, wp d t 5 ls [] w Q = Q (Sum.inl (some r)) w1 := ⟨w, fr_rf _ _, hc, h⟩
theorem mr_f {d t c : Nat} {ls : L_} {w : Wd} {r : Vl} (h : ∀ Q, wp d t 5 ls [] w Q = Q (Sum.inl (some r)) (s_i w 1440 3 (Int32.ofNat c))) : ∃ w1, Fr_ pm_ w w1 ∧ w_i w1 1440 3 = Int32.ofNat c ∧ ∀ Q, wp d t 5 ls [] w Q = Q (Sum.inl (some r)) w1 := ⟨_, fr_3 _ _, by rw [i_si, if_pos ⟨rfl, rfl⟩], h⟩
theorem lp_iv {σ : Type} (H : Nat → σ → Prop) (K : σ → Prop) (I : Nat → σ → Prop) (f : Nat → σ → σ) : ∀ (n k : Nat) (s : σ), I k s → (∀ j s, k ≤ j → j < k + n → I j s → H j s = H (j + 1) (f j s) ∧ I (j + 1) (f j s)) → (∀ s, I (k + n) s → H (k + n) s = K s) → H k s = K (it_ f k n s) := by
  intro n
  induction n with
  | zero => intro k s hi _ e; exact e s hi
  | succ n ih =>
    intro k s hi h e
    obtain ⟨h1, h2⟩ := h k s (Nat.le_refl _) (by omega) hi
    rw [h1]
    refine ih (k + 1) (f k s) h2 (fun j s h1 h2 => h j s (by omega) (by omega)) ?_
    rw [show k + 1 + n = k + (n + 1) by omega]
    exact e
/-! mathematics -/
theorem or_tb (p : Nat → Bool) (g : Nat → Nat) (t : Nat) : ∀ (n k s : Nat), (it_ (fun l v => if p l = true then v ||| 2 ^ g l else v) k n s).testBit t = (s.testBit t || (ff_ (fun l => p l && decide (g l = t)) k n).isSome) := by
  intro n
  induction n with
  | zero => intro k s; exact (Bool.or_false _).symm
  | succ n ih =>
    intro k s
    rw [it_, ih, ff_]
    by_cases h1 : p k = true
    · by_cases h2 : g k = t
      · rw [if_pos h1, if_pos (by rw [h1, h2, decide_eq_true rfl]; rfl), h2, Nat.testBit_or, Nat.testBit_two_pow_self]
        cases s.testBit t <;> rfl
      · rw [if_pos h1, if_neg (by rw [h1, decide_eq_false h2]; decide), Nat.testBit_or, Nat.testBit_two_pow_of_ne h2, Bool.or_false]
    · rw [if_neg h1, if_neg (fun z => by rw [Bool.eq_false_iff.mpr h1] at z; cases z)]
theorem all_tb (X : Xm) (t : Nat) : (f_all X).testBit t = (f_lv X t).isSome := by
  have h := or_tb (fun _ => true) (xm_t X) t (xm_L X) 0 0
  simp only [if_true, Nat.zero_testBit, Bool.false_or, Bool.true_and] at h
  exact h
theorem tb_lt {v n : Nat} (h : ∀ t, n ≤ t → v.testBit t = false) : v < 2 ^ n := Nat.lt_pow_two_of_testBit _ h
theorem all_lt {n : Nat} {X : Xm} (h : WX_ n X) : f_all X < 2 ^ n := by
  refine tb_lt (fun t ht => ?_)
  rw [all_tb]
  cases e : f_lv X t with
  | none => rfl
  | some k =>
    obtain ⟨_, h2, h3, _⟩ := ff_s e
    have := of_decide_eq_true h3
    have := h.2.1 k (by omega)
    omega
theorem p2_le {n : Nat} (h : n ≤ 10) : 2 ^ n ≤ 1024 := Nat.pow_le_pow_right (by decide) h
/-- who is not in the tower -/
def f_by (n : Nat) (X : Xm) : Nat := it_ (fun t v => if (f_lv X t).isNone = true then v ||| 2 ^ t else v) 0 n 0
theorem by_0 : ∀ n : Fin 11, ∀ s : Fin 1024, (Int32.ofNat (2 ^ n.val) - Int32.ofNat 1) &&& (Int32.ofNat s.val ^^^ Int32.ofInt (-1)) = Int32.ofNat ((2 ^ n.val - 1) ^^^ ((2 ^ n.val - 1) &&& s.val)) := by decide +kernel
theorem by_1 {n : Nat} {X : Xm} (hn : n ≤ 10) (hX : WX_ n X) : (Int32.ofNat (2 ^ n) - Int32.ofNat 1) &&& (Int32.ofNat (f_all X) ^^^ Int32.ofInt (-1)) = Int32.ofNat (f_by n X) := by
  have h1 : f_all X < 1024 := Nat.lt_of_lt_of_le (all_lt hX) (p2_le hn)
  rw [by_0 ⟨n, by omega⟩ ⟨_, h1⟩]
  congr 1
  apply Nat.eq_of_testBit_eq
  intro t
  have h := or_tb (fun l => (f_lv X l).isNone) (fun l => l) t n 0 0
  simp only [Nat.zero_testBit, Bool.false_or] at h
  unfold f_by
  rw [h, Nat.testBit_xor, Nat.testBit_and, Nat.testBit_two_pow_sub_one, all_tb]
  by_cases ht : t < n
  · rw [decide_eq_true ht]
    cases e : f_lv X t with
    | none =>
      cases e2 : ff_ (fun l => (f_lv X l).isNone && decide (l = t)) 0 n with
      | none => have := ff_n e2 t (by omega) (by omega); rw [e] at this; simp at this
      | some j => rfl
    | some k =>
      cases e2 : ff_ (fun l => (f_lv X l).isNone && decide (l = t)) 0 n with
      | none => rfl
      | some j =>
        obtain ⟨_, _, h3, _⟩ := ff_s e2
        simp only [Bool.and_eq_true, decide_eq_true_eq] at h3
        rw [h3.2, e] at h3
        cases h3.1
  · rw [decide_eq_false ht]
    cases e2 : ff_ (fun l => (f_lv X l).isNone && decide (l = t)) 0 n with
    | none => rfl
    | some j =>
      obtain ⟨_, h2, h3, _⟩ := ff_s e2
      simp only [Bool.and_eq_true, decide_eq_true_eq] at h3
      omega
def q_count (S : Sm) (k : Nat) : Int32 := match k with
  | 0 => Int32.ofNat (tm_n (sm_T S))
  | 1 => Int32.ofNat (xm_L (bm_X (sm_B S)))
  | 2 => tm_li (sm_T S)
  | 3 => tm_fo (sm_T S)
  | 4 => b_v (f_st (sm_T S) (bm_X (sm_B S)))
  | 5 => o_i (f_brk (sm_T S) (bm_X (sm_B S)))
  | 6 => xm_c (bm_X (sm_B S))
  | 7 => Int32.ofNat (f_full (sm_T S) (bm_X (sm_B S)))
  | 8 => xm_y (bm_X (sm_B S))
  | 9 => Int32.ofNat (bm_a (sm_B S))
  | 10 => Int32.ofNat (bm_m (sm_B S))
  | 11 => Int32.ofNat (sm_n S)
  | k => bm_r (sm_B S) (k - 12)
def q_table (S : Sm) (t k : Nat) : Int32 := match k with
  | 0 => Int32.ofNat (tm_kd (sm_T S) t)
  | 1 => tm_wt (sm_T S) t
  | 2 => i_mx (Int32.ofNat 0) (tm_br (sm_T S) t - f_wk (tm_kd (sm_T S) t) * xm_y (bm_X (sm_B S)))
  | 3 => xm_l (bm_X (sm_B S)) t
  | 4 => tm_hg (sm_T S) t
  | 5 => xm_m (bm_X (sm_B S)) t
  | 6 => xm_w (bm_X (sm_B S)) t
  | _ => o_i (f_lv (bm_X (sm_B S)) t)
def q_level (S : Sm) (l k : Nat) : Int32 := match k with
  | 0 => Int32.ofNat (xm_t (bm_X (sm_B S)) l)
  | 1 => f_load (sm_T S) (bm_X (sm_B S)) l
  | 2 => f_cb (sm_T S) (bm_X (sm_B S)) l
  | 3 => f_tilt (sm_T S) (bm_X (sm_B S)) l
  | _ => b_v (f_held (sm_T S) (bm_X (sm_B S)) l)
def f_hung (T : Tm) (X : Xm) : Int32 × Int32 := it_ (fun t s => if (f_lv X t).isNone = true ∨ tm_hg T t - xm_m X t ≤ s.2 then s else (Int32.ofNat t, tm_hg T t - xm_m X t)) 0 (tm_n T) (Int32.ofInt (-1), Int32.ofNat 0)
def f_crk (T : Tm) (X : Xm) : Option Nat := it_ (fun l b => match b with
  | none => some l
  | some k => if i_ab (f_tilt T X k) < i_ab (f_tilt T X l) then some l else some k) 0 (xm_L X) none
theorem oo_no {x : Int32} {n : Nat} (hn : n < 2147483648) (h : x < Int32.ofNat 0 ∨ ∃ k, n ≤ k ∧ k < 2147483648 ∧ x = Int32.ofNat k) : ¬ (Int32.ofNat 0 ≤ x ∧ x ≤ Int32.ofNat n - Int32.ofNat 1) := by
  rintro ⟨h1, h2⟩
  rcases h with h | ⟨k, hk, hk2, rfl⟩
  · exact absurd h (Int32.not_lt.mpr h1)
  · rcases Nat.eq_zero_or_pos n with e | e
    · subst e
      rw [show Int32.ofNat 0 - Int32.ofNat 1 = Int32.ofInt (-1) by decide] at h2
      have h3 := Int32.le_trans h1 h2
      exact absurd h3 (by decide)
    · rw [oo_sub (by omega), oo_le hk2 (by omega)] at h2
      omega
