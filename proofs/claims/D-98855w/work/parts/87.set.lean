/-! SETS: sums, edges, the rows' mathematics -/
set_option maxRecDepth 100000
def f_wsn (T : Tm) (X : Xm) (n s : Nat) : Int32 := it_ (fun t v => if s.testBit t = true then v + (tm_wt T t + xm_m X t) else v) 0 n (Int32.ofNat 0)
def f_lsn (T : Tm) (X : Xm) (n s : Nat) : Int32 := it_ (fun t v => if s.testBit t = true then v + f_tu T X t else v) 0 n (Int32.ofNat 0)
/-- sums over a set -/
def su_ (g : Nat → Int32) (n s : Nat) : Int32 := it_ (fun t v => if s.testBit t = true then v + g t else v) 0 n (Int32.ofNat 0)
theorem su_s (g : Nat → Int32) (n s : Nat) : su_ g (n + 1) s = if s.testBit n = true then su_ g n s + g n else su_ g n s := by
  unfold su_
  rw [it_1, Nat.zero_add]
theorem su_c (g : Nat → Int32) {s u : Nat} : ∀ n, (∀ t, t < n → s.testBit t = u.testBit t) → su_ g n s = su_ g n u := by
  intro n
  induction n with
  | zero => intro _; rfl
  | succ n ih => intro h; rw [su_s, su_s, ih (fun t ht => h t (by omega)), h n (by omega)]
theorem su_up (g : Nat → Int32) {s k : Nat} (hs : s < 2 ^ k) : ∀ m, su_ g (k + m) s = su_ g k s := by
  intro m
  induction m with
  | zero => rfl
  | succ m ih => rw [← Nat.add_assoc, su_s, if_neg (by rw [Nat.testBit_lt_two_pow (Nat.lt_of_lt_of_le hs (Nat.pow_le_pow_right (n := 2) (by decide) (by omega)))]; decide), ih]
theorem su_or (g : Nat → Int32) {s t : Nat} (hs : s < 2 ^ t) : su_ g (t + 1) (s ||| 2 ^ t) = su_ g t s + g t := by
  rw [su_s, if_pos (by rw [Nat.testBit_or, Nat.testBit_two_pow_self, Bool.or_true])]
  rw [su_c g (s := s ||| 2 ^ t) (u := s) t (fun i hi => by rw [Nat.testBit_or, Nat.testBit_two_pow_of_ne (by omega), Bool.or_false])]
theorem su_0 (g : Nat → Int32) : ∀ n, su_ g n 0 = Int32.ofNat 0 := by
  intro n
  induction n with
  | zero => rfl
  | succ n ih => rw [su_s, Nat.zero_testBit, if_neg (by decide), ih]
/-- a set's sum less a part's -/
theorem su_sub (g : Nat → Int32) {a p : Nat} : ∀ n, (∀ t, t < n → p.testBit t = true → a.testBit t = true) → su_ g n a = su_ g n p + su_ g n (a ^^^ (a &&& p)) := by
  intro n
  induction n with
  | zero => intro _; rfl
  | succ n ih =>
    intro h
    have h1 := ih (fun t ht => h t (by omega))
    have h2 := h n (by omega)
    have h3 : (a ^^^ (a &&& p)).testBit n = (a.testBit n && !p.testBit n) := by
      rw [Nat.testBit_xor, Nat.testBit_and]
      cases a.testBit n <;> cases p.testBit n <;> rfl
    rw [su_s, su_s, su_s, h1, h3]
    cases hp : p.testBit n with
    | true =>
      rw [if_pos (h2 hp), if_pos rfl, Bool.not_true, Bool.and_false, if_neg (by decide)]
      rw [Int32.add_assoc, Int32.add_assoc, Int32.add_comm (g n)]
    | false =>
      rw [if_neg (by decide : ¬ (false = true)), Bool.not_false, Bool.and_true]
      cases a.testBit n with
      | true => rw [if_pos rfl, if_pos rfl, Int32.add_assoc]
      | false => rw [if_neg (by decide), if_neg (by decide)]
def gw_ (T : Tm) (X : Xm) (t : Nat) : Int32 := tm_wt T t + xm_m X t
def f_ws (T : Tm) (X : Xm) (s : Nat) : Int32 := su_ (gw_ T X) (tm_n T) s
def f_ls (T : Tm) (X : Xm) (s : Nat) : Int32 := su_ (f_tu T X) (tm_n T) s
/-- whether a table holds on some others, a whole set being the tower -/
def f_hl (T : Tm) (X : Xm) (all below t : Nat) : Bool := decide (f_ws T X (all ^^^ (all &&& (below ||| 2 ^ t))) + xm_m X t ≤ f_car T (xm_y X) t (decide (below ||| 2 ^ t = all)) ∧ i_ab (f_ls T X (below ||| 2 ^ t)) ≤ tm_li T)
def E_ (T : Tm) (X : Xm) (some sea all below t : Nat) : Bool := (all.testBit t && !(some.testBit t && decide (bt_n below < sea))) && f_hl T X all below t
def wy_ (T : Tm) (X : Xm) (some sea all : Nat) : Nat := wk_ (E_ T X some sea all) (tm_n T) all (bt_n all) 0
theorem bt_10 {s : Nat} (hs : s < 1024) : bt_n s ≤ 10 := (by decide +kernel : ∀ s : Fin 1024, bt_n s.val ≤ 10) ⟨s, hs⟩
theorem wk_b {T : Tm} {E : Nat → Nat → Bool} {B k A : Nat} (hn : tm_n T ≤ 10) (hk : k ≤ 10) : wk_ E (tm_n T) B k A ≤ 10000000000 := by
  refine Nat.le_trans (wk_le E (tm_n T) B k A) ?_
  refine Nat.le_trans (Nat.pow_le_pow_left hn k) ?_
  exact Nat.le_trans (Nat.pow_le_pow_right (by decide) hk) (by decide)
/-- longs -/
theorem l_in {a : Nat} (h : a < 9223372036854775808) : (Int64.ofNat a).toInt = (a : Int) := Int64.toInt_ofNat_of_lt h
theorem l_eq {a b : Nat} (ha : a < 9223372036854775808) (hb : b < 9223372036854775808) : (Int64.ofNat a = Int64.ofNat b) = (a = b) := by
  refine propext ⟨fun h => ?_, fun h => h ▸ rfl⟩
  have := congrArg Int64.toInt h
  rw [l_in ha, l_in hb] at this
  omega
theorem l_le {a b : Nat} (ha : a < 9223372036854775808) (hb : b < 9223372036854775808) : (Int64.ofNat a ≤ Int64.ofNat b) = (a ≤ b) := by
  refine propext ?_
  rw [Int64.le_iff_toInt_le, l_in ha, l_in hb]
  omega
theorem l_add (a b : Nat) : Int64.ofNat a + Int64.ofNat b = Int64.ofNat (a + b) := (Int64.ofNat_add a b).symm
/-- the walks' partial sums -/
def up_ (E : Nat → Nat → Bool) (n v k : Nat) (s : Nat) : Nat := if (v.testBit s && E (v ^^^ 2 ^ s) s) = true then wk_ E n (v ^^^ 2 ^ s) k 0 else 0
def dn_ (E : Nat → Nat → Bool) (n B k A : Nat) (t : Nat) : Nat := if (!A.testBit t && E A t) = true then wk_ E n B k (A ||| 2 ^ t) else 0
theorem sm_mo {f : Nat → Nat} {a b : Nat} (h : a ≤ b) : sm_ f a ≤ sm_ f b := by
  obtain ⟨m, rfl⟩ := Nat.le.dest h
  clear h
  induction m with
  | zero => exact Nat.le_refl _
  | succ m ih => rw [← Nat.add_assoc, sm_]; omega
theorem up_wk (E : Nat → Nat → Bool) (n v k : Nat) : sm_ (up_ E n v k) n = wk_ E n v (k + 1) 0 := (wk_l E n k 0 v).symm
theorem dn_wk (E : Nat → Nat → Bool) (n B k A : Nat) : sm_ (dn_ E n B k A) n = wk_ E n B (k + 1) A := rfl
/-! the model's parts -/
theorem pm1_t : ∀ p : Fin 1024, ∀ j : Fin 10, p.val = 0 ∨ (p.val - 1).testBit j.val = (decide (j.val < nz_ p.val) || (!decide (j.val = nz_ p.val) && p.val.testBit j.val)) := by decide +kernel
theorem sub_le {s o : Nat} (h : s &&& o = s) : s ≤ o := by
  rw [← h]; exact Nat.and_le_right
theorem sub_tb {s o t : Nat} (h : s &&& o = s) (ht : s.testBit t = true) : o.testBit t = true := by
  rw [← h, Nat.testBit_and, Bool.and_eq_true] at ht
  exact ht.2
theorem tb_sub {s o : Nat} (h : ∀ t, s.testBit t = true → o.testBit t = true) : s &&& o = s := by
  apply Nat.eq_of_testBit_eq
  intro i
  rw [Nat.testBit_and]
  cases e : s.testBit i with
  | false => rfl
  | true => rw [h i e]; rfl
theorem lt_tb {n m i : Nat} (hn : n.testBit i = false) (hm : m.testBit i = true) (h : ∀ j, i < j → n.testBit j = m.testBit j) : n < m := by
  have e : n / 2 ^ (i + 1) = m / 2 ^ (i + 1) := by
    apply Nat.eq_of_testBit_eq
    intro j
    rw [Nat.testBit_div_two_pow, Nat.testBit_div_two_pow]
    exact h _ (by omega)
  have h1 : n % 2 ^ (i + 1) < 2 ^ i := by
    refine Nat.lt_pow_two_of_testBit _ (fun k hk => ?_)
    rw [Nat.testBit_mod_two_pow]
    by_cases c : k = i
    · rw [c, hn, Bool.and_false]
    · rw [decide_eq_false (by omega), Bool.false_and]
  have h2 : 2 ^ i ≤ m % 2 ^ (i + 1) := by
    refine Nat.le_of_not_lt (fun z => ?_)
    have h3 := Nat.testBit_lt_two_pow z
    rw [Nat.testBit_mod_two_pow, hm, decide_eq_true (by omega)] at h3
    cases h3
  have a1 := Nat.div_add_mod n (2 ^ (i + 1))
  have a2 := Nat.div_add_mod m (2 ^ (i + 1))
  rw [e] at a1
  omega
/-- the next part with one more was told before -/
theorem part_up {p all t : Nat} (hall : all < 1024) (hp : p &&& all = p) (h0 : p ≠ 0) (ht : all.testBit t = true) (hq : ((p - 1) &&& all).testBit t = false) : p ≤ ((p - 1) &&& all) ||| 2 ^ t := by
  have hp1024 : p < 1024 := Nat.lt_of_le_of_lt (sub_le hp) hall
  have ht10 := tb_10 hall ht
  have bits : ∀ j, j < 10 → (p - 1).testBit j = (decide (j < nz_ p) || (!decide (j = nz_ p) && p.testBit j)) := fun j hj => (pm1_t ⟨p, hp1024⟩ ⟨j, hj⟩).resolve_left h0
  have hz : p.testBit (nz_ p) = true ∧ nz_ p < 10 := by
    rcases nz_and ⟨p, hp1024⟩ with z | z
    · exact absurd z h0
    · exact ⟨z.1, z.2.1⟩
  have big : ∀ (s j : Nat), s < 1024 → 10 ≤ j → s.testBit j = false := fun s j hs hj => by
    cases e : s.testBit j with
    | false => rfl
    | true => have := tb_10 hs e; omega
  have hqt : (p - 1).testBit t = false := by
    rw [Nat.testBit_and, ht, Bool.and_true] at hq
    exact hq
  rw [bits t ht10] at hqt
  simp only [Bool.or_eq_false_iff, decide_eq_false_iff_not] at hqt
  obtain ⟨q1, q2⟩ := hqt
  by_cases e : t = nz_ p
  · refine sub_le (tb_sub (fun j hj => ?_))
    rw [Nat.testBit_or]
    by_cases c : j = t
    · rw [c, Nat.testBit_two_pow_self, Bool.or_true]
    · have hj10 : j < 10 := tb_10 hp1024 hj
      have hjn : ¬ j < nz_ p := fun z => by
        unfold nz_ at z
        cases ee : ff_ (fun t => p.testBit t) 0 10 with
        | none =>
          have := ff_n ee j (Nat.zero_le _) (by omega)
          rw [hj] at this; cases this
        | some a =>
          rw [ee] at z
          have := (ff_s ee).2.2.2 j (Nat.zero_le _) z
          rw [hj] at this; cases this
      rw [Nat.testBit_and, bits j hj10, hj, sub_tb hp hj, decide_eq_false (by omega : ¬ j = nz_ p)]
      simp
  · refine Nat.le_of_lt (lt_tb (i := t) ?_ ?_ (fun j hj => ?_))
    · have : (!decide (t = nz_ p)) = true := by rw [decide_eq_false e]; rfl
      rw [this, Bool.true_and] at q2
      exact q2
    · rw [Nat.testBit_or, Nat.testBit_two_pow_self, Bool.or_true]
    · rw [Nat.testBit_or, Nat.testBit_two_pow_of_ne (by omega), Bool.or_false, Nat.testBit_and]
      by_cases hj10 : j < 10
      · rw [bits j hj10, decide_eq_false (by omega : ¬ j < nz_ p), decide_eq_false (by omega : ¬ j = nz_ p)]
        cases ej : p.testBit j with
        | false => rfl
        | true => rw [sub_tb hp ej]; rfl
      · rw [big p j hp1024 (by omega), big all j hall (by omega), Bool.and_false]
theorem part_sub (p all : Nat) : ((p - 1) &&& all) &&& all = (p - 1) &&& all := tb_sub (fun t ht => by
  rw [Nat.testBit_and, Bool.and_eq_true] at ht
  exact ht.2)
theorem bt_or {s t : Nat} (h : s.testBit t = false) (ht : t < 10) : bt_n (s ||| 2 ^ t) = bt_n s + 1 := by
  have h1 : (s ||| 2 ^ t).testBit t = true := by rw [Nat.testBit_or, Nat.testBit_two_pow_self, Bool.or_true]
  have h2 : rmv_ (s ||| 2 ^ t) t = s := by
    rw [rm_bs h1]
    exact ((wk_b0 h).mp rfl).2.symm
  rw [bt_rm h1 ht, h2]
/-- the most -/
def f_ms1 (T : Tm) (X : Xm) (s b : Nat) : Nat := if bt_n b < bt_n s ∧ 0 < wy_ T X 0 0 s then s else b
def f_mst (T : Tm) (X : Xm) : Nat := it_ (f_ms1 T X) 1 (2 ^ tm_n T - 1) 0
/-- the first row -/
def gr_ (E : Nat → Nat → Bool) (n B k A : Nat) : Option Nat := ff_ (fun t => decide (0 < dn_ E n B k A t)) 0 n
def rw_ (E : Nat → Nat → Bool) (n B : Nat) : Nat → Nat → Nat → Nat
  | 0, _, _ => 0
  | k + 1, A, i => match gr_ E n B k A with
    | none => 0
    | some t => if i = 0 then t else rw_ E n B k (A ||| 2 ^ t) (i - 1)
