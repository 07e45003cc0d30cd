/-! THE PARSER in mathematics: tokens, expressions, towns -/
set_option maxRecDepth 100000
/-- a tape: bytes, how many -/
abbrev Tp : Type := (Nat → Nat) × Nat
def rn_ (p : Nat → Bool) : Nat → Nat → Nat
  | 0, b => b
  | f + 1, b => if p b then rn_ p f (b + 1) else b
def ct_b (x : Nat) : Bool := decide (x = 32 ∨ x = 10)
def ct_l (x : Nat) : Bool := decide (97 ≤ x ∧ x ≤ 122)
def ct_d (x : Nat) : Bool := decide (48 ≤ x ∧ x ≤ 57)
def ct_s (x : Nat) : Bool := decide (x = 59 ∨ x = 40 ∨ x = 41 ∨ x = 43 ∨ x = 45 ∨ x = 42 ∨ x = 47 ∨ x = 60 ∨ x = 61)
/-- the first from b on that is not of a class -/
def cl_e' (c : Nat → Bool) (t : Tp) (b : Nat) : Nat := rn_ (fun k => decide (k < t.2) && c (t.1 k)) (t.2 - b) b
def sk_ (t : Tp) (b : Nat) : Nat := cl_e' ct_b t b
/-- kinds: 0 end, 1 word, 2 number, 3 sign, 4 bad -/
def tk_k (t : Tp) (b : Nat) : Nat := if t.2 ≤ b then 0 else if ct_l (t.1 b) then 1 else if ct_d (t.1 b) then 2 else if ct_s (t.1 b) then 3 else 4
def tk_e (t : Tp) (b : Nat) : Nat := if tk_k t b = 0 then b else if tk_k t b = 1 then cl_e' ct_l t b else if tk_k t b = 2 then cl_e' ct_d t b else b + 1
def tk_n (t : Tp) (b : Nat) : Nat := sk_ t (tk_e t b)
/-- a number's value, of its first four digits -/
def tk_v (t : Tp) (b : Nat) : Nat → Nat
  | 0 => 0
  | k + 1 => 10 * tk_v t b k + (t.1 (b + k) - 48)
def tk_num (t : Tp) (b : Nat) : Nat := tk_v t b (tk_e t b - b)
/-- is the token at b this word -/
def is_w (t : Tp) (b : Nat) (s : List Nat) : Bool := decide (tk_k t b = 1) && decide (tk_e t b - b = s.length) && decide (∀ k, k < s.length → t.1 (b + k) = s.getD k 0)
def is_s (t : Tp) (b : Nat) (x : Nat) : Bool := decide (tk_k t b = 3) && decide (t.1 b = x)
theorem rn_le (p : Nat → Bool) : ∀ f b, b ≤ rn_ p f b ∧ rn_ p f b ≤ b + f := by
  intro f
  induction f with
  | zero => intro b; exact ⟨Nat.le_refl _, Nat.le_refl _⟩
  | succ f ih =>
    intro b
    unfold rn_
    have := ih (b + 1)
    split
    · omega
    · omega
theorem rn_in (p : Nat → Bool) : ∀ f b k, b ≤ k → k < rn_ p f b → p k = true := by
  intro f
  induction f with
  | zero => intro b k h1 h2; unfold rn_ at h2; omega
  | succ f ih =>
    intro b k h1 h2
    unfold rn_ at h2
    by_cases hp : p b = true
    · rw [if_pos hp] at h2
      by_cases e : k = b
      · rw [e]; exact hp
      · exact ih (b + 1) k (by omega) h2
    · rw [if_neg hp] at h2; omega
theorem rn_st (p : Nat → Bool) : ∀ f b, rn_ p f b < b + f → p (rn_ p f b) = false := by
  intro f
  induction f with
  | zero => intro b h; unfold rn_ at h; omega
  | succ f ih =>
    intro b h
    unfold rn_ at h ⊢
    by_cases hp : p b = true
    · rw [if_pos hp] at h ⊢
      exact ih (b + 1) (by omega)
    · rw [if_neg hp]
      exact Bool.eq_false_iff.mpr hp
theorem ce_le {c : Nat → Bool} {t : Tp} {b : Nat} : b ≤ cl_e' c t b ∧ (b ≤ t.2 → cl_e' c t b ≤ t.2) := by
  unfold cl_e'
  have := rn_le (fun k => decide (k < t.2) && c (t.1 k)) (t.2 - b) b
  omega
theorem ce_in {c : Nat → Bool} {t : Tp} {b k : Nat} (h1 : b ≤ k) (h2 : k < cl_e' c t b) : k < t.2 ∧ c (t.1 k) = true := by
  have := rn_in _ _ _ k h1 h2
  simp only [Bool.and_eq_true, decide_eq_true_eq] at this
  exact this
theorem ce_st {c : Nat → Bool} {t : Tp} {b : Nat} (h : cl_e' c t b < t.2) : c (t.1 (cl_e' c t b)) = false := by
  by_cases hb : b ≤ t.2
  · have := rn_st (fun k => decide (k < t.2) && c (t.1 k)) (t.2 - b) b (by unfold cl_e' at h; omega)
    have e : (decide (cl_e' c t b < t.2) && c (t.1 (cl_e' c t b))) = false := this
    rw [decide_eq_true h, Bool.true_and] at e
    exact e
  · have := (ce_le (c := c) (t := t) (b := b)).1
    omega
/-- a token that is not the end takes a byte at least -/
theorem tk_lt {t : Tp} {b : Nat} (h : tk_k t b ≠ 0) : b < t.2 ∧ b < tk_e t b ∧ tk_e t b ≤ t.2 := by
  have hb : b < t.2 := by
    by_cases hb : t.2 ≤ b
    · exact absurd (by unfold tk_k; rw [if_pos hb]) h
    · omega
  refine ⟨hb, ?_⟩
  unfold tk_e
  rw [if_neg h]
  by_cases h1 : tk_k t b = 1
  · rw [if_pos h1]
    refine ⟨?_, ce_le.2 (by omega)⟩
    have hl : ct_l (t.1 b) = true := by
      unfold tk_k at h1
      rw [if_neg (by omega)] at h1
      by_cases z : ct_l (t.1 b) = true
      · exact z
      · rw [if_neg z] at h1
        split at h1
        · omega
        · split at h1 <;> omega
    rcases Nat.lt_or_ge b (cl_e' ct_l t b) with z | z
    · exact z
    · have e : cl_e' ct_l t b = b := Nat.le_antisymm z ce_le.1
      have := ce_st (c := ct_l) (t := t) (b := b) (by omega)
      rw [e, hl] at this
      cases this
  · rw [if_neg h1]
    by_cases h2 : tk_k t b = 2
    · rw [if_pos h2]
      refine ⟨?_, ce_le.2 (by omega)⟩
      have hl : ct_d (t.1 b) = true := by
        unfold tk_k at h2
        rw [if_neg (by omega)] at h2
        split at h2
        · omega
        · split at h2
          · assumption
          · split at h2 <;> omega
      rcases Nat.lt_or_ge b (cl_e' ct_d t b) with z | z
      · exact z
      · have e : cl_e' ct_d t b = b := Nat.le_antisymm z ce_le.1
        have := ce_st (c := ct_d) (t := t) (b := b) (by omega)
        rw [e, hl] at this
        cases this
    · rw [if_neg h2]; omega
theorem tk_gt {t : Tp} {b : Nat} (h : tk_k t b ≠ 0) : b < tk_n t b ∧ tk_n t b ≤ t.2 := by
  obtain ⟨h1, h2, h3⟩ := tk_lt h
  have h4 := ce_le (c := ct_b) (t := t) (b := tk_e t b)
  have h5 := h4.2 h3
  unfold tk_n sk_
  omega
/-! expressions: code laid, where the reading stands; or a fault's code and place -/
abbrev Rs_ : Type := (Nat × Nat) ⊕ (List Int32 × Nat)
def ws_not : List Nat := [110, 111, 116]
def ws_and : List Nat := [97, 110, 100]
def ws_or : List Nat := [111, 114]
def vw_ (t : Tp) (b : Nat) : Option Nat := if is_w t b [108, 101, 118, 101, 108] then some 0 else if is_w t b [104, 117, 110, 103, 101, 114] then some 1 else if is_w t b [108, 101, 102, 116] then some 2 else if is_w t b [107, 105, 110, 100] then some 3 else if is_w t b [97, 98, 111, 118, 101] then some 4 else if is_w t b [119, 101, 105, 103, 104, 116] then some 5 else none
/-- a number at b between lo and hi -/
def nm_ (t : Tp) (lo hi b : Nat) : (Nat × Nat) ⊕ (Nat × Nat) := if tk_k t b ≠ 2 then Sum.inl (1, b) else if tk_e t b - b ≤ 4 ∧ lo ≤ tk_num t b ∧ tk_num t b ≤ hi then Sum.inr (tk_num t b, tk_n t b) else Sum.inl (2, b)
/-- a sign needed -/
def nd_ (t : Tp) (x b : Nat) : (Nat × Nat) ⊕ Nat := if is_s t b x then Sum.inr (tk_n t b) else Sum.inl (1, b)
/-- a part, parentheses by X -/
def pt_ (t : Tp) (X : Nat → Rs_) (b : Nat) : Rs_ :=
  if tk_k t b = 2 then (match nm_ t 0 9999 b with | Sum.inl e => Sum.inl e | Sum.inr r => Sum.inr ([Int32.ofNat r.1], r.2))
  else if is_s t b 40 then (match X (tk_n t b) with | Sum.inl e => Sum.inl e | Sum.inr r => match nd_ t 41 r.2 with | Sum.inl e => Sum.inl e | Sum.inr b2 => Sum.inr (r.1, b2))
  else if tk_k t b = 1 then (match vw_ t b with | none => Sum.inl (3, b) | some j => Sum.inr ([Int32.ofInt (-1 - ((j : Nat) : Int))], tk_n t b))
  else Sum.inl (1, b)
/-- a chain of a level's operators -/
def ch_ (t : Tp) (sub : Nat → Rs_) (op : Nat → Option Nat) : Nat → List Int32 → Nat → Rs_
  | 0, c, b => Sum.inr (c, b)
  | f + 1, c, b => match op b with
    | none => Sum.inr (c, b)
    | some o => match sub (tk_n t b) with
      | Sum.inl e => Sum.inl e
      | Sum.inr r => ch_ t sub op f (c ++ (r.1 ++ [sg_n o])) r.2
def lv_c (t : Tp) (sub : Nat → Rs_) (op : Nat → Option Nat) (b : Nat) : Rs_ := match sub b with
  | Sum.inl e => Sum.inl e
  | Sum.inr r => ch_ t sub op (t.2 + 1) r.1 r.2
def op_m (t : Tp) (b : Nat) : Option Nat := if is_s t b 42 then some 2 else if is_s t b 47 then some 3 else none
def op_a (t : Tp) (b : Nat) : Option Nat := if is_s t b 43 then some 0 else if is_s t b 45 then some 1 else none
def op_c (t : Tp) (b : Nat) : Option Nat := if is_s t b 60 then some 4 else if is_s t b 61 then some 5 else none
def op_n (t : Tp) (b : Nat) : Option Nat := if is_w t b ws_and then some 6 else none
def op_o (t : Tp) (b : Nat) : Option Nat := if is_w t b ws_or then some 7 else none
/-- sums compared once -/
def cm_ (t : Tp) (S : Nat → Rs_) (b : Nat) : Rs_ := match S b with
  | Sum.inl e => Sum.inl e
  | Sum.inr r => match op_c t r.2 with
    | none => Sum.inr r
    | some o => match S (tk_n t r.2) with
      | Sum.inl e => Sum.inl e
      | Sum.inr r2 => Sum.inr (r.1 ++ (r2.1 ++ [sg_n o]), r2.2)
/-- nots, k more allowed -/
def nots_ (t : Tp) (C : Nat → Rs_) : Nat → Nat → Rs_
  | 0, b => if is_w t b ws_not then Sum.inl (2, b) else C b
  | k + 1, b => if is_w t b ws_not then (match nots_ t C k (tk_n t b) with | Sum.inl e => Sum.inl e | Sum.inr r => Sum.inr (r.1 ++ [Int32.ofInt (-28)], r.2)) else C b
def st_x (t : Tp) (b : Nat) : Bool := decide (tk_k t b = 2) || decide (tk_k t b = 1) || is_s t b 40
/-- an expression, r more parentheses allowed -/
def ex_p (t : Tp) : Nat → Nat → Rs_
  | 0, b => if st_x t b then Sum.inl (2, b) else Sum.inl (1, b)
  | r + 1, b => if st_x t b then lv_c t (lv_c t (nots_ t (cm_ t (lv_c t (lv_c t (pt_ t (ex_p t r)) (op_m t)) (op_a t))) 6) (op_n t)) (op_o t) b else Sum.inl (1, b)
/-! towns -/
/-- what is read so far: the town, which lines were seen -/
abbrev Ln_ : Type := Tm × Bool × Bool × Bool
def ks_ (t : Tp) (b : Nat) : Option Nat := if is_w t b [112, 105, 110, 101] then some 0 else if is_w t b [111, 97, 107] then some 1 else if is_w t b [102, 111, 108, 100, 105, 110, 103] then some 2 else if is_w t b [99, 97, 115, 116, 111, 114] then some 3 else none
def ap_ {α : Type} (n : Nat) (f : Nat → α) (x : α) : Nat → α := fun j => if j = n then x else f j
/-- a table's line, its kind known -/
def tb_ (t : Tp) (T : Tm) (k b : Nat) : (Nat × Nat) ⊕ (Tm × Nat) :=
  match nm_ t 1 99 (tk_n t b) with
  | Sum.inl e => Sum.inl e
  | Sum.inr r1 => match nm_ t 0 999 r1.2 with
    | Sum.inl e => Sum.inl e
    | Sum.inr r2 => match nm_ t 0 9 (if is_s t r2.2 45 then tk_n t r2.2 else r2.2) with
      | Sum.inl e => Sum.inl e
      | Sum.inr r3 => match nm_ t 0 99 r3.2 with
        | Sum.inl e => Sum.inl e
        | Sum.inr r4 => Sum.inr ((tm_n T + 1, tm_li T, tm_fo T, ap_ (tm_n T) (tm_kd T) k, ap_ (tm_n T) (tm_wt T) (Int32.ofNat r1.1), ap_ (tm_n T) (tm_br T) (Int32.ofNat r2.1), ap_ (tm_n T) (tm_ln T) (if is_s t r2.2 45 then -(Int32.ofNat r3.1) else Int32.ofNat r3.1), ap_ (tm_n T) (tm_hg T) (Int32.ofNat r4.1), tm_co T), r4.2)
/-- one line, without its end -/
def ln_ (t : Tp) (s : Ln_) (b : Nat) : (Nat × Nat) ⊕ (Ln_ × Nat) :=
  if is_w t b [108, 105, 109, 105, 116] then (if s.2.1 then Sum.inl (4, b) else match nm_ t 0 40 (tk_n t b) with
    | Sum.inl e => Sum.inl e
    | Sum.inr r => Sum.inr (((tm_n s.1, Int32.ofNat r.1, tm_fo s.1, tm_kd s.1, tm_wt s.1, tm_br s.1, tm_ln s.1, tm_hg s.1, tm_co s.1), true, s.2.2), r.2))
  else if is_w t b [102, 111, 111, 100] then (if s.2.2.1 then Sum.inl (4, b) else match nm_ t 0 999 (tk_n t b) with
    | Sum.inl e => Sum.inl e
    | Sum.inr r => Sum.inr (((tm_n s.1, tm_li s.1, Int32.ofNat r.1, tm_kd s.1, tm_wt s.1, tm_br s.1, tm_ln s.1, tm_hg s.1, tm_co s.1), s.2.1, true, s.2.2.2), r.2))
  else if is_w t b [116, 97, 107, 101, 115] then (if s.2.2.2 then Sum.inl (4, b) else match ex_p t 6 (tk_n t b) with
    | Sum.inl e => Sum.inl e
    | Sum.inr r => Sum.inr (((tm_n s.1, tm_li s.1, tm_fo s.1, tm_kd s.1, tm_wt s.1, tm_br s.1, tm_ln s.1, tm_hg s.1, r.1), s.2.1, s.2.2.1, true), r.2))
  else match ks_ t b with
    | none => Sum.inl (1, b)
    | some k => if tm_n s.1 < 10 then (match tb_ t s.1 k b with | Sum.inl e => Sum.inl e | Sum.inr r => Sum.inr ((r.1, s.2), r.2)) else Sum.inl (2, b)
/-- the lines -/
def lns_ (t : Tp) : Nat → Ln_ → Nat → (Nat × Nat) ⊕ Tm
  | 0, s, _ => Sum.inr s.1
  | f + 1, s, b => if tk_k t b = 0 then Sum.inr s.1 else match ln_ t s b with
    | Sum.inl e => Sum.inl e
    | Sum.inr r => match nd_ t 59 r.2 with
      | Sum.inl e => Sum.inl e
      | Sum.inr b2 => lns_ t f r.1 b2
/-- a tape's town -/
def town_ (t : Tp) : (Nat × Nat) ⊕ Tm := lns_ t (t.2 + 1) (T00_, false, false, false) (sk_ t 0)
