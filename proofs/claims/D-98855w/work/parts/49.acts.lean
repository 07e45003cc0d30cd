/-! ACTS: mathematics; the model's half -/
set_option maxRecDepth 100000
/-! mathematics -/
def b_a0 (B : Bm) : Nat := if bm_a B = 40 then 39 else bm_a B
def b_h0 (B : Bm) : Nat → Xm := if bm_a B = 40 then fun k => bm_h B (k + 1) else bm_h B
/-- a book that keeps its state -/
def b_keep (B : Bm) : Bm := (bm_X B, b_a0 B + 1, fun k => if k = b_a0 B then bm_X B else b_h0 B k, bm_m B, bm_l B, bm_t B, bm_r B)
def b_ref (B : Bm) (j : Nat) : Bm := (bm_X B, bm_a B, bm_h B, bm_m B, bm_l B, bm_t B, fun k => if k = j then bm_r B k + Int32.ofNat 1 else bm_r B k)
def b_set (B : Bm) (X : Xm) : Bm := (X, bm_a B, bm_h B, bm_m B, bm_l B, bm_t B, bm_r B)
def s_set (S : Sm) (B : Bm) : Sm := (sm_T S, B, sm_I S, sm_tp S, sm_n S, sm_f S)
def x_put (X : Xm) (t l : Nat) : Xm := (xm_L X + 1, fun k => if k < l then xm_t X k else if k = l then t else xm_t X (k - 1), xm_m X, xm_w X, xm_l X, xm_y X, xm_c X)
def x_take (X : Xm) (l : Nat) : Xm := (xm_L X - 1, fun k => if k < l then xm_t X k else xm_t X (k + 1), fun t => if t = xm_t X l then Int32.ofNat 0 else xm_m X t, xm_w X, xm_l X, xm_y X, xm_c X)
def x_swp (X : Xm) (a b : Nat) : Xm := (xm_L X, fun k => if k = b then xm_t X a else if k = a then xm_t X b else xm_t X k, xm_m X, xm_w X, xm_l X, xm_y X, xm_c X)
def x_wed (X : Xm) (t : Nat) (v : Int32) : Xm := (xm_L X, xm_t X, xm_m X, fun j => if j = t then v else xm_w X j, xm_l X, xm_y X, xm_c X)
def x_lea (X : Xm) (t : Nat) (v : Int32) : Xm := (xm_L X, xm_t X, xm_m X, xm_w X, fun j => if j = t then v else xm_l X j, xm_y X, xm_c X)
def x_yrs (X : Xm) (y : Int32) : Xm := (xm_L X, xm_t X, xm_m X, xm_w X, xm_l X, y, xm_c X)
theorem WX_put {n : Nat} {X : Xm} {t l : Nat} (h : WX_ n X) (hL : xm_L X < n) (hl : l ≤ xm_L X) (ht : t < n) (hf : f_lv X t = none) : WX_ n (x_put X t l) := by
  obtain ⟨h1, h2, h3⟩ := h
  have hn : ∀ k, k < xm_L X → xm_t X k ≠ t := fun k hk e => by
    have := ff_n hf k (by omega) (by omega)
    exact absurd e (of_decide_eq_false this)
  refine ⟨hL, fun k hk => ?_, fun i j hi hj e => ?_⟩
  · show (if k < l then xm_t X k else if k = l then t else xm_t X (k - 1)) < n
    have hk : k < xm_L X + 1 := hk
    by_cases c1 : k < l
    · rw [if_pos c1]; exact h2 k (by omega)
    · rw [if_neg c1]
      by_cases c2 : k = l
      · rw [if_pos c2]; exact ht
      · rw [if_neg c2]; exact h2 _ (by omega)
  · have hi : i < xm_L X + 1 := hi
    have hj : j < xm_L X + 1 := hj
    have e : (if i < l then xm_t X i else if i = l then t else xm_t X (i - 1)) = (if j < l then xm_t X j else if j = l then t else xm_t X (j - 1)) := e
    by_cases c1 : i < l
    · rw [if_pos c1] at e
      by_cases c2 : j < l
      · rw [if_pos c2] at e; exact h3 _ _ (by omega) (by omega) e
      · rw [if_neg c2] at e
        by_cases c3 : j = l
        · rw [if_pos c3] at e; exact absurd e (hn i (by omega))
        · rw [if_neg c3] at e; have := h3 _ _ (by omega) (by omega) e; omega
    · rw [if_neg c1] at e
      by_cases c4 : i = l
      · rw [if_pos c4] at e
        by_cases c2 : j < l
        · rw [if_pos c2] at e; exact absurd e.symm (hn j (by omega))
        · rw [if_neg c2] at e
          by_cases c3 : j = l
          · omega
          · rw [if_neg c3] at e; exact absurd e.symm (hn (j - 1) (by omega))
      · rw [if_neg c4] at e
        by_cases c2 : j < l
        · rw [if_pos c2] at e; have := h3 _ _ (by omega) (by omega) e; omega
        · rw [if_neg c2] at e
          by_cases c3 : j = l
          · rw [if_pos c3] at e; exact absurd e (hn (i - 1) (by omega))
          · rw [if_neg c3] at e; have := h3 _ _ (by omega) (by omega) e; omega
/-- a tower of as many as there are has them all -/
theorem inj_all : ∀ (n : Nat) (f : Nat → Nat), (∀ k, k < n → f k < n) → (∀ i j, i < n → j < n → f i = f j → i = j) → ∀ t, t < n → ∃ k, k < n ∧ f k = t := by
  intro n
  induction n with
  | zero => intro f _ _ t ht; omega
  | succ n ih =>
    intro f h1 h2 t ht
    by_cases c : ∃ k, k < n + 1 ∧ f k = n
    · obtain ⟨q, hq, e⟩ := c
      -- swap the one that is n to the end
      let g : Nat → Nat := fun k => if k = q then f n else f k
      have g1 : ∀ k, k < n → g k < n := fun k hk => by
        show (if k = q then f n else f k) < n
        by_cases c1 : k = q
        · rw [if_pos c1]
          have := h1 n (by omega)
          have : f n ≠ n := fun e2 => by have := h2 n q (by omega) hq (by rw [e2, e]); omega
          omega
        · rw [if_neg c1]
          have := h1 k (by omega)
          have : f k ≠ n := fun e2 => c1 (h2 k q (by omega) hq (by rw [e2, e]))
          omega
      have g2 : ∀ i j, i < n → j < n → g i = g j → i = j := fun i j hi hj e2 => by
        have e2 : (if i = q then f n else f i) = (if j = q then f n else f j) := e2
        by_cases c1 : i = q
        · rw [if_pos c1] at e2
          by_cases c2 : j = q
          · omega
          · rw [if_neg c2] at e2; have := h2 _ _ (by omega) (by omega) e2; omega
        · rw [if_neg c1] at e2
          by_cases c2 : j = q
          · rw [if_pos c2] at e2; have := h2 _ _ (by omega) (by omega) e2; omega
          · rw [if_neg c2] at e2; exact h2 _ _ (by omega) (by omega) e2
      by_cases c3 : t = n
      · exact ⟨q, hq, by rw [e, c3]⟩
      · obtain ⟨k, hk, ek⟩ := ih g g1 g2 t (by omega)
        have ek : (if k = q then f n else f k) = t := ek
        by_cases c1 : k = q
        · rw [if_pos c1] at ek; exact ⟨n, by omega, ek⟩
        · rw [if_neg c1] at ek; exact ⟨k, by omega, ek⟩
    · have g1 : ∀ k, k < n → f k < n := fun k hk => by
        have := h1 k (by omega)
        have : f k ≠ n := fun e2 => c ⟨k, by omega, e2⟩
        omega
      have := h1 n (by omega)
      have hn : f n ≠ n := fun e2 => c ⟨n, by omega, e2⟩
      obtain ⟨k, hk, ek⟩ := ih f g1 (fun i j hi hj => h2 i j (by omega) (by omega)) (f n) (by omega)
      have := h2 k n (by omega) (by omega) ek
      omega
theorem lv_rm1 {n t : Nat} {X : Xm} (h : WX_ n X) (ht : t < n) (hf : f_lv X t = none) : xm_L X < n := by
  obtain ⟨h1, h2, h3⟩ := h
  refine Nat.lt_of_le_of_ne h1 (fun e => ?_)
  obtain ⟨k, hk, ek⟩ := inj_all n (xm_t X) (fun k hk => h2 k (by omega)) (fun i j hi hj => h3 i j (by omega) (by omega)) t ht
  have := ff_n hf k (by omega) (by omega)
  exact absurd ek (of_decide_eq_false this)
theorem WX_take {n : Nat} {X : Xm} {l : Nat} (h : WX_ n X) (hl : l < xm_L X) : WX_ n (x_take X l) := by
  obtain ⟨h1, h2, h3⟩ := h
  refine ⟨by show xm_L X - 1 ≤ n; omega, fun k hk => ?_, fun i j hi hj e => ?_⟩
  · show (if k < l then xm_t X k else xm_t X (k + 1)) < n
    have hk : k < xm_L X - 1 := hk
    by_cases c1 : k < l
    · rw [if_pos c1]; exact h2 k (by omega)
    · rw [if_neg c1]; exact h2 _ (by omega)
  · have hi : i < xm_L X - 1 := hi
    have hj : j < xm_L X - 1 := hj
    have e : (if i < l then xm_t X i else xm_t X (i + 1)) = (if j < l then xm_t X j else xm_t X (j + 1)) := e
    by_cases c1 : i < l
    · rw [if_pos c1] at e
      by_cases c2 : j < l
      · rw [if_pos c2] at e; exact h3 _ _ (by omega) (by omega) e
      · rw [if_neg c2] at e; have := h3 _ _ (by omega) (by omega) e; omega
    · rw [if_neg c1] at e
      by_cases c2 : j < l
      · rw [if_pos c2] at e; have := h3 _ _ (by omega) (by omega) e; omega
      · rw [if_neg c2] at e; have := h3 _ _ (by omega) (by omega) e; omega
theorem WX_swp {n : Nat} {X : Xm} {a b : Nat} (h : WX_ n X) (ha : a < xm_L X) (hb : b < xm_L X) : WX_ n (x_swp X a b) := by
  obtain ⟨h1, h2, h3⟩ := h
  have e1 : ∀ k, xm_t (x_swp X a b) k = xm_t X (if k = b then a else if k = a then b else k) := fun k => by
    show (if k = b then xm_t X a else if k = a then xm_t X b else xm_t X k) = _
    by_cases c1 : k = b
    · rw [if_pos c1, if_pos c1]
    · rw [if_neg c1, if_neg c1]
      by_cases c2 : k = a
      · rw [if_pos c2, if_pos c2]
      · rw [if_neg c2, if_neg c2]
  have b1 : ∀ k, k < xm_L X → (if k = b then a else if k = a then b else k) < xm_L X := fun k hk => by
    by_cases c1 : k = b
    · rw [if_pos c1]; exact ha
    · rw [if_neg c1]
      by_cases c2 : k = a
      · rw [if_pos c2]; exact hb
      · rw [if_neg c2]; exact hk
  refine ⟨h1, fun k hk => by rw [e1]; exact h2 _ (b1 k hk), fun i j hi hj e => ?_⟩
  rw [e1, e1] at e
  have := h3 _ _ (b1 i hi) (b1 j hj) e
  revert this
  repeat' split
  all_goals intro z; omega
/-! rows -/
theorem PK_tr {w w1 : Wd} {A A1 f f1 n : Nat} {X : Xm} (h : PK_ w A f n X) (hL : xm_L X ≤ 10) (hn : n ≤ 10) (e : ∀ k, k < 43 → w_i w1 A1 (f1 + k) = w_i w A (f + k)) : PK_ w1 A1 f1 n X := by
  obtain ⟨h1, h2, h3, h4, h5, h6, h7⟩ := h
  refine ⟨(e 0 (by omega)).trans h1, (e 1 (by omega)).trans h2, (e 2 (by omega)).trans h3, fun k hk => ?_, fun k hk => ?_, fun k hk => ?_, fun k hk => ?_⟩
  · rw [Nat.add_assoc, e _ (by omega), ← Nat.add_assoc]; exact h4 k hk
  · rw [Nat.add_assoc, e _ (by omega), ← Nat.add_assoc]; exact h5 k hk
  · rw [Nat.add_assoc, e _ (by omega), ← Nat.add_assoc]; exact h6 k hk
  · rw [Nat.add_assoc, e _ (by omega), ← Nat.add_assoc]; exact h7 k hk
theorem RR_PK {w w1 : Wd} {A f n : Nat} {X : Xm} (h : RR_ w1 w A f) (hS : MS_ w n X) (hL : xm_L X ≤ 10) (hn : n ≤ 10) : PK_ w1 A f n X := by
  obtain ⟨h1, h2, h3, h4, h5, h6, h7⟩ := h
  obtain ⟨s1, s2, s3, s4, s5, s6, s7⟩ := hS
  exact ⟨h1.trans s1, h2.trans s2, h3.trans s3, fun k hk => (h4 k (by omega)).trans (s4 k hk), fun k hk => (h5 k (by omega)).trans (s5 k hk), fun k hk => (h6 k (by omega)).trans (s6 k hk), fun k hk => (h7 k (by omega)).trans (s7 k hk)⟩
theorem RR_MS {w w1 : Wd} {A f n : Nat} {X : Xm} (h : RR_ w w1 A f) (hS : PK_ w A f n X) (hL : xm_L X ≤ 10) (hn : n ≤ 10) : MS_ w1 n X := by
  obtain ⟨h1, h2, h3, h4, h5, h6, h7⟩ := h
  obtain ⟨s1, s2, s3, s4, s5, s6, s7⟩ := hS
  exact ⟨h1.symm.trans s1, h2.symm.trans s2, h3.symm.trans s3, fun k hk => (h4 k (by omega)).symm.trans (s4 k hk), fun k hk => (h5 k (by omega)).symm.trans (s5 k hk), fun k hk => (h6 k (by omega)).symm.trans (s6 k hk), fun k hk => (h7 k (by omega)).symm.trans (s7 k hk)⟩
/-- what the model's acts may change -/
def pb_ (a k : Nat) : Prop := pm_ a k ∨ (a = 1440 ∧ 28 ≤ k ∧ k ≤ 32) ∨ a = 1451 ∨ (1453 ≤ a ∧ a ≤ 1457) ∨ a = 1466 ∨ a = 1467
theorem pb_o {a k : Nat} (h : (a ≠ 1440 ∨ ((k < 28 ∨ 32 < k) ∧ k ≠ 3 ∧ k ≠ 39 ∧ k ≠ 40 ∧ k ≠ 47 ∧ k ≠ 49)) ∧ (a < 1453 ∨ 1465 < a) ∧ (a < 1466 ∨ 1470 < a) ∧ a ≠ 1451) : ¬ pb_ a k := by
  unfold pb_ pm_
  omega
/-- a change of the book alone -/
theorem RM_B {w w1 : Wd} {S : Sm} {B : Bm} (h : RM_ w S) (hf : Fr_ pb_ w w1) (hB : MB_ w1 (tm_n (sm_T S)) B) : RM_ w1 (s_set S B) := by
  obtain ⟨h1, h2, -, h4, h5, h6, h7, h8⟩ := h
  have f6 : ∀ a k, (a ≠ 1440 ∨ ((k < 28 ∨ 32 < k) ∧ k ≠ 3 ∧ k ≠ 39 ∧ k ≠ 40 ∧ k ≠ 47 ∧ k ≠ 49)) ∧ (a < 1453 ∨ 1465 < a) ∧ (a < 1466 ∨ 1470 < a) ∧ a ≠ 1451 → w_i w1 a k = w_i w a k := fun a k z => hf.2.2.2.2.2 a k (pb_o z)
  refine ⟨sh_fr h1 hf, ?_, hB, ?_, ?_, ?_, ?_, ?_⟩
  · show MT_ w1 (sm_T S)
    unfold MT_ at h2 ⊢
    simp (disch := omega) only [f6]
    exact h2
  · show w_i w1 1440 50 = b_v (sm_I S).isSome
    rw [f6 _ _ (by omega)]; exact h4
  · intro B1 hB1
    have := h5 B1 hB1
    show MI_ w1 (tm_n (sm_T S)) B1
    unfold MI_ PK_ at this ⊢
    simp (disch := omega) only [f6]
    exact this
  · show ∀ k, k < 600 → w_i w1 1452 k = Int32.ofNat (sm_tp S k)
    simp (disch := omega) only [f6]
    exact h6
  · show w_i w1 1440 13 = Int32.ofNat (sm_n S)
    rw [f6 _ _ (by omega)]; exact h7
  · show w_i w1 1440 22 = sm_f S
    rw [f6 _ _ (by omega)]; exact h8
theorem p_pb {a k : Nat} (h : pm_ a k) : pb_ a k := Or.inl h
section
variable {w : Wd} {S : Sm}
theorem m_refuse (h : RM_ w S) (hV : WS_ S) {d j : Nat} (hj : j < 3) : ∃ w1, Fr_ pb_ w w1 ∧ RM_ w1 (s_set S (b_ref (sm_B S) j)) ∧ w_i w1 1440 3 = w_i w 1440 3 ∧ ∀ Q, cl d 197 [v_R (some 1440), v_I (Int32.ofNat j)] w Q = Q (Sum.inl (some (v_I (Int32.ofInt (-1))))) w1 := by
  have hq := RM_MQ h hV
  have hMM := hq
  obtain ⟨hM, hT, hS, ⟨hn, hk4⟩, hW1, hW2, hW3⟩ := hMM
  unfold sh_M at hM
  unfold MT_ at hT
  unfold MS_ at hS
  have hB := h.2.2.1.2
  unfold PK_ at hB
  have hR := h.2.2.2
  have hf : Fr_ pb_ w (s_i w 1451 j (w_i w 1451 j + Int32.ofNat 1)) := fr_si (fr_rf _ _) (by unfold pb_; omega)
  refine ⟨_, hf, RM_B h hf ?_, ?_, fun Q => ?_⟩
  · obtain ⟨g1, g2, g3, g4, g5, g6, g7⟩ := h.2.2.1
    unfold MB_ MS_ PK_ at *
    simp only [i_si, Nat.reduceEqDiff, false_and, if_false]
    refine ⟨g1, g2, g3, g4, g5, g6, fun k hk => ?_⟩
    show _ = if k = j then bm_r (sm_B S) k + Int32.ofNat 1 else bm_r (sm_B S) k
    by_cases e : k = j
    · subst e
      rw [if_pos ⟨trivial, rfl⟩, if_pos rfl, g7 k hk]
    · rw [if_neg (fun z => e z.2), if_neg e, g7 k hk]
  · rw [i_si, if_neg (by omega)]
  · simp (disch := first | omega | decide | exact ko_b _ | assumption | (simp only [t_si, t_sl, t_sr, t_sI, t_sR, n_si, n_sl, n_sr, n_sI, n_sR, r_si, r_sl, r_sI]; first | done | omega)) only [x_197_e, x_197_b, x_197_0, x_197_1, x_197_4, x_197_5, x_197_6, x_197_7, x_197_8, x_197_9, x_197_10, x_197_11, bk_v, bk_n, nl_I, nl_R, nl_L, nl_0, oo_lt, oo_le, oo_eq, oo_add, oo_sub, oo_tn, oo_ir, nn_leT, nn_leF, nn_ltT, nn_ltF, nn_eqT, nn_eqF, bv_0, bv_1, ko_b, ko_1, ko_0, true_and, and_true, if_true, if_false, not_true_eq_false, not_false_eq_true, oo_02, decide_eq_true_eq, decide_eq_false_iff_not, ite_not, Nat.reduceAdd, Nat.reduceLT, Nat.reduceSub, Nat.reduceLeDiff, reduceIte, Bool.true_eq_false, Bool.false_eq_true, reduceCtorEq, eq_self, decide_true, decide_false, bv_t, bv_f, and_self, t_si, t_sl, t_sr, t_sI, t_sR, n_si, n_sl, n_sr, n_sI, n_sR, r_si, r_sl, r_sI, hM, hT, hS, hB, hR]
theorem m_refFar (h : RM_ w S) (hV : WS_ S) {d : Nat} : ∃ w1, Fr_ pb_ w w1 ∧ RM_ w1 (s_set S (b_ref (sm_B S) 1)) ∧ w_i w1 1440 3 = w_i w 1440 3 ∧ ∀ Q, cl d 206 [v_R (some 1440)] w Q = Q (Sum.inl (some (v_I (Int32.ofInt (-99))))) w1 := by
  obtain ⟨w1, h1, h2, h3, h4⟩ := m_refuse h hV (d := d) (j := 1) (by omega)
  refine ⟨s_i w 1451 1 (w_i w 1451 1 + Int32.ofNat 1), ?_⟩
  have e : w1 = s_i w 1451 1 (w_i w 1451 1 + Int32.ofNat 1) := by
    have a1 := h4 (fun _ w2 => w2 = s_i w 1451 1 (w_i w 1451 1 + Int32.ofNat 1))
    have a2 : cl d 197 [v_R (some 1440), v_I (Int32.ofNat 1)] w (fun _ w2 => w2 = s_i w 1451 1 (w_i w 1451 1 + Int32.ofNat 1)) := by
      have hq := RM_MQ h hV
      have hMM := hq
      obtain ⟨hM, hT, hS, ⟨hn, hk4⟩, hW1, hW2, hW3⟩ := hMM
      unfold sh_M at hM
      unfold MT_ at hT
      unfold MS_ at hS
      have hB := h.2.2.1.2
      unfold PK_ at hB
      have hR := h.2.2.2
      simp (disch := first | omega | decide | exact ko_b _ | assumption | (simp only [t_si, t_sl, t_sr, t_sI, t_sR, n_si, n_sl, n_sr, n_sI, n_sR, r_si, r_sl, r_sI]; first | done | omega)) only [x_197_e, x_197_b, x_197_0, x_197_1, x_197_4, x_197_5, x_197_6, x_197_7, x_197_8, x_197_9, x_197_10, x_197_11, bk_v, bk_n, nl_I, nl_R, nl_L, nl_0, oo_lt, oo_le, oo_eq, oo_add, oo_sub, oo_tn, oo_ir, nn_leT, nn_leF, nn_ltT, nn_ltF, nn_eqT, nn_eqF, bv_0, bv_1, ko_b, ko_1, ko_0, true_and, and_true, if_true, if_false, not_true_eq_false, not_false_eq_true, oo_02, decide_eq_true_eq, decide_eq_false_iff_not, ite_not, Nat.reduceAdd, Nat.reduceLT, Nat.reduceSub, Nat.reduceLeDiff, reduceIte, Bool.true_eq_false, Bool.false_eq_true, reduceCtorEq, eq_self, decide_true, decide_false, bv_t, bv_f, and_self, t_si, t_sl, t_sr, t_sI, t_sR, n_si, n_sl, n_sr, n_sI, n_sR, r_si, r_sl, r_sI, hM, hT, hS, hB, hR]
    rw [a1] at a2
    exact a2
  subst e
  refine ⟨h1, h2, h3, fun Q => ?_⟩
  have hq := RM_MQ h hV
  have hMM := hq
  obtain ⟨hM, hT, hS, ⟨hn, hk4⟩, hW1, hW2, hW3⟩ := hMM
  unfold sh_M at hM
  unfold MT_ at hT
  unfold MS_ at hS
  have hB := h.2.2.1.2
  unfold PK_ at hB
  have hR := h.2.2.2
  simp (disch := first | omega | decide | exact ko_b _ | assumption | (simp only [t_si, t_sl, t_sr, t_sI, t_sR, n_si, n_sl, n_sr, n_sI, n_sR, r_si, r_sl, r_sI]; first | done | omega)) only [x_206_e, x_206_b, x_206_0, x_206_1, x_206_4, x_206_5, x_206_6, x_206_7, x_206_8, x_206_9, x_206_10, x_206_12, bk_v, bk_n, nl_I, nl_R, nl_L, nl_0, oo_lt, oo_le, oo_eq, oo_add, oo_sub, oo_tn, oo_ir, nn_leT, nn_leF, nn_ltT, nn_ltF, nn_eqT, nn_eqF, bv_0, bv_1, ko_b, ko_1, ko_0, true_and, and_true, if_true, if_false, not_true_eq_false, not_false_eq_true, oo_02, decide_eq_true_eq, decide_eq_false_iff_not, ite_not, Nat.reduceAdd, Nat.reduceLT, Nat.reduceSub, Nat.reduceLeDiff, reduceIte, Bool.true_eq_false, Bool.false_eq_true, reduceCtorEq, eq_self, decide_true, decide_false, bv_t, bv_f, and_self, t_si, t_sl, t_sr, t_sI, t_sR, n_si, n_sl, n_sr, n_sI, n_sR, r_si, r_sl, r_sI, hM, hT, hS, hB, hR]
end
