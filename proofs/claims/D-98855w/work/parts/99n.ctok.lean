/-! THE COMPONENT's reader: words, signs, numbers, what is thrown -/
set_option maxRecDepth 100000
section
variable {w : Wd} {t : Tp} {R : Nat}
def Ce_ (w : Wd) (R : Nat) (t : Tp) : Prop := Ct_ w R t ∧ KS_ w
theorem KS_lo {w1 : Wd} (h : KS_ w) (k : Kp_ (fun a => a < 1000) w w1) : KS_ w1 := fun i hi => by
  obtain ⟨h1, h2, h3, h4, h5, h6⟩ := h i hi
  obtain ⟨a1, a2, a3, a4, -⟩ := k (10 + i) (by omega)
  obtain ⟨b1, b2, b3, b4, -⟩ := k (110 + i) (by omega)
  exact ⟨a1.trans h1, (a4 0).trans h2, (a3 1).trans h3, b1.trans h4, b2.trans h5, fun k => (b3 k).trans (h6 k)⟩
theorem Ce_fk {w1 : Wd} (h : Ce_ w R t) (f : Fk_ R w w1) : Ce_ w1 R t := by
  have g1 := h.1.2.2.2.2.2.2.2.2.1
  have g2 := h.1.2.2.2.2.2.2.2.2.2
  exact ⟨Ct_fk h.1 f, KS_lo h.2 (kp_mo f.2.1 fun a ha => by omega)⟩
theorem kid_c (k : Nat) (hk : k < 5) : kid_ k = 214 ∨ kid_ k = 210 ∨ kid_ k = 211 ∨ kid_ k = 212 ∨ kid_ k = 213 := by
  unfold kid_
  split <;> omega
/-- the sort's compare -/
theorem kid_q (k : Nat) (hk : k < 5) (x : Nat) (hx : 210 ≤ x ∧ x < 215) : q_q (some (kid_ k)) (some x) = true := by
  have := kid_c k hk
  unfold q_q q_k
  simp only [Bool.and_eq_true, decide_eq_true_eq]
  omega
theorem kid_1 (k : Nat) (hk : k < 5) : ((some (kid_ k) : Option Nat) = some 210) = (k = 1) := by
  unfold kid_
  refine propext ⟨fun z => ?_, fun z => by subst z; rfl⟩
  have := Option.some.inj z
  split at this <;> omega
theorem kid_2 (k : Nat) (hk : k < 5) : ((some (kid_ k) : Option Nat) = some 211) = (k = 2) := by
  unfold kid_
  refine propext ⟨fun z => ?_, fun z => by subst z; rfl⟩
  have := Option.some.inj z
  split at this <;> omega
theorem kid_3 (k : Nat) (hk : k < 5) : ((some (kid_ k) : Option Nat) = some 212) = (k = 3) := by
  unfold kid_
  refine propext ⟨fun z => ?_, fun z => by subst z; rfl⟩
  have := Option.some.inj z
  split at this <;> omega
theorem kid_0 (k : Nat) (hk : k < 5) : ((some (kid_ k) : Option Nat) = some 214) = (k = 0) := by
  unfold kid_
  refine propext ⟨fun z => ?_, fun z => by subst z; rfl⟩
  have := Option.some.inj z
  split at this <;> omega
theorem kz_ : (((some (kid_ 0) : Option Nat) = some 210) = False) ∧ (((some (kid_ 0) : Option Nat) = some 211) = False) ∧ (((some (kid_ 0) : Option Nat) = some 212) = False) ∧ (((some (kid_ 0) : Option Nat) = some 214) = True) ∧ (((some (kid_ 1) : Option Nat) = some 210) = True) ∧ (((some (kid_ 1) : Option Nat) = some 211) = False) ∧ (((some (kid_ 1) : Option Nat) = some 212) = False) ∧ (((some (kid_ 1) : Option Nat) = some 214) = False) ∧ (((some (kid_ 2) : Option Nat) = some 210) = False) ∧ (((some (kid_ 2) : Option Nat) = some 211) = True) ∧ (((some (kid_ 2) : Option Nat) = some 212) = False) ∧ (((some (kid_ 2) : Option Nat) = some 214) = False) ∧ (((some (kid_ 3) : Option Nat) = some 210) = False) ∧ (((some (kid_ 3) : Option Nat) = some 211) = False) ∧ (((some (kid_ 3) : Option Nat) = some 212) = True) ∧ (((some (kid_ 3) : Option Nat) = some 214) = False) := ⟨eq_false (by decide), eq_false (by decide), eq_false (by decide), eq_true (by decide), eq_true (by decide), eq_false (by decide), eq_false (by decide), eq_false (by decide), eq_false (by decide), eq_true (by decide), eq_false (by decide), eq_false (by decide), eq_false (by decide), eq_false (by decide), eq_true (by decide), eq_false (by decide)⟩
/-- a word that is meant: letters, two to eight -/
def Ws_ (s : List Nat) : Prop := As_ s ∧ 2 ≤ s.length ∧ s.length ≤ 8
theorem eq_w {b : Nat} {s : List Nat} (hs : Ws_ s) (k1 : tk_k t b = 1) : eq_s (min (tk_e t b - b) 9) (fun k => t.1 (b + k)) s = is_w t b s := by
  unfold eq_s is_w
  rw [decide_eq_true k1, Bool.true_and]
  congr 1
  exact decide_eq_decide.mpr ⟨fun z => by have := hs.2.2; omega, fun z => by have := hs.2.2; omega⟩
theorem eq_w3 {b : Nat} {s : List Nat} (hs : Ws_ s) (k3 : tk_k t b = 3) : eq_s (min (tk_e t b - b) 9) (fun k => t.1 (b + k)) s = false := by
  have k0 : ¬ tk_k t b = 0 := by omega
  have k1 : ¬ tk_k t b = 1 := by omega
  have k2 : ¬ tk_k t b = 2 := by omega
  have e : tk_e t b = b + 1 := by unfold tk_e; rw [if_neg k0, if_neg k1, if_neg k2]
  unfold eq_s
  rw [decide_eq_false (by have := hs.2.1; omega), Bool.false_and]
theorem eq_g3 {b x : Nat} (k3 : tk_k t b = 3) : eq_s (min (tk_e t b - b) 9) (fun k => t.1 (b + k)) [x] = is_s t b x := by
  have k0 : ¬ tk_k t b = 0 := by omega
  have k1 : ¬ tk_k t b = 1 := by omega
  have k2 : ¬ tk_k t b = 2 := by omega
  have e : tk_e t b = b + 1 := by unfold tk_e; rw [if_neg k0, if_neg k1, if_neg k2]
  unfold eq_s is_s
  rw [decide_eq_true k3, Bool.true_and, decide_eq_true (show min (tk_e t b - b) 9 = [x].length by rw [e]; show _ = 1; omega), Bool.true_and]
  refine decide_eq_decide.mpr ⟨fun z => z 0 (by show 0 < 1; omega), fun z k hk => ?_⟩
  have hk : k < 1 := hk
  have : k = 0 := by omega
  subst this
  exact z
theorem tk_l1 {b : Nat} (k1 : tk_k t b = 1) : b < t.2 ∧ ct_l (t.1 b) = true := by
  have hb := (tk_lt (t := t) (b := b) (by omega)).1
  refine ⟨hb, ?_⟩
  cases h : ct_l (t.1 b) with
  | true => rfl
  | false =>
    have h2 : ¬ t.2 ≤ b := by omega
    unfold tk_k at k1
    rw [if_neg h2, h, if_neg Bool.false_ne_true] at k1
    split at k1
    · omega
    · split at k1 <;> omega
theorem eq_g1 {b x : Nat} (hx : x < 97) (k1 : tk_k t b = 1) : eq_s (min (tk_e t b - b) 9) (fun k => t.1 (b + k)) [x] = false := by
  have h := (tk_l1 k1).2
  unfold ct_l at h
  have h := of_decide_eq_true h
  have h2 : decide (∀ k, k < [x].length → (fun k => t.1 (b + k)) k = [x].getD k 0) = false := decide_eq_false (fun z => by
    have := z 0 (by show 0 < 1; omega)
    have : t.1 b = x := this
    omega)
  unfold eq_s
  rw [h2, Bool.and_false]
theorem c_isw {D b q0 p0 : Nat} {s : List Nat} {Q : Q_} (hD : 2 ≤ D) (h : Ce_ w R t) (hr : Cr_ w R t b) (hs : Sc_ w q0 p0 s) (hw : Ws_ s) (h0 : q0 < 200) : cl D 272 [v_R (some R), v_R (some q0)] w Q = Q (Sum.inl (some (v_I (b_v (is_w t b s))))) w := by
  obtain ⟨d, rfl⟩ : ∃ d, D = d + 2 := ⟨D - 2, by omega⟩
  have t0 := h.1.1
  obtain ⟨hb, r2, r3, r6, -, r7⟩ := hr
  have hk5 := tk_k5 (t := t) (b := b)
  have y1 := kid_q _ hk5 210 (by omega)
  have y3 := kid_q _ hk5 212 (by omega)
  have x1 := kid_1 _ hk5
  have x3 := kid_3 _ hk5
  by_cases k1 : tk_k t b = 1
  · obtain ⟨q, p, g1, g2, g3⟩ := r7 (Or.inl k1)
    have L := fun d Q => c_eq (d := d) (Q := Q) g3 hs hw.1 h0
    rw [eq_w hw k1] at L
    have tq := g3.1
    cases hh : is_w t b s with
    | true =>
      rw [hh] at L
      simp (disch := first | omega | decide | exact ko_b _ | assumption | (simp only [t_si, t_sl, t_sr, t_sI, t_sR, n_si, n_sl, n_sr, n_sI, n_sR, r_si, r_sl, r_sI]; first | done | omega)) only [x_272_e, x_272_b, x_272_0, x_272_1, x_272_4, x_272_7, x_272_10, x_272_11, x_272_14, x_272_17, x_272_20, x_272_21, x_272_24, x_272_25, x_272_28, x_272_31, x_272_32, x_272_35, x_272_36, bk_v, bk_n, nl_I, nl_R, nl_L, nl_0, oo_lt, oo_le, oo_eq, oo_add, oo_sub, oo_tn, oo_ir, nn_leT, nn_leF, nn_ltT, nn_ltF, nn_eqT, nn_eqF, bv_0, bv_1, ko_b, ko_1, ko_0, true_and, and_true, if_true, if_false, not_true_eq_false, not_false_eq_true, oo_02, decide_eq_true_eq, decide_eq_false_iff_not, ite_not, Nat.reduceAdd, Nat.reduceLT, Nat.reduceSub, Nat.reduceLeDiff, reduceIte, Bool.true_eq_false, Bool.false_eq_true, reduceCtorEq, eq_self, decide_true, decide_false, bv_t, bv_f, and_self, t_si, t_sl, t_sr, t_sI, t_sR, n_si, n_sl, n_sr, n_sI, n_sR, r_si, r_sl, r_sI, r6, kz_, x1, x3, k1, g1, L]
    | false =>
      rw [hh] at L
      simp (disch := first | omega | decide | exact ko_b _ | assumption | (simp only [t_si, t_sl, t_sr, t_sI, t_sR, n_si, n_sl, n_sr, n_sI, n_sR, r_si, r_sl, r_sI]; first | done | omega)) only [x_272_e, x_272_b, x_272_0, x_272_1, x_272_4, x_272_7, x_272_10, x_272_11, x_272_14, x_272_17, x_272_20, x_272_21, x_272_24, x_272_25, x_272_28, x_272_31, x_272_32, x_272_35, x_272_36, bk_v, bk_n, nl_I, nl_R, nl_L, nl_0, oo_lt, oo_le, oo_eq, oo_add, oo_sub, oo_tn, oo_ir, nn_leT, nn_leF, nn_ltT, nn_ltF, nn_eqT, nn_eqF, bv_0, bv_1, ko_b, ko_1, ko_0, true_and, and_true, if_true, if_false, not_true_eq_false, not_false_eq_true, oo_02, decide_eq_true_eq, decide_eq_false_iff_not, ite_not, Nat.reduceAdd, Nat.reduceLT, Nat.reduceSub, Nat.reduceLeDiff, reduceIte, Bool.true_eq_false, Bool.false_eq_true, reduceCtorEq, eq_self, decide_true, decide_false, bv_t, bv_f, and_self, t_si, t_sl, t_sr, t_sI, t_sR, n_si, n_sl, n_sr, n_sI, n_sR, r_si, r_sl, r_sI, r6, kz_, x1, x3, k1, g1, L]
  · have e : is_w t b s = false := by unfold is_w; rw [decide_eq_false k1, Bool.false_and, Bool.false_and]
    rw [e]
    by_cases k3 : tk_k t b = 3
    · obtain ⟨q, p, g1, g2, g3⟩ := r7 (Or.inr k3)
      have L := fun d Q => c_eq (d := d) (Q := Q) g3 hs hw.1 h0
      rw [eq_w3 hw k3] at L
      have tq := g3.1
      simp (disch := first | omega | decide | exact ko_b _ | assumption | (simp only [t_si, t_sl, t_sr, t_sI, t_sR, n_si, n_sl, n_sr, n_sI, n_sR, r_si, r_sl, r_sI]; first | done | omega)) only [x_272_e, x_272_b, x_272_0, x_272_1, x_272_4, x_272_7, x_272_10, x_272_11, x_272_14, x_272_17, x_272_20, x_272_21, x_272_24, x_272_25, x_272_28, x_272_31, x_272_32, x_272_35, x_272_36, bk_v, bk_n, nl_I, nl_R, nl_L, nl_0, oo_lt, oo_le, oo_eq, oo_add, oo_sub, oo_tn, oo_ir, nn_leT, nn_leF, nn_ltT, nn_ltF, nn_eqT, nn_eqF, bv_0, bv_1, ko_b, ko_1, ko_0, true_and, and_true, if_true, if_false, not_true_eq_false, not_false_eq_true, oo_02, decide_eq_true_eq, decide_eq_false_iff_not, ite_not, Nat.reduceAdd, Nat.reduceLT, Nat.reduceSub, Nat.reduceLeDiff, reduceIte, Bool.true_eq_false, Bool.false_eq_true, reduceCtorEq, eq_self, decide_true, decide_false, bv_t, bv_f, and_self, t_si, t_sl, t_sr, t_sI, t_sR, n_si, n_sl, n_sr, n_sI, n_sR, r_si, r_sl, r_sI, r6, kz_, x1, x3, k1, k3, g1, L]
    · simp (disch := first | omega | decide | exact ko_b _ | assumption | (simp only [t_si, t_sl, t_sr, t_sI, t_sR, n_si, n_sl, n_sr, n_sI, n_sR, r_si, r_sl, r_sI]; first | done | omega)) only [x_272_e, x_272_b, x_272_0, x_272_1, x_272_4, x_272_7, x_272_10, x_272_11, x_272_14, x_272_17, x_272_20, x_272_21, x_272_24, x_272_25, x_272_28, x_272_31, x_272_32, x_272_35, x_272_36, bk_v, bk_n, nl_I, nl_R, nl_L, nl_0, oo_lt, oo_le, oo_eq, oo_add, oo_sub, oo_tn, oo_ir, nn_leT, nn_leF, nn_ltT, nn_ltF, nn_eqT, nn_eqF, bv_0, bv_1, ko_b, ko_1, ko_0, true_and, and_true, if_true, if_false, not_true_eq_false, not_false_eq_true, oo_02, decide_eq_true_eq, decide_eq_false_iff_not, ite_not, Nat.reduceAdd, Nat.reduceLT, Nat.reduceSub, Nat.reduceLeDiff, reduceIte, Bool.true_eq_false, Bool.false_eq_true, reduceCtorEq, eq_self, decide_true, decide_false, bv_t, bv_f, and_self, t_si, t_sl, t_sr, t_sI, t_sR, n_si, n_sl, n_sr, n_sI, n_sR, r_si, r_sl, r_sI, r6, kz_, x1, x3, k1, k3]
theorem as_1 {x : Nat} (hx : x < 97) : As_ [x] := ⟨by show 1 < 100; omega, fun k hk => by
  have hk : k < 1 := hk
  have : k = 0 := by omega
  subst this
  show x < 128
  omega⟩
theorem c_isg {D b q0 p0 x : Nat} {Q : Q_} (hD : 2 ≤ D) (h : Ce_ w R t) (hr : Cr_ w R t b) (hs : Sc_ w q0 p0 [x]) (hx : x < 97) (h0 : q0 < 200) : cl D 272 [v_R (some R), v_R (some q0)] w Q = Q (Sum.inl (some (v_I (b_v (is_s t b x))))) w := by
  obtain ⟨d, rfl⟩ : ∃ d, D = d + 2 := ⟨D - 2, by omega⟩
  have t0 := h.1.1
  obtain ⟨hb, r2, r3, r6, -, r7⟩ := hr
  have hk5 := tk_k5 (t := t) (b := b)
  have y1 := kid_q _ hk5 210 (by omega)
  have y3 := kid_q _ hk5 212 (by omega)
  have x1 := kid_1 _ hk5
  have x3 := kid_3 _ hk5
  by_cases k3 : tk_k t b = 3
  · obtain ⟨q, p, g1, g2, g3⟩ := r7 (Or.inr k3)
    have L := fun d Q => c_eq (d := d) (Q := Q) g3 hs (as_1 hx) h0
    rw [eq_g3 k3] at L
    have tq := g3.1
    have k1 : ¬ tk_k t b = 1 := by omega
    cases hh : is_s t b x with
    | true =>
      rw [hh] at L
      simp (disch := first | omega | decide | exact ko_b _ | assumption | (simp only [t_si, t_sl, t_sr, t_sI, t_sR, n_si, n_sl, n_sr, n_sI, n_sR, r_si, r_sl, r_sI]; first | done | omega)) only [x_272_e, x_272_b, x_272_0, x_272_1, x_272_4, x_272_7, x_272_10, x_272_11, x_272_14, x_272_17, x_272_20, x_272_21, x_272_24, x_272_25, x_272_28, x_272_31, x_272_32, x_272_35, x_272_36, bk_v, bk_n, nl_I, nl_R, nl_L, nl_0, oo_lt, oo_le, oo_eq, oo_add, oo_sub, oo_tn, oo_ir, nn_leT, nn_leF, nn_ltT, nn_ltF, nn_eqT, nn_eqF, bv_0, bv_1, ko_b, ko_1, ko_0, true_and, and_true, if_true, if_false, not_true_eq_false, not_false_eq_true, oo_02, decide_eq_true_eq, decide_eq_false_iff_not, ite_not, Nat.reduceAdd, Nat.reduceLT, Nat.reduceSub, Nat.reduceLeDiff, reduceIte, Bool.true_eq_false, Bool.false_eq_true, reduceCtorEq, eq_self, decide_true, decide_false, bv_t, bv_f, and_self, t_si, t_sl, t_sr, t_sI, t_sR, n_si, n_sl, n_sr, n_sI, n_sR, r_si, r_sl, r_sI, r6, kz_, x1, x3, k1, k3, g1, L]
    | false =>
      rw [hh] at L
      simp (disch := first | omega | decide | exact ko_b _ | assumption | (simp only [t_si, t_sl, t_sr, t_sI, t_sR, n_si, n_sl, n_sr, n_sI, n_sR, r_si, r_sl, r_sI]; first | done | omega)) only [x_272_e, x_272_b, x_272_0, x_272_1, x_272_4, x_272_7, x_272_10, x_272_11, x_272_14, x_272_17, x_272_20, x_272_21, x_272_24, x_272_25, x_272_28, x_272_31, x_272_32, x_272_35, x_272_36, bk_v, bk_n, nl_I, nl_R, nl_L, nl_0, oo_lt, oo_le, oo_eq, oo_add, oo_sub, oo_tn, oo_ir, nn_leT, nn_leF, nn_ltT, nn_ltF, nn_eqT, nn_eqF, bv_0, bv_1, ko_b, ko_1, ko_0, true_and, and_true, if_true, if_false, not_true_eq_false, not_false_eq_true, oo_02, decide_eq_true_eq, decide_eq_false_iff_not, ite_not, Nat.reduceAdd, Nat.reduceLT, Nat.reduceSub, Nat.reduceLeDiff, reduceIte, Bool.true_eq_false, Bool.false_eq_true, reduceCtorEq, eq_self, decide_true, decide_false, bv_t, bv_f, and_self, t_si, t_sl, t_sr, t_sI, t_sR, n_si, n_sl, n_sr, n_sI, n_sR, r_si, r_sl, r_sI, r6, kz_, x1, x3, k1, k3, g1, L]
  · have e : is_s t b x = false := by unfold is_s; rw [decide_eq_false k3, Bool.false_and]
    rw [e]
    by_cases k1 : tk_k t b = 1
    · obtain ⟨q, p, g1, g2, g3⟩ := r7 (Or.inl k1)
      have L := fun d Q => c_eq (d := d) (Q := Q) g3 hs (as_1 hx) h0
      rw [eq_g1 hx k1] at L
      have tq := g3.1
      simp (disch := first | omega | decide | exact ko_b _ | assumption | (simp only [t_si, t_sl, t_sr, t_sI, t_sR, n_si, n_sl, n_sr, n_sI, n_sR, r_si, r_sl, r_sI]; first | done | omega)) only [x_272_e, x_272_b, x_272_0, x_272_1, x_272_4, x_272_7, x_272_10, x_272_11, x_272_14, x_272_17, x_272_20, x_272_21, x_272_24, x_272_25, x_272_28, x_272_31, x_272_32, x_272_35, x_272_36, bk_v, bk_n, nl_I, nl_R, nl_L, nl_0, oo_lt, oo_le, oo_eq, oo_add, oo_sub, oo_tn, oo_ir, nn_leT, nn_leF, nn_ltT, nn_ltF, nn_eqT, nn_eqF, bv_0, bv_1, ko_b, ko_1, ko_0, true_and, and_true, if_true, if_false, not_true_eq_false, not_false_eq_true, oo_02, decide_eq_true_eq, decide_eq_false_iff_not, ite_not, Nat.reduceAdd, Nat.reduceLT, Nat.reduceSub, Nat.reduceLeDiff, reduceIte, Bool.true_eq_false, Bool.false_eq_true, reduceCtorEq, eq_self, decide_true, decide_false, bv_t, bv_f, and_self, t_si, t_sl, t_sr, t_sI, t_sR, n_si, n_sl, n_sr, n_sI, n_sR, r_si, r_sl, r_sI, r6, kz_, x1, x3, k1, g1, L]
    · simp (disch := first | omega | decide | exact ko_b _ | assumption | (simp only [t_si, t_sl, t_sr, t_sI, t_sR, n_si, n_sl, n_sr, n_sI, n_sR, r_si, r_sl, r_sI]; first | done | omega)) only [x_272_e, x_272_b, x_272_0, x_272_1, x_272_4, x_272_7, x_272_10, x_272_11, x_272_14, x_272_17, x_272_20, x_272_21, x_272_24, x_272_25, x_272_28, x_272_31, x_272_32, x_272_35, x_272_36, bk_v, bk_n, nl_I, nl_R, nl_L, nl_0, oo_lt, oo_le, oo_eq, oo_add, oo_sub, oo_tn, oo_ir, nn_leT, nn_leF, nn_ltT, nn_ltF, nn_eqT, nn_eqF, bv_0, bv_1, ko_b, ko_1, ko_0, true_and, and_true, if_true, if_false, not_true_eq_false, not_false_eq_true, oo_02, decide_eq_true_eq, decide_eq_false_iff_not, ite_not, Nat.reduceAdd, Nat.reduceLT, Nat.reduceSub, Nat.reduceLeDiff, reduceIte, Bool.true_eq_false, Bool.false_eq_true, reduceCtorEq, eq_self, decide_true, decide_false, bv_t, bv_f, and_self, t_si, t_sl, t_sr, t_sI, t_sR, n_si, n_sl, n_sr, n_sI, n_sR, r_si, r_sl, r_sI, r6, kz_, x1, x3, k1, k3]
/-! what is thrown -/
def flt_ (w : Wd) (c b : Nat) : Wd := s_i (s_i (s_n w 41 8) (w_z w) 0 (Int32.ofNat c)) (w_z w) 1 (Int32.ofNat b)
/-- cells and slots for the bytes from b to b1 -/
def Bd_ (w : Wd) (b : Nat) (w1 : Wd) (b1 : Nat) : Prop := b ≤ b1 ∧ w_z w1 + 12 * b ≤ w_z w + 12 * b1 ∧ w_s w1 + 60 * b ≤ w_s w + 60 * b1
theorem bd_tr {w1 w2 : Wd} {b b1 b2 : Nat} (h1 : Bd_ w b w1 b1) (h2 : Bd_ w1 b1 w2 b2) : Bd_ w b w2 b2 := by
  unfold Bd_ at *
  omega
def Ft_ (w w1 : Wd) (x : Nat) (e : Nat × Nat) : Prop := w_z w ≤ x ∧ x < w_z w1 ∧ w_t w1 x = 41 ∧ w_i w1 x 0 = Int32.ofNat e.1 ∧ w_i w1 x 1 = Int32.ofNat e.2 ∧ e.1 ≤ 4
/-- thrown -/
def Tx_ (t : Tp) (R : Nat) (w : Wd) (b : Nat) (e : Nat × Nat) (L : Q_ → Prop) : Prop := ∃ w1 x, (Fk_ R w w1 ∧ Bd_ w b w1 (t.2 + 1) ∧ Ft_ w w1 x e) ∧ ∀ Q, L Q = Q (Sum.inr x) w1
/-- thrown at once -/
def Ty_ (R : Nat) (w : Wd) (e : Nat × Nat) (L : Q_ → Prop) : Prop := ∃ w1 x, (Fk_ R w w1 ∧ (w_z w1 ≤ w_z w + 1 ∧ w_s w1 ≤ w_s w + 8) ∧ Ft_ w w1 x e) ∧ ∀ Q, L Q = Q (Sum.inr x) w1
theorem ft_up {w u w1 : Wd} {x : Nat} {e : Nat × Nat} (h : Ft_ u w1 x e) (hz : w_z w ≤ w_z u) : Ft_ w w1 x e := ⟨Nat.le_trans hz h.1, h.2⟩
theorem ty_tx {t : Tp} {R b : Nat} {w u : Wd} {e : Nat × Nat} {L L2 : Q_ → Prop} (h : Ty_ R u e L2) (f : Fk_ R w u) (hb : b ≤ t.2) (hz : w_z u ≤ w_z w + 12 * (t.2 - b) + 11) (hs : w_s u ≤ w_s w + 60 * (t.2 - b) + 52) (hL : ∀ Q, L Q = L2 Q) : Tx_ t R w b e L := by
  obtain ⟨w1, x, ⟨f1, ⟨z1, s1⟩, t1⟩, q1⟩ := h
  refine ⟨w1, x, ⟨fk_tr f f1, ?_, ft_up t1 f.1⟩, fun Q => (hL Q).trans (q1 Q)⟩
  unfold Bd_
  omega
theorem tx_up {t : Tp} {R b b1 : Nat} {w u : Wd} {e : Nat × Nat} {L L2 : Q_ → Prop} (h : Tx_ t R u b1 e L2) (f : Fk_ R w u) (hd : Bd_ w b u b1) (hL : ∀ Q, L Q = L2 Q) : Tx_ t R w b e L := by
  obtain ⟨w1, x, ⟨f1, d1, t1⟩, q1⟩ := h
  exact ⟨w1, x, ⟨fk_tr f f1, bd_tr hd d1, ft_up t1 f.1⟩, fun Q => (hL Q).trans (q1 Q)⟩
theorem c_ck1 {d : Nat} {x : Int32} {Q : Q_} : cl d 273 [v_R (some R), v_I (Int32.ofNat 1), v_I x] w Q = Q (Sum.inl none) w := by
  simp (disch := first | omega | decide | exact ko_b _ | assumption | (simp only [t_si, t_sl, t_sr, t_sI, t_sR, n_si, n_sl, n_sr, n_sI, n_sR, r_si, r_sl, r_sI]; first | done | omega)) only [x_273_e, x_273_b, x_273_0, x_273_1, x_273_e, x_273_b, x_273_17, bk_v, bk_n, nl_I, nl_R, nl_L, nl_0, oo_lt, oo_le, oo_eq, oo_add, oo_sub, oo_tn, oo_ir, nn_leT, nn_leF, nn_ltT, nn_ltF, nn_eqT, nn_eqF, bv_0, bv_1, ko_b, ko_1, ko_0, true_and, and_true, if_true, if_false, not_true_eq_false, not_false_eq_true, oo_02, decide_eq_true_eq, decide_eq_false_iff_not, ite_not, Nat.reduceAdd, Nat.reduceLT, Nat.reduceSub, Nat.reduceLeDiff, reduceIte, Bool.true_eq_false, Bool.false_eq_true, reduceCtorEq, eq_self, decide_true, decide_false, bv_t, bv_f, and_self, t_si, t_sl, t_sr, t_sI, t_sR, n_si, n_sl, n_sr, n_sI, n_sR, r_si, r_sl, r_sI]
theorem c_ck0 {d c b : Nat} {Q : Q_} (t0 : w_t w R = 26) (h3 : w_i w R 3 = Int32.ofNat b) : cl d 273 [v_R (some R), v_I (Int32.ofNat 0), v_I (Int32.ofNat c)] w Q = Q (Sum.inr (w_z w)) (flt_ w c b) := by
  have e : w_t (flt_ w c b) (w_z w) = 41 := by unfold flt_; rw [t_si, t_si, t_sn, if_pos rfl]
  have e2 : 39 ≤ w_t (flt_ w c b) (w_z w) ∧ w_t (flt_ w c b) (w_z w) ≤ 41 := by omega
  simp (disch := first | omega | decide | exact ko_b _ | assumption | (simp only [t_si, t_sl, t_sr, t_sI, t_sR, n_si, n_sl, n_sr, n_sI, n_sR, r_si, r_sl, r_sI]; first | done | omega)) only [x_273_e, x_273_b, x_273_0, x_273_1, x_273_4, bk_v, bk_n, nl_I, nl_R, nl_L, nl_0, oo_lt, oo_le, oo_eq, oo_add, oo_sub, oo_tn, oo_ir, nn_leT, nn_leF, nn_ltT, nn_ltF, nn_eqT, nn_eqF, bv_0, bv_1, ko_b, ko_1, ko_0, true_and, and_true, if_true, if_false, not_true_eq_false, not_false_eq_true, oo_02, decide_eq_true_eq, decide_eq_false_iff_not, ite_not, Nat.reduceAdd, Nat.reduceLT, Nat.reduceSub, Nat.reduceLeDiff, reduceIte, Bool.true_eq_false, Bool.false_eq_true, reduceCtorEq, eq_self, decide_true, decide_false, bv_t, bv_f, and_self, t_si, t_sl, t_sr, t_sI, t_sR, n_si, n_sl, n_sr, n_sI, n_sR, r_si, r_sl, r_sI, h3]
  show wp d 273 16 _ _ (flt_ w c b) Q = _
  rw [x_273_16 _ _ _ _ _ e2]
theorem flt_f {c b : Nat} (h : Ct_ w R t) (hr : Cr_ w R t b) (hc : c ≤ 4) : Fk_ R w (flt_ w c b) ∧ (w_z (flt_ w c b) ≤ w_z w + 1 ∧ w_s (flt_ w c b) ≤ w_s w + 8) ∧ Ft_ w (flt_ w c b) (w_z w) (c, b) := by
  have hR := h.2.2.2.2.2.2.2.2.2
  have hb := hr.1
  refine ⟨fk_new (fk_new (fk_n hR) (Nat.le_refl _) hR) (Nat.le_refl _) hR, ⟨Nat.le_refl _, Nat.le_refl _⟩, Nat.le_refl _, ?_, ?_, ?_, ?_, hc⟩
  · show w_z w < w_z w + 1; omega
  · unfold flt_; rw [t_si, t_si, t_sn, if_pos rfl]
  · unfold flt_; rw [i_si, if_neg (by omega), i_si, if_pos ⟨rfl, rfl⟩]
  · unfold flt_; rw [i_si, if_pos ⟨rfl, rfl⟩]
/-- a step on, paid by the token that is left -/
theorem c_step {D b : Nat} (hD : 9 ≤ D) (h : Ce_ w R t) (hr : Cr_ w R t b) (hk : tk_k t b ≠ 0) : ∃ w1, (Fk_ R w w1 ∧ Ce_ w1 R t ∧ Cr_ w1 R t (tk_n t b) ∧ (w_z w1 ≤ w_z w + 4 ∧ w_s w1 ≤ w_s w + 26) ∧ Bd_ w b w1 (tk_n t b)) ∧ ∀ Q, cl D 265 [v_R (some R)] w Q = Q (Sum.inl none) w1 := by
  obtain ⟨w1, ⟨f1, z1, s1, c1⟩, q1⟩ := c_go (D := D) hD h.1 hr.2.1 (tk_ebd hr.1).2
  have g := tk_gt hk
  refine ⟨w1, ⟨f1, Ce_fk h f1, c1, ⟨z1, s1⟩, ?_⟩, q1⟩
  unfold Bd_
  omega
/-! numbers -/
def On_ (t : Tp) (R : Nat) (w : Wd) (b : Nat) (r : (Nat × Nat) ⊕ (Nat × Nat)) (L : Q_ → Prop) : Prop := match r with
  | Sum.inl e => Ty_ R w e L
  | Sum.inr q => ∃ w1, (Fk_ R w w1 ∧ Ce_ w1 R t ∧ Cr_ w1 R t q.2 ∧ (w_z w1 ≤ w_z w + 4 ∧ w_s w1 ≤ w_s w + 26) ∧ Bd_ w b w1 q.2) ∧ ∀ Q, L Q = Q (Sum.inl (some (v_I (Int32.ofNat q.1)))) w1
theorem c_num {D b lo hi : Nat} (hD : 10 ≤ D) (h : Ce_ w R t) (hr : Cr_ w R t b) (hl : lo < 10000) (hh : hi < 10000) : On_ t R w b (nm_ t lo hi b) (fun Q => cl D 274 [v_R (some R), v_I (Int32.ofNat lo), v_I (Int32.ofNat hi)] w Q) := by
  obtain ⟨d, rfl⟩ : ∃ d, D = d + 10 := ⟨D - 10, by omega⟩
  have t0 := h.1.1
  have hq := hr
  obtain ⟨hb, r2, r3, r6, r4, -⟩ := hq
  have hk5 := tk_k5 (t := t) (b := b)
  have y2 := kid_q _ hk5 211 (by omega)
  have x2 := kid_2 _ hk5
  have ck1 := fun d x Q => c_ck1 (w := w) (R := R) (d := d) (x := x) (Q := Q)
  unfold nm_
  by_cases k2 : tk_k t b = 2
  · rw [if_neg (fun z => z k2)]
    obtain ⟨m5, m4, v, mv⟩ := r4 k2
    have tx : (¬ (tk_e t b - b ≤ 4 ∧ lo ≤ tk_num t b ∧ tk_num t b ≤ hi)) → (∀ Q, cl (d + 10) 274 [v_R (some R), v_I (Int32.ofNat lo), v_I (Int32.ofNat hi)] w Q = Q (Sum.inr (w_z w)) (flt_ w 2 b)) → On_ t R w b (if tk_e t b - b ≤ 4 ∧ lo ≤ tk_num t b ∧ tk_num t b ≤ hi then Sum.inr (tk_num t b, tk_n t b) else Sum.inl (2, b)) (fun Q => cl (d + 10) 274 [v_R (some R), v_I (Int32.ofNat lo), v_I (Int32.ofNat hi)] w Q) := fun c q => by
      rw [if_neg c]
      exact ⟨_, _, flt_f h.1 hr (by omega), q⟩
    have ck0 := fun d Q => c_ck0 (d := d) (c := 2) (Q := Q) t0 r3
    by_cases c1 : tk_e t b - b ≤ 4
    · have c1' : ¬ 4 < tk_e t b - b := by omega
      rw [decide_eq_false c1'] at m5
      have m4 := m4 c1
      have n2 := (tk_nu k2 c1).2
      by_cases c2 : lo ≤ tk_num t b
      · by_cases c3 : tk_num t b ≤ hi
        · rw [if_pos ⟨c1, c2, c3⟩]
          obtain ⟨w1, h1, q1⟩ := c_step (D := d + 9) (by omega) h hr (by omega)
          refine ⟨w1, h1, fun Q => ?_⟩
          show cl (d + 10) 274 _ w Q = _
          simp (disch := first | omega | decide | exact ko_b _ | assumption | (simp only [t_si, t_sl, t_sr, t_sI, t_sR, n_si, n_sl, n_sr, n_sI, n_sR, r_si, r_sl, r_sI]; first | done | omega)) only [x_274_e, x_274_b, x_274_0, x_274_1, x_274_2, x_274_5, x_274_8, x_274_11, x_274_12, x_274_15, x_274_16, x_274_17, x_274_20, x_274_21, x_274_22, x_274_25, x_274_28, x_274_29, x_274_32, x_274_33, x_274_36, x_274_37, x_274_40, x_274_41, x_274_44, x_274_45, x_274_48, x_274_49, x_274_50, x_274_53, x_274_54, x_274_57, x_274_58, x_274_59, x_274_62, x_274_63, bk_v, bk_n, nl_I, nl_R, nl_L, nl_0, oo_lt, oo_le, oo_eq, oo_add, oo_sub, oo_tn, oo_ir, nn_leT, nn_leF, nn_ltT, nn_ltF, nn_eqT, nn_eqF, bv_0, bv_1, ko_b, ko_1, ko_0, true_and, and_true, if_true, if_false, not_true_eq_false, not_false_eq_true, oo_02, decide_eq_true_eq, decide_eq_false_iff_not, ite_not, Nat.reduceAdd, Nat.reduceLT, Nat.reduceSub, Nat.reduceLeDiff, reduceIte, Bool.true_eq_false, Bool.false_eq_true, reduceCtorEq, eq_self, decide_true, decide_false, bv_t, bv_f, and_self, t_si, t_sl, t_sr, t_sI, t_sR, n_si, n_sl, n_sr, n_sI, n_sR, r_si, r_sl, r_sI, r6, kz_, x2, k2, m5, m4, ck1, q1]
        · refine tx (fun z => c3 z.2.2) (fun Q => ?_)
          simp (disch := first | omega | decide | exact ko_b _ | assumption | (simp only [t_si, t_sl, t_sr, t_sI, t_sR, n_si, n_sl, n_sr, n_sI, n_sR, r_si, r_sl, r_sI]; first | done | omega)) only [x_274_e, x_274_b, x_274_0, x_274_1, x_274_2, x_274_5, x_274_8, x_274_11, x_274_12, x_274_15, x_274_16, x_274_17, x_274_20, x_274_21, x_274_22, x_274_25, x_274_28, x_274_29, x_274_32, x_274_33, x_274_36, x_274_37, x_274_40, x_274_41, x_274_44, x_274_45, x_274_48, x_274_49, x_274_50, x_274_53, x_274_54, x_274_57, x_274_58, x_274_59, x_274_62, x_274_63, bk_v, bk_n, nl_I, nl_R, nl_L, nl_0, oo_lt, oo_le, oo_eq, oo_add, oo_sub, oo_tn, oo_ir, nn_leT, nn_leF, nn_ltT, nn_ltF, nn_eqT, nn_eqF, bv_0, bv_1, ko_b, ko_1, ko_0, true_and, and_true, if_true, if_false, not_true_eq_false, not_false_eq_true, oo_02, decide_eq_true_eq, decide_eq_false_iff_not, ite_not, Nat.reduceAdd, Nat.reduceLT, Nat.reduceSub, Nat.reduceLeDiff, reduceIte, Bool.true_eq_false, Bool.false_eq_true, reduceCtorEq, eq_self, decide_true, decide_false, bv_t, bv_f, and_self, t_si, t_sl, t_sr, t_sI, t_sR, n_si, n_sl, n_sr, n_sI, n_sR, r_si, r_sl, r_sI, r6, kz_, x2, k2, m5, m4, ck1, ck0]
      · refine tx (fun z => c2 z.2.1) (fun Q => ?_)
        simp (disch := first | omega | decide | exact ko_b _ | assumption | (simp only [t_si, t_sl, t_sr, t_sI, t_sR, n_si, n_sl, n_sr, n_sI, n_sR, r_si, r_sl, r_sI]; first | done | omega)) only [x_274_e, x_274_b, x_274_0, x_274_1, x_274_2, x_274_5, x_274_8, x_274_11, x_274_12, x_274_15, x_274_16, x_274_17, x_274_20, x_274_21, x_274_22, x_274_25, x_274_28, x_274_29, x_274_32, x_274_33, x_274_36, x_274_37, x_274_40, x_274_41, x_274_44, x_274_45, x_274_48, x_274_49, x_274_50, x_274_53, x_274_54, x_274_57, x_274_58, x_274_59, x_274_62, x_274_63, bk_v, bk_n, nl_I, nl_R, nl_L, nl_0, oo_lt, oo_le, oo_eq, oo_add, oo_sub, oo_tn, oo_ir, nn_leT, nn_leF, nn_ltT, nn_ltF, nn_eqT, nn_eqF, bv_0, bv_1, ko_b, ko_1, ko_0, true_and, and_true, if_true, if_false, not_true_eq_false, not_false_eq_true, oo_02, decide_eq_true_eq, decide_eq_false_iff_not, ite_not, Nat.reduceAdd, Nat.reduceLT, Nat.reduceSub, Nat.reduceLeDiff, reduceIte, Bool.true_eq_false, Bool.false_eq_true, reduceCtorEq, eq_self, decide_true, decide_false, bv_t, bv_f, and_self, t_si, t_sl, t_sr, t_sI, t_sR, n_si, n_sl, n_sr, n_sI, n_sR, r_si, r_sl, r_sI, r6, kz_, x2, k2, m5, m4, ck1, ck0]
    · have c1' : 4 < tk_e t b - b := by omega
      rw [decide_eq_true c1'] at m5
      refine tx (fun z => c1 z.1) (fun Q => ?_)
      simp (disch := first | omega | decide | exact ko_b _ | assumption | (simp only [t_si, t_sl, t_sr, t_sI, t_sR, n_si, n_sl, n_sr, n_sI, n_sR, r_si, r_sl, r_sI]; first | done | omega)) only [x_274_e, x_274_b, x_274_0, x_274_1, x_274_2, x_274_5, x_274_8, x_274_11, x_274_12, x_274_15, x_274_16, x_274_17, x_274_20, x_274_21, x_274_22, x_274_25, x_274_28, x_274_29, x_274_32, x_274_33, x_274_36, x_274_37, x_274_40, x_274_41, x_274_44, x_274_45, x_274_48, x_274_49, x_274_50, x_274_53, x_274_54, x_274_57, x_274_58, x_274_59, x_274_62, x_274_63, bk_v, bk_n, nl_I, nl_R, nl_L, nl_0, oo_lt, oo_le, oo_eq, oo_add, oo_sub, oo_tn, oo_ir, nn_leT, nn_leF, nn_ltT, nn_ltF, nn_eqT, nn_eqF, bv_0, bv_1, ko_b, ko_1, ko_0, true_and, and_true, if_true, if_false, not_true_eq_false, not_false_eq_true, oo_02, decide_eq_true_eq, decide_eq_false_iff_not, ite_not, Nat.reduceAdd, Nat.reduceLT, Nat.reduceSub, Nat.reduceLeDiff, reduceIte, Bool.true_eq_false, Bool.false_eq_true, reduceCtorEq, eq_self, decide_true, decide_false, bv_t, bv_f, and_self, t_si, t_sl, t_sr, t_sI, t_sR, n_si, n_sl, n_sr, n_sI, n_sR, r_si, r_sl, r_sI, r6, kz_, x2, k2, m5, ck1, ck0]
  · rw [if_pos k2]
    have ck0 := fun d Q => c_ck0 (d := d) (c := 1) (Q := Q) t0 r3
    refine ⟨_, _, flt_f h.1 hr (by omega), fun Q => ?_⟩
    show cl (d + 10) 274 _ w Q = _
    simp (disch := first | omega | decide | exact ko_b _ | assumption | (simp only [t_si, t_sl, t_sr, t_sI, t_sR, n_si, n_sl, n_sr, n_sI, n_sR, r_si, r_sl, r_sI]; first | done | omega)) only [x_274_e, x_274_b, x_274_0, x_274_1, x_274_2, x_274_5, x_274_8, x_274_11, x_274_12, x_274_15, x_274_16, x_274_17, x_274_20, x_274_21, x_274_22, x_274_25, x_274_28, x_274_29, x_274_32, x_274_33, x_274_36, x_274_37, x_274_40, x_274_41, x_274_44, x_274_45, x_274_48, x_274_49, x_274_50, x_274_53, x_274_54, x_274_57, x_274_58, x_274_59, x_274_62, x_274_63, bk_v, bk_n, nl_I, nl_R, nl_L, nl_0, oo_lt, oo_le, oo_eq, oo_add, oo_sub, oo_tn, oo_ir, nn_leT, nn_leF, nn_ltT, nn_ltF, nn_eqT, nn_eqF, bv_0, bv_1, ko_b, ko_1, ko_0, true_and, and_true, if_true, if_false, not_true_eq_false, not_false_eq_true, oo_02, decide_eq_true_eq, decide_eq_false_iff_not, ite_not, Nat.reduceAdd, Nat.reduceLT, Nat.reduceSub, Nat.reduceLeDiff, reduceIte, Bool.true_eq_false, Bool.false_eq_true, reduceCtorEq, eq_self, decide_true, decide_false, bv_t, bv_f, and_self, t_si, t_sl, t_sr, t_sI, t_sR, n_si, n_sl, n_sr, n_sI, n_sR, r_si, r_sl, r_sI, r6, kz_, x2, k2, ck0]
/-! a sign that is needed -/
def Og_ (t : Tp) (R : Nat) (w : Wd) (b : Nat) (r : (Nat × Nat) ⊕ Nat) (L : Q_ → Prop) : Prop := match r with
  | Sum.inl e => Ty_ R w e L
  | Sum.inr q => ∃ w1, (Fk_ R w w1 ∧ Ce_ w1 R t ∧ Cr_ w1 R t q ∧ (w_z w1 ≤ w_z w + 4 ∧ w_s w1 ≤ w_s w + 26) ∧ Bd_ w b w1 q) ∧ ∀ Q, L Q = Q (Sum.inl none) w1
theorem c_need {D b q0 p0 x : Nat} (hD : 10 ≤ D) (h : Ce_ w R t) (hr : Cr_ w R t b) (hs : Sc_ w q0 p0 [x]) (hx : x < 97) (h0 : q0 < 200) : Og_ t R w b (nd_ t x b) (fun Q => cl D 281 [v_R (some R), v_R (some q0)] w Q) := by
  obtain ⟨d, rfl⟩ : ∃ d, D = d + 10 := ⟨D - 10, by omega⟩
  have t0 := h.1.1
  have hi := fun Q => c_isg (D := d + 9) (Q := Q) (by omega) h hr hs hx h0
  have ck1 := fun d x Q => c_ck1 (w := w) (R := R) (d := d) (x := x) (Q := Q)
  have ck0 := fun d Q => c_ck0 (d := d) (c := 1) (Q := Q) t0 hr.2.2.1
  unfold nd_
  by_cases c : is_s t b x = true
  · rw [if_pos c]
    rw [c] at hi
    obtain ⟨w1, h1, q1⟩ := c_step (D := d + 9) (by omega) h hr (by have := (is_s_k c).1; omega)
    refine ⟨w1, h1, fun Q => ?_⟩
    show cl (d + 10) 281 _ w Q = _
    simp (disch := first | omega | decide | exact ko_b _ | assumption | (simp only [t_si, t_sl, t_sr, t_sI, t_sR, n_si, n_sl, n_sr, n_sI, n_sR, r_si, r_sl, r_sI]; first | done | omega)) only [x_281_e, x_281_b, x_281_0, x_281_1, x_281_2, x_281_3, x_281_6, x_281_7, x_281_10, x_281_11, x_281_14, bk_v, bk_n, nl_I, nl_R, nl_L, nl_0, oo_lt, oo_le, oo_eq, oo_add, oo_sub, oo_tn, oo_ir, nn_leT, nn_leF, nn_ltT, nn_ltF, nn_eqT, nn_eqF, bv_0, bv_1, ko_b, ko_1, ko_0, true_and, and_true, if_true, if_false, not_true_eq_false, not_false_eq_true, oo_02, decide_eq_true_eq, decide_eq_false_iff_not, ite_not, Nat.reduceAdd, Nat.reduceLT, Nat.reduceSub, Nat.reduceLeDiff, reduceIte, Bool.true_eq_false, Bool.false_eq_true, reduceCtorEq, eq_self, decide_true, decide_false, bv_t, bv_f, and_self, t_si, t_sl, t_sr, t_sI, t_sR, n_si, n_sl, n_sr, n_sI, n_sR, r_si, r_sl, r_sI, hi, ck1, q1]
  · rw [if_neg c]
    rw [Bool.eq_false_iff.mpr c] at hi
    refine ⟨_, _, flt_f h.1 hr (by omega), fun Q => ?_⟩
    show cl (d + 10) 281 _ w Q = _
    simp (disch := first | omega | decide | exact ko_b _ | assumption | (simp only [t_si, t_sl, t_sr, t_sI, t_sR, n_si, n_sl, n_sr, n_sI, n_sR, r_si, r_sl, r_sI]; first | done | omega)) only [x_281_e, x_281_b, x_281_0, x_281_1, x_281_2, x_281_3, x_281_6, x_281_7, x_281_10, x_281_11, x_281_14, bk_v, bk_n, nl_I, nl_R, nl_L, nl_0, oo_lt, oo_le, oo_eq, oo_add, oo_sub, oo_tn, oo_ir, nn_leT, nn_leF, nn_ltT, nn_ltF, nn_eqT, nn_eqF, bv_0, bv_1, ko_b, ko_1, ko_0, true_and, and_true, if_true, if_false, not_true_eq_false, not_false_eq_true, oo_02, decide_eq_true_eq, decide_eq_false_iff_not, ite_not, Nat.reduceAdd, Nat.reduceLT, Nat.reduceSub, Nat.reduceLeDiff, reduceIte, Bool.true_eq_false, Bool.false_eq_true, reduceCtorEq, eq_self, decide_true, decide_false, bv_t, bv_f, and_self, t_si, t_sl, t_sr, t_sI, t_sR, n_si, n_sl, n_sr, n_sI, n_sR, r_si, r_sl, r_sI, hi, ck0]
/-! a value's name -/
theorem ws_v : ∀ k : Fin 6, (decide (2 ≤ (vs_v k.val).length) && decide ((vs_v k.val).length ≤ 8)) = true := by decide
theorem sc_cv : ∀ k : Fin 6, t_b.getD (9 + k.val) [] = (vs_v k.val).map Int32.ofNat := by decide
theorem c_val {d b q p : Nat} {Q : Q_} (h : KS_ w) (k1 : tk_k t b = 1) (hd : Sd_ w q p (min (tk_e t b - b) 9) (fun k => t.1 (b + k))) : cl (d + 2) 282 [v_R (some q)] w Q = Q (Sum.inl (some (v_R ((vw_ t b).map (fun j => 200 + j))))) w := by
  have tq := hd.1
  have L : ∀ j, j < 6 → ∀ d Q, cl (d + 1) 347 [v_R (some q), v_R (some (19 + j))] w Q = Q (Sum.inl (some (v_I (b_v (is_w t b (vs_v j)))))) w := fun j hj d Q => by
    have hs := ks_c h (i := 9 + j) (by omega) (sc_cv ⟨j, hj⟩)
    have ha := as_d (as_v ⟨j, hj⟩)
    have hw := ws_v ⟨j, hj⟩
    simp only [Bool.and_eq_true, decide_eq_true_eq] at hw
    have e := c_eq (d := d) (Q := Q) (q0 := 19 + j) (p0 := 119 + j) hd (by rw [show 19 + j = 10 + (9 + j) by omega, show 119 + j = 110 + (9 + j) by omega]; exact hs) ha (by omega)
    rw [eq_w ⟨ha, hw⟩ k1] at e
    exact e
  have L0 := L 0 (by omega)
  have L1 := L 1 (by omega)
  have L2 := L 2 (by omega)
  have L3 := L 3 (by omega)
  have L4 := L 4 (by omega)
  have L5 := L 5 (by omega)
  unfold vs_v at L0 L1 L2 L3 L4 L5
  simp only [List.getD_cons_zero, List.getD_cons_succ, Nat.reduceAdd] at L0 L1 L2 L3 L4 L5
  clear L
  unfold vw_
  by_cases c0 : is_w t b [108, 101, 118, 101, 108] = true
  · rw [if_pos c0]
    rw [c0] at L0
    simp (disch := first | omega | decide | exact ko_b _ | assumption | (simp only [t_si, t_sl, t_sr, t_sI, t_sR, n_si, n_sl, n_sr, n_sI, n_sR, r_si, r_sl, r_sI]; first | done | omega)) only [x_282_e, x_282_b, x_282_0, x_282_1, x_282_3, x_282_6, x_282_9, x_282_12, x_282_13, x_282_14, x_282_17, x_282_20, x_282_23, x_282_26, x_282_27, x_282_28, x_282_31, x_282_34, x_282_37, x_282_40, x_282_41, x_282_42, x_282_45, x_282_48, x_282_51, x_282_54, x_282_55, x_282_56, x_282_59, x_282_62, x_282_65, x_282_68, x_282_69, x_282_70, x_282_73, x_282_76, x_282_79, x_282_82, x_282_85, x_282_86, bk_v, bk_n, nl_I, nl_R, nl_L, nl_0, oo_lt, oo_le, oo_eq, oo_add, oo_sub, oo_tn, oo_ir, nn_leT, nn_leF, nn_ltT, nn_ltF, nn_eqT, nn_eqF, bv_0, bv_1, ko_b, ko_1, ko_0, true_and, and_true, if_true, if_false, not_true_eq_false, not_false_eq_true, oo_02, decide_eq_true_eq, decide_eq_false_iff_not, ite_not, Nat.reduceAdd, Nat.reduceLT, Nat.reduceSub, Nat.reduceLeDiff, reduceIte, Bool.true_eq_false, Bool.false_eq_true, reduceCtorEq, eq_self, decide_true, decide_false, bv_t, bv_f, and_self, t_si, t_sl, t_sr, t_sI, t_sR, n_si, n_sl, n_sr, n_sI, n_sR, r_si, r_sl, r_sI, L0, Option.map_some, Nat.add_zero]
  · rw [if_neg c0]
    rw [Bool.eq_false_iff.mpr c0] at L0
    by_cases c1 : is_w t b [104, 117, 110, 103, 101, 114] = true
    · rw [if_pos c1]
      rw [c1] at L1
      simp (disch := first | omega | decide | exact ko_b _ | assumption | (simp only [t_si, t_sl, t_sr, t_sI, t_sR, n_si, n_sl, n_sr, n_sI, n_sR, r_si, r_sl, r_sI]; first | done | omega)) only [x_282_e, x_282_b, x_282_0, x_282_1, x_282_3, x_282_6, x_282_9, x_282_12, x_282_13, x_282_14, x_282_17, x_282_20, x_282_23, x_282_26, x_282_27, x_282_28, x_282_31, x_282_34, x_282_37, x_282_40, x_282_41, x_282_42, x_282_45, x_282_48, x_282_51, x_282_54, x_282_55, x_282_56, x_282_59, x_282_62, x_282_65, x_282_68, x_282_69, x_282_70, x_282_73, x_282_76, x_282_79, x_282_82, x_282_85, x_282_86, bk_v, bk_n, nl_I, nl_R, nl_L, nl_0, oo_lt, oo_le, oo_eq, oo_add, oo_sub, oo_tn, oo_ir, nn_leT, nn_leF, nn_ltT, nn_ltF, nn_eqT, nn_eqF, bv_0, bv_1, ko_b, ko_1, ko_0, true_and, and_true, if_true, if_false, not_true_eq_false, not_false_eq_true, oo_02, decide_eq_true_eq, decide_eq_false_iff_not, ite_not, Nat.reduceAdd, Nat.reduceLT, Nat.reduceSub, Nat.reduceLeDiff, reduceIte, Bool.true_eq_false, Bool.false_eq_true, reduceCtorEq, eq_self, decide_true, decide_false, bv_t, bv_f, and_self, t_si, t_sl, t_sr, t_sI, t_sR, n_si, n_sl, n_sr, n_sI, n_sR, r_si, r_sl, r_sI, L0, L1, Option.map_some]
    · rw [if_neg c1]
      rw [Bool.eq_false_iff.mpr c1] at L1
      by_cases c2 : is_w t b [108, 101, 102, 116] = true
      · rw [if_pos c2]
        rw [c2] at L2
        simp (disch := first | omega | decide | exact ko_b _ | assumption | (simp only [t_si, t_sl, t_sr, t_sI, t_sR, n_si, n_sl, n_sr, n_sI, n_sR, r_si, r_sl, r_sI]; first | done | omega)) only [x_282_e, x_282_b, x_282_0, x_282_1, x_282_3, x_282_6, x_282_9, x_282_12, x_282_13, x_282_14, x_282_17, x_282_20, x_282_23, x_282_26, x_282_27, x_282_28, x_282_31, x_282_34, x_282_37, x_282_40, x_282_41, x_282_42, x_282_45, x_282_48, x_282_51, x_282_54, x_282_55, x_282_56, x_282_59, x_282_62, x_282_65, x_282_68, x_282_69, x_282_70, x_282_73, x_282_76, x_282_79, x_282_82, x_282_85, x_282_86, bk_v, bk_n, nl_I, nl_R, nl_L, nl_0, oo_lt, oo_le, oo_eq, oo_add, oo_sub, oo_tn, oo_ir, nn_leT, nn_leF, nn_ltT, nn_ltF, nn_eqT, nn_eqF, bv_0, bv_1, ko_b, ko_1, ko_0, true_and, and_true, if_true, if_false, not_true_eq_false, not_false_eq_true, oo_02, decide_eq_true_eq, decide_eq_false_iff_not, ite_not, Nat.reduceAdd, Nat.reduceLT, Nat.reduceSub, Nat.reduceLeDiff, reduceIte, Bool.true_eq_false, Bool.false_eq_true, reduceCtorEq, eq_self, decide_true, decide_false, bv_t, bv_f, and_self, t_si, t_sl, t_sr, t_sI, t_sR, n_si, n_sl, n_sr, n_sI, n_sR, r_si, r_sl, r_sI, L0, L1, L2, Option.map_some]
      · rw [if_neg c2]
        rw [Bool.eq_false_iff.mpr c2] at L2
        by_cases c3 : is_w t b [107, 105, 110, 100] = true
        · rw [if_pos c3]
          rw [c3] at L3
          simp (disch := first | omega | decide | exact ko_b _ | assumption | (simp only [t_si, t_sl, t_sr, t_sI, t_sR, n_si, n_sl, n_sr, n_sI, n_sR, r_si, r_sl, r_sI]; first | done | omega)) only [x_282_e, x_282_b, x_282_0, x_282_1, x_282_3, x_282_6, x_282_9, x_282_12, x_282_13, x_282_14, x_282_17, x_282_20, x_282_23, x_282_26, x_282_27, x_282_28, x_282_31, x_282_34, x_282_37, x_282_40, x_282_41, x_282_42, x_282_45, x_282_48, x_282_51, x_282_54, x_282_55, x_282_56, x_282_59, x_282_62, x_282_65, x_282_68, x_282_69, x_282_70, x_282_73, x_282_76, x_282_79, x_282_82, x_282_85, x_282_86, bk_v, bk_n, nl_I, nl_R, nl_L, nl_0, oo_lt, oo_le, oo_eq, oo_add, oo_sub, oo_tn, oo_ir, nn_leT, nn_leF, nn_ltT, nn_ltF, nn_eqT, nn_eqF, bv_0, bv_1, ko_b, ko_1, ko_0, true_and, and_true, if_true, if_false, not_true_eq_false, not_false_eq_true, oo_02, decide_eq_true_eq, decide_eq_false_iff_not, ite_not, Nat.reduceAdd, Nat.reduceLT, Nat.reduceSub, Nat.reduceLeDiff, reduceIte, Bool.true_eq_false, Bool.false_eq_true, reduceCtorEq, eq_self, decide_true, decide_false, bv_t, bv_f, and_self, t_si, t_sl, t_sr, t_sI, t_sR, n_si, n_sl, n_sr, n_sI, n_sR, r_si, r_sl, r_sI, L0, L1, L2, L3, Option.map_some]
        · rw [if_neg c3]
          rw [Bool.eq_false_iff.mpr c3] at L3
          by_cases c4 : is_w t b [97, 98, 111, 118, 101] = true
          · rw [if_pos c4]
            rw [c4] at L4
            simp (disch := first | omega | decide | exact ko_b _ | assumption | (simp only [t_si, t_sl, t_sr, t_sI, t_sR, n_si, n_sl, n_sr, n_sI, n_sR, r_si, r_sl, r_sI]; first | done | omega)) only [x_282_e, x_282_b, x_282_0, x_282_1, x_282_3, x_282_6, x_282_9, x_282_12, x_282_13, x_282_14, x_282_17, x_282_20, x_282_23, x_282_26, x_282_27, x_282_28, x_282_31, x_282_34, x_282_37, x_282_40, x_282_41, x_282_42, x_282_45, x_282_48, x_282_51, x_282_54, x_282_55, x_282_56, x_282_59, x_282_62, x_282_65, x_282_68, x_282_69, x_282_70, x_282_73, x_282_76, x_282_79, x_282_82, x_282_85, x_282_86, bk_v, bk_n, nl_I, nl_R, nl_L, nl_0, oo_lt, oo_le, oo_eq, oo_add, oo_sub, oo_tn, oo_ir, nn_leT, nn_leF, nn_ltT, nn_ltF, nn_eqT, nn_eqF, bv_0, bv_1, ko_b, ko_1, ko_0, true_and, and_true, if_true, if_false, not_true_eq_false, not_false_eq_true, oo_02, decide_eq_true_eq, decide_eq_false_iff_not, ite_not, Nat.reduceAdd, Nat.reduceLT, Nat.reduceSub, Nat.reduceLeDiff, reduceIte, Bool.true_eq_false, Bool.false_eq_true, reduceCtorEq, eq_self, decide_true, decide_false, bv_t, bv_f, and_self, t_si, t_sl, t_sr, t_sI, t_sR, n_si, n_sl, n_sr, n_sI, n_sR, r_si, r_sl, r_sI, L0, L1, L2, L3, L4, Option.map_some]
          · rw [if_neg c4]
            rw [Bool.eq_false_iff.mpr c4] at L4
            by_cases c5 : is_w t b [119, 101, 105, 103, 104, 116] = true
            · rw [if_pos c5]
              rw [c5] at L5
              simp (disch := first | omega | decide | exact ko_b _ | assumption | (simp only [t_si, t_sl, t_sr, t_sI, t_sR, n_si, n_sl, n_sr, n_sI, n_sR, r_si, r_sl, r_sI]; first | done | omega)) only [x_282_e, x_282_b, x_282_0, x_282_1, x_282_3, x_282_6, x_282_9, x_282_12, x_282_13, x_282_14, x_282_17, x_282_20, x_282_23, x_282_26, x_282_27, x_282_28, x_282_31, x_282_34, x_282_37, x_282_40, x_282_41, x_282_42, x_282_45, x_282_48, x_282_51, x_282_54, x_282_55, x_282_56, x_282_59, x_282_62, x_282_65, x_282_68, x_282_69, x_282_70, x_282_73, x_282_76, x_282_79, x_282_82, x_282_85, x_282_86, bk_v, bk_n, nl_I, nl_R, nl_L, nl_0, oo_lt, oo_le, oo_eq, oo_add, oo_sub, oo_tn, oo_ir, nn_leT, nn_leF, nn_ltT, nn_ltF, nn_eqT, nn_eqF, bv_0, bv_1, ko_b, ko_1, ko_0, true_and, and_true, if_true, if_false, not_true_eq_false, not_false_eq_true, oo_02, decide_eq_true_eq, decide_eq_false_iff_not, ite_not, Nat.reduceAdd, Nat.reduceLT, Nat.reduceSub, Nat.reduceLeDiff, reduceIte, Bool.true_eq_false, Bool.false_eq_true, reduceCtorEq, eq_self, decide_true, decide_false, bv_t, bv_f, and_self, t_si, t_sl, t_sr, t_sI, t_sR, n_si, n_sl, n_sr, n_sI, n_sR, r_si, r_sl, r_sI, L0, L1, L2, L3, L4, L5, Option.map_some]
            · rw [if_neg c5]
              rw [Bool.eq_false_iff.mpr c5] at L5
              simp (disch := first | omega | decide | exact ko_b _ | assumption | (simp only [t_si, t_sl, t_sr, t_sI, t_sR, n_si, n_sl, n_sr, n_sI, n_sR, r_si, r_sl, r_sI]; first | done | omega)) only [x_282_e, x_282_b, x_282_0, x_282_1, x_282_3, x_282_6, x_282_9, x_282_12, x_282_13, x_282_14, x_282_17, x_282_20, x_282_23, x_282_26, x_282_27, x_282_28, x_282_31, x_282_34, x_282_37, x_282_40, x_282_41, x_282_42, x_282_45, x_282_48, x_282_51, x_282_54, x_282_55, x_282_56, x_282_59, x_282_62, x_282_65, x_282_68, x_282_69, x_282_70, x_282_73, x_282_76, x_282_79, x_282_82, x_282_85, x_282_86, bk_v, bk_n, nl_I, nl_R, nl_L, nl_0, oo_lt, oo_le, oo_eq, oo_add, oo_sub, oo_tn, oo_ir, nn_leT, nn_leF, nn_ltT, nn_ltF, nn_eqT, nn_eqF, bv_0, bv_1, ko_b, ko_1, ko_0, true_and, and_true, if_true, if_false, not_true_eq_false, not_false_eq_true, oo_02, decide_eq_true_eq, decide_eq_false_iff_not, ite_not, Nat.reduceAdd, Nat.reduceLT, Nat.reduceSub, Nat.reduceLeDiff, reduceIte, Bool.true_eq_false, Bool.false_eq_true, reduceCtorEq, eq_self, decide_true, decide_false, bv_t, bv_f, and_self, t_si, t_sl, t_sr, t_sI, t_sR, n_si, n_sl, n_sr, n_sI, n_sR, r_si, r_sl, r_sI, L0, L1, L2, L3, L4, L5, Option.map_none]
end
