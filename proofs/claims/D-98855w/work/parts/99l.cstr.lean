/-! THE COMPONENT's reader: bytes, strings -/
set_option maxRecDepth 100000
theorem ch_i2c : ∀ c : Fin 256, ((Int32.ofNat c.val).toUInt32 % 65536).toInt32 = Int32.ofNat c.val ∧ k_o 5 (Int32.ofNat c.val) = true := by decide +kernel
theorem ch_i2b : ∀ c : Fin 128, (Int32.ofNat c.val).toInt8.toInt32 = Int32.ofNat c.val ∧ vp_nar .byte (Int32.ofNat c.val) = Int32.ofNat c.val := by decide +kernel
theorem sb_255 : ∀ c : Fin 256, sb_y c.val &&& Int32.ofNat 255 = Int32.ofNat c.val := by decide +kernel
section
variable {w : Wd} {t : Tp} {R : Nat}
def cb_ (t : Tp) (k : Nat) : Nat := if k < t.2 then t.1 k else 0
def Ct_ (w : Wd) (R : Nat) (t : Tp) : Prop := w_t w R = 26 ∧ w_r w R 0 = some 1434 ∧ w_i w R 1 = Int32.ofNat t.2 ∧ w_t w 1434 = 2 ∧ w_n w 1434 = 600 ∧ t.2 ≤ 600 ∧ (∀ k, k < 600 → w_i w 1434 k = sb_y (t.1 k)) ∧ (∀ k, t.1 k < 256) ∧ 1477 ≤ R ∧ R < w_z w
theorem cb_lt (h : ∀ k, t.1 k < 256) (k : Nat) : cb_ t k < 256 := by
  unfold cb_
  split
  · exact h k
  · omega
theorem c_byte {d k : Nat} {Q : Q_} (h : Ct_ w R t) (hk : k ≤ 600) : cl d 266 [v_R (some R), v_I (Int32.ofNat k)] w Q = Q (Sum.inl (some (v_I (Int32.ofNat (cb_ t k))))) w := by
  obtain ⟨h1, h2, h3, h4, h5, h6, h7, h8, h9, h10⟩ := h
  unfold cb_
  by_cases c : k < t.2
  · have e := h7 k (by omega)
    have e2 : sb_y (t.1 k) &&& Int32.ofNat 255 = Int32.ofNat (t.1 k) := sb_255 ⟨t.1 k, h8 k⟩
    rw [if_pos c]
    simp (disch := first | omega | decide | exact ko_b _ | assumption | (simp only [t_si, t_sl, t_sr, t_sI, t_sR, n_si, n_sl, n_sr, n_sI, n_sR, r_si, r_sl, r_sI]; first | done | omega)) only [x_266_e, x_266_b, x_266_0, x_266_1, x_266_2, x_266_5, x_266_8, x_266_9, x_266_12, x_266_13, x_266_14, x_266_17, x_266_18, x_266_21, x_266_22, bk_v, bk_n, nl_I, nl_R, nl_L, nl_0, oo_lt, oo_le, oo_eq, oo_add, oo_sub, oo_tn, oo_ir, nn_leT, nn_leF, nn_ltT, nn_ltF, nn_eqT, nn_eqF, bv_0, bv_1, ko_b, ko_1, ko_0, true_and, and_true, if_true, if_false, not_true_eq_false, not_false_eq_true, oo_02, decide_eq_true_eq, decide_eq_false_iff_not, ite_not, Nat.reduceAdd, Nat.reduceLT, Nat.reduceSub, Nat.reduceLeDiff, reduceIte, Bool.true_eq_false, Bool.false_eq_true, reduceCtorEq, eq_self, decide_true, decide_false, bv_t, bv_f, and_self, t_si, t_sl, t_sr, t_sI, t_sR, n_si, n_sl, n_sr, n_sI, n_sR, r_si, r_sl, r_sI, h2, h3, h5, e, e2, c]
  · rw [if_neg c]
    simp (disch := first | omega | decide | exact ko_b _ | assumption | (simp only [t_si, t_sl, t_sr, t_sI, t_sR, n_si, n_sl, n_sr, n_sI, n_sR, r_si, r_sl, r_sI]; first | done | omega)) only [x_266_e, x_266_b, x_266_0, x_266_1, x_266_2, x_266_5, x_266_8, x_266_9, x_266_12, x_266_13, x_266_14, x_266_17, x_266_18, x_266_21, x_266_22, bk_v, bk_n, nl_I, nl_R, nl_L, nl_0, oo_lt, oo_le, oo_eq, oo_add, oo_sub, oo_tn, oo_ir, nn_leT, nn_leF, nn_ltT, nn_ltF, nn_eqT, nn_eqF, bv_0, bv_1, ko_b, ko_1, ko_0, true_and, and_true, if_true, if_false, not_true_eq_false, not_false_eq_true, oo_02, decide_eq_true_eq, decide_eq_false_iff_not, ite_not, Nat.reduceAdd, Nat.reduceLT, Nat.reduceSub, Nat.reduceLeDiff, reduceIte, Bool.true_eq_false, Bool.false_eq_true, reduceCtorEq, eq_self, decide_true, decide_false, bv_t, bv_f, and_self, t_si, t_sl, t_sr, t_sI, t_sR, n_si, n_sl, n_sr, n_sI, n_sR, r_si, r_sl, r_sI, h3, c]
theorem c_isl {d c : Nat} {Q : Q_} (hc : c < 256) : cl d 267 [v_I (Int32.ofNat c)] w Q = Q (Sum.inl (some (v_I (b_v (ct_l c))))) w := by
  unfold ct_l
  by_cases c1 : 97 ≤ c
  · by_cases c2 : c ≤ 122
    · rw [decide_eq_true ⟨c1, c2⟩]; simp (disch := first | omega | decide | exact ko_b _ | assumption | (simp only [t_si, t_sl, t_sr, t_sI, t_sR, n_si, n_sl, n_sr, n_sI, n_sR, r_si, r_sl, r_sI]; first | done | omega)) only [x_267_e, x_267_b, x_267_0, x_267_1, x_267_3, x_267_6, x_267_7, x_267_9, x_267_12, x_267_13, x_267_16, x_267_17, bk_v, bk_n, nl_I, nl_R, nl_L, nl_0, oo_lt, oo_le, oo_eq, oo_add, oo_sub, oo_tn, oo_ir, nn_leT, nn_leF, nn_ltT, nn_ltF, nn_eqT, nn_eqF, bv_0, bv_1, ko_b, ko_1, ko_0, true_and, and_true, if_true, if_false, not_true_eq_false, not_false_eq_true, oo_02, decide_eq_true_eq, decide_eq_false_iff_not, ite_not, Nat.reduceAdd, Nat.reduceLT, Nat.reduceSub, Nat.reduceLeDiff, reduceIte, Bool.true_eq_false, Bool.false_eq_true, reduceCtorEq, eq_self, decide_true, decide_false, bv_t, bv_f, and_self, t_si, t_sl, t_sr, t_sI, t_sR, n_si, n_sl, n_sr, n_sI, n_sR, r_si, r_sl, r_sI, c1, c2]
    · rw [decide_eq_false (fun z => c2 z.2)]; simp (disch := first | omega | decide | exact ko_b _ | assumption | (simp only [t_si, t_sl, t_sr, t_sI, t_sR, n_si, n_sl, n_sr, n_sI, n_sR, r_si, r_sl, r_sI]; first | done | omega)) only [x_267_e, x_267_b, x_267_0, x_267_1, x_267_3, x_267_6, x_267_7, x_267_9, x_267_12, x_267_13, x_267_16, x_267_17, bk_v, bk_n, nl_I, nl_R, nl_L, nl_0, oo_lt, oo_le, oo_eq, oo_add, oo_sub, oo_tn, oo_ir, nn_leT, nn_leF, nn_ltT, nn_ltF, nn_eqT, nn_eqF, bv_0, bv_1, ko_b, ko_1, ko_0, true_and, and_true, if_true, if_false, not_true_eq_false, not_false_eq_true, oo_02, decide_eq_true_eq, decide_eq_false_iff_not, ite_not, Nat.reduceAdd, Nat.reduceLT, Nat.reduceSub, Nat.reduceLeDiff, reduceIte, Bool.true_eq_false, Bool.false_eq_true, reduceCtorEq, eq_self, decide_true, decide_false, bv_t, bv_f, and_self, t_si, t_sl, t_sr, t_sI, t_sR, n_si, n_sl, n_sr, n_sI, n_sR, r_si, r_sl, r_sI, c1, c2]
  · rw [decide_eq_false (fun z => c1 z.1)]; simp (disch := first | omega | decide | exact ko_b _ | assumption | (simp only [t_si, t_sl, t_sr, t_sI, t_sR, n_si, n_sl, n_sr, n_sI, n_sR, r_si, r_sl, r_sI]; first | done | omega)) only [x_267_e, x_267_b, x_267_0, x_267_1, x_267_3, x_267_6, x_267_7, x_267_9, x_267_12, x_267_13, x_267_16, x_267_17, bk_v, bk_n, nl_I, nl_R, nl_L, nl_0, oo_lt, oo_le, oo_eq, oo_add, oo_sub, oo_tn, oo_ir, nn_leT, nn_leF, nn_ltT, nn_ltF, nn_eqT, nn_eqF, bv_0, bv_1, ko_b, ko_1, ko_0, true_and, and_true, if_true, if_false, not_true_eq_false, not_false_eq_true, oo_02, decide_eq_true_eq, decide_eq_false_iff_not, ite_not, Nat.reduceAdd, Nat.reduceLT, Nat.reduceSub, Nat.reduceLeDiff, reduceIte, Bool.true_eq_false, Bool.false_eq_true, reduceCtorEq, eq_self, decide_true, decide_false, bv_t, bv_f, and_self, t_si, t_sl, t_sr, t_sI, t_sR, n_si, n_sl, n_sr, n_sI, n_sR, r_si, r_sl, r_sI, c1]
theorem c_isd {d c : Nat} {Q : Q_} (hc : c < 256) : cl d 268 [v_I (Int32.ofNat c)] w Q = Q (Sum.inl (some (v_I (b_v (ct_d c))))) w := by
  unfold ct_d
  by_cases c1 : 48 ≤ c
  · by_cases c2 : c ≤ 57
    · rw [decide_eq_true ⟨c1, c2⟩]; simp (disch := first | omega | decide | exact ko_b _ | assumption | (simp only [t_si, t_sl, t_sr, t_sI, t_sR, n_si, n_sl, n_sr, n_sI, n_sR, r_si, r_sl, r_sI]; first | done | omega)) only [x_268_e, x_268_b, x_268_0, x_268_1, x_268_3, x_268_6, x_268_7, x_268_9, x_268_12, x_268_13, x_268_16, x_268_17, bk_v, bk_n, nl_I, nl_R, nl_L, nl_0, oo_lt, oo_le, oo_eq, oo_add, oo_sub, oo_tn, oo_ir, nn_leT, nn_leF, nn_ltT, nn_ltF, nn_eqT, nn_eqF, bv_0, bv_1, ko_b, ko_1, ko_0, true_and, and_true, if_true, if_false, not_true_eq_false, not_false_eq_true, oo_02, decide_eq_true_eq, decide_eq_false_iff_not, ite_not, Nat.reduceAdd, Nat.reduceLT, Nat.reduceSub, Nat.reduceLeDiff, reduceIte, Bool.true_eq_false, Bool.false_eq_true, reduceCtorEq, eq_self, decide_true, decide_false, bv_t, bv_f, and_self, t_si, t_sl, t_sr, t_sI, t_sR, n_si, n_sl, n_sr, n_sI, n_sR, r_si, r_sl, r_sI, c1, c2]
    · rw [decide_eq_false (fun z => c2 z.2)]; simp (disch := first | omega | decide | exact ko_b _ | assumption | (simp only [t_si, t_sl, t_sr, t_sI, t_sR, n_si, n_sl, n_sr, n_sI, n_sR, r_si, r_sl, r_sI]; first | done | omega)) only [x_268_e, x_268_b, x_268_0, x_268_1, x_268_3, x_268_6, x_268_7, x_268_9, x_268_12, x_268_13, x_268_16, x_268_17, bk_v, bk_n, nl_I, nl_R, nl_L, nl_0, oo_lt, oo_le, oo_eq, oo_add, oo_sub, oo_tn, oo_ir, nn_leT, nn_leF, nn_ltT, nn_ltF, nn_eqT, nn_eqF, bv_0, bv_1, ko_b, ko_1, ko_0, true_and, and_true, if_true, if_false, not_true_eq_false, not_false_eq_true, oo_02, decide_eq_true_eq, decide_eq_false_iff_not, ite_not, Nat.reduceAdd, Nat.reduceLT, Nat.reduceSub, Nat.reduceLeDiff, reduceIte, Bool.true_eq_false, Bool.false_eq_true, reduceCtorEq, eq_self, decide_true, decide_false, bv_t, bv_f, and_self, t_si, t_sl, t_sr, t_sI, t_sR, n_si, n_sl, n_sr, n_sI, n_sR, r_si, r_sl, r_sI, c1, c2]
  · rw [decide_eq_false (fun z => c1 z.1)]; simp (disch := first | omega | decide | exact ko_b _ | assumption | (simp only [t_si, t_sl, t_sr, t_sI, t_sR, n_si, n_sl, n_sr, n_sI, n_sR, r_si, r_sl, r_sI]; first | done | omega)) only [x_268_e, x_268_b, x_268_0, x_268_1, x_268_3, x_268_6, x_268_7, x_268_9, x_268_12, x_268_13, x_268_16, x_268_17, bk_v, bk_n, nl_I, nl_R, nl_L, nl_0, oo_lt, oo_le, oo_eq, oo_add, oo_sub, oo_tn, oo_ir, nn_leT, nn_leF, nn_ltT, nn_ltF, nn_eqT, nn_eqF, bv_0, bv_1, ko_b, ko_1, ko_0, true_and, and_true, if_true, if_false, not_true_eq_false, not_false_eq_true, oo_02, decide_eq_true_eq, decide_eq_false_iff_not, ite_not, Nat.reduceAdd, Nat.reduceLT, Nat.reduceSub, Nat.reduceLeDiff, reduceIte, Bool.true_eq_false, Bool.false_eq_true, reduceCtorEq, eq_self, decide_true, decide_false, bv_t, bv_f, and_self, t_si, t_sl, t_sr, t_sI, t_sR, n_si, n_sl, n_sr, n_sI, n_sR, r_si, r_sl, r_sI, c1]
theorem c_iss {d c : Nat} {Q : Q_} (hc : c < 256) : cl d 269 [v_I (Int32.ofNat c)] w Q = Q (Sum.inl (some (v_I (b_v (ct_s c))))) w := by
  by_cases h : c = 59 ∨ c = 40 ∨ c = 41 ∨ c = 43 ∨ c = 45 ∨ c = 42 ∨ c = 47 ∨ c = 60 ∨ c = 61
  · have hc : ct_s c = true := by unfold ct_s; exact decide_eq_true h
    rw [hc]
    rcases h with z | z | z | z | z | z | z | z | z <;> (rw [z]; simp (disch := first | omega | decide | exact ko_b _ | assumption | (simp only [t_si, t_sl, t_sr, t_sI, t_sR, n_si, n_sl, n_sr, n_sI, n_sR, r_si, r_sl, r_sI]; first | done | omega)) only [x_269_e, x_269_b, x_269_0, x_269_1, x_269_3, x_269_6, x_269_7, x_269_9, x_269_12, x_269_13, x_269_15, x_269_18, x_269_19, x_269_21, x_269_24, x_269_25, x_269_27, x_269_30, x_269_31, x_269_33, x_269_36, x_269_37, x_269_39, x_269_42, x_269_43, x_269_45, x_269_48, x_269_49, x_269_51, x_269_54, x_269_55, x_269_58, x_269_59, bk_v, bk_n, nl_I, nl_R, nl_L, nl_0, oo_lt, oo_le, oo_eq, oo_add, oo_sub, oo_tn, oo_ir, nn_leT, nn_leF, nn_ltT, nn_ltF, nn_eqT, nn_eqF, bv_0, bv_1, ko_b, ko_1, ko_0, true_and, and_true, if_true, if_false, not_true_eq_false, not_false_eq_true, oo_02, decide_eq_true_eq, decide_eq_false_iff_not, ite_not, Nat.reduceAdd, Nat.reduceLT, Nat.reduceSub, Nat.reduceLeDiff, reduceIte, Bool.true_eq_false, Bool.false_eq_true, reduceCtorEq, eq_self, decide_true, decide_false, bv_t, bv_f, and_self, t_si, t_sl, t_sr, t_sI, t_sR, n_si, n_sl, n_sr, n_sI, n_sR, r_si, r_sl, r_sI])
  · have hc : ct_s c = false := by unfold ct_s; exact decide_eq_false h
    rw [hc]
    simp only [not_or] at h
    obtain ⟨c1, c2, c3, c4, c5, c6, c7, c8, c9⟩ := h
    simp (disch := first | omega | decide | exact ko_b _ | assumption | (simp only [t_si, t_sl, t_sr, t_sI, t_sR, n_si, n_sl, n_sr, n_sI, n_sR, r_si, r_sl, r_sI]; first | done | omega)) only [x_269_e, x_269_b, x_269_0, x_269_1, x_269_3, x_269_6, x_269_7, x_269_9, x_269_12, x_269_13, x_269_15, x_269_18, x_269_19, x_269_21, x_269_24, x_269_25, x_269_27, x_269_30, x_269_31, x_269_33, x_269_36, x_269_37, x_269_39, x_269_42, x_269_43, x_269_45, x_269_48, x_269_49, x_269_51, x_269_54, x_269_55, x_269_58, x_269_59, bk_v, bk_n, nl_I, nl_R, nl_L, nl_0, oo_lt, oo_le, oo_eq, oo_add, oo_sub, oo_tn, oo_ir, nn_leT, nn_leF, nn_ltT, nn_ltF, nn_eqT, nn_eqF, bv_0, bv_1, ko_b, ko_1, ko_0, true_and, and_true, if_true, if_false, not_true_eq_false, not_false_eq_true, oo_02, decide_eq_true_eq, decide_eq_false_iff_not, ite_not, Nat.reduceAdd, Nat.reduceLT, Nat.reduceSub, Nat.reduceLeDiff, reduceIte, Bool.true_eq_false, Bool.false_eq_true, reduceCtorEq, eq_self, decide_true, decide_false, bv_t, bv_f, and_self, t_si, t_sl, t_sr, t_sI, t_sR, n_si, n_sl, n_sr, n_sI, n_sR, r_si, r_sl, r_sI, c1, c2, c3, c4, c5, c6, c7, c8, c9]
/-! a string that is made -/
def Sd_ (w : Wd) (q p n : Nat) (c : Nat → Nat) : Prop := w_t w q = 38 ∧ w_r w q 0 = some p ∧ w_i w q 1 = Int32.ofNat 0 ∧ w_t w p = 2 ∧ w_n w p = n ∧ n ≤ 9 ∧ (∀ k, k < n → w_i w p k = Int32.ofNat (c k)) ∧ (∀ k, k < n → c k < 128) ∧ 1000 ≤ q
def eq_s (n : Nat) (c : Nat → Nat) (s : List Nat) : Bool := decide (n = s.length) && decide (∀ k, k < s.length → c k = s.getD k 0)
variable {q p n q0 p0 : Nat} {c : Nat → Nat} {s : List Nat}
theorem c_eql {d : Nat} {Q : Q_} (hd : Sd_ w q p n c) (hs : Sc_ w q0 p0 s) (ha : As_ s) (hn : n = s.length) : ∀ f k, k + f = s.length → wp d 299 9 [some (v_R (some p)), some (v_R (some p0)), some (v_I (Int32.ofNat k))] [] w Q = Q (Sum.inl (some (v_I (b_v (decide (∀ j, j < s.length → k ≤ j → c j = s.getD j 0)))))) w := by
  obtain ⟨d1, d2, d3, d4, d5, d6, d7, d8, d9⟩ := hd
  obtain ⟨s1, s2, s3, s4, s5, s6⟩ := hs
  have hL := ha.1
  intro f
  induction f with
  | zero =>
    intro k hk
    have e : decide (∀ j, j < s.length → k ≤ j → c j = s.getD j 0) = true := decide_eq_true (fun j h1 h2 => by omega)
    rw [e, x_299_9]
    simp (disch := first | omega | decide | exact ko_b _ | assumption | (simp only [t_si, t_sl, t_sr, t_sI, t_sR, n_si, n_sl, n_sr, n_sI, n_sR, r_si, r_sl, r_sI]; first | done | omega)) only [x_299_e, x_299_b, x_299_10, x_299_11, x_299_12, x_299_e, x_299_b, x_299_32, x_299_33, bk_v, bk_n, nl_I, nl_R, nl_L, nl_0, oo_lt, oo_le, oo_eq, oo_add, oo_sub, oo_tn, oo_ir, nn_leT, nn_leF, nn_ltT, nn_ltF, nn_eqT, nn_eqF, bv_0, bv_1, ko_b, ko_1, ko_0, true_and, and_true, if_true, if_false, not_true_eq_false, not_false_eq_true, oo_02, decide_eq_true_eq, decide_eq_false_iff_not, ite_not, Nat.reduceAdd, Nat.reduceLT, Nat.reduceSub, Nat.reduceLeDiff, reduceIte, Bool.true_eq_false, Bool.false_eq_true, reduceCtorEq, eq_self, decide_true, decide_false, bv_t, bv_f, and_self, t_si, t_sl, t_sr, t_sI, t_sR, n_si, n_sl, n_sr, n_sI, n_sR, r_si, r_sl, r_sI, d5]
  | succ f ih =>
    intro k hk
    have hk1 : k < s.length := by omega
    have e1 := d7 k (by omega)
    have e2 := s6 k hk1
    have l1 := d8 k (by omega)
    have l2 := ha.2 k hk1
    by_cases e : c k = s.getD k 0
    · have e3 : decide (∀ j, j < s.length → k ≤ j → c j = s.getD j 0) = decide (∀ j, j < s.length → k + 1 ≤ j → c j = s.getD j 0) := by
        refine decide_eq_decide.mpr ⟨fun z j h1 h2 => z j h1 (by omega), fun z j h1 h2 => ?_⟩
        by_cases ej : j = k
        · rw [ej]; exact e
        · exact z j h1 (by omega)
      rw [e3, ← ih (k + 1) (by omega), x_299_9]
      simp (disch := first | omega | decide | exact ko_b _ | assumption | (simp only [t_si, t_sl, t_sr, t_sI, t_sR, n_si, n_sl, n_sr, n_sI, n_sR, r_si, r_sl, r_sI]; first | done | omega)) only [x_299_e, x_299_b, x_299_10, x_299_11, x_299_12, x_299_15, x_299_16, x_299_17, x_299_18, x_299_19, x_299_20, x_299_21, x_299_24, x_299_25, x_299_26, x_299_29, bk_v, bk_n, nl_I, nl_R, nl_L, nl_0, oo_lt, oo_le, oo_eq, oo_add, oo_sub, oo_tn, oo_ir, nn_leT, nn_leF, nn_ltT, nn_ltF, nn_eqT, nn_eqF, bv_0, bv_1, ko_b, ko_1, ko_0, true_and, and_true, if_true, if_false, not_true_eq_false, not_false_eq_true, oo_02, decide_eq_true_eq, decide_eq_false_iff_not, ite_not, Nat.reduceAdd, Nat.reduceLT, Nat.reduceSub, Nat.reduceLeDiff, reduceIte, Bool.true_eq_false, Bool.false_eq_true, reduceCtorEq, eq_self, decide_true, decide_false, bv_t, bv_f, and_self, t_si, t_sl, t_sr, t_sI, t_sR, n_si, n_sl, n_sr, n_sI, n_sR, r_si, r_sl, r_sI, d5, s5, e1, e2, e]
    · have e3 : decide (∀ j, j < s.length → k ≤ j → c j = s.getD j 0) = false := decide_eq_false (fun z => e (z k hk1 (Nat.le_refl _)))
      have e4 : ¬ Int32.ofNat (c k) = Int32.ofNat (s.getD k 0) := by rw [oo_eq (by omega) (by omega)]; exact e
      rw [e3, x_299_9]
      simp (disch := first | omega | decide | exact ko_b _ | assumption | (simp only [t_si, t_sl, t_sr, t_sI, t_sR, n_si, n_sl, n_sr, n_sI, n_sR, r_si, r_sl, r_sI]; first | done | omega)) only [x_299_e, x_299_b, x_299_10, x_299_11, x_299_12, x_299_15, x_299_16, x_299_17, x_299_18, x_299_19, x_299_20, x_299_21, x_299_24, x_299_25, bk_v, bk_n, nl_I, nl_R, nl_L, nl_0, oo_lt, oo_le, oo_eq, oo_add, oo_sub, oo_tn, oo_ir, nn_leT, nn_leF, nn_ltT, nn_ltF, nn_eqT, nn_eqF, bv_0, bv_1, ko_b, ko_1, ko_0, true_and, and_true, if_true, if_false, not_true_eq_false, not_false_eq_true, oo_02, decide_eq_true_eq, decide_eq_false_iff_not, ite_not, Nat.reduceAdd, Nat.reduceLT, Nat.reduceSub, Nat.reduceLeDiff, reduceIte, Bool.true_eq_false, Bool.false_eq_true, reduceCtorEq, eq_self, decide_true, decide_false, bv_t, bv_f, and_self, t_si, t_sl, t_sr, t_sI, t_sR, n_si, n_sl, n_sr, n_sI, n_sR, r_si, r_sl, r_sI, d5, s5, e1, e2, e4]
theorem qq_s (hq : 1000 ≤ q) (h0 : q0 < 200) : q_q (some q) (some q0) = true ∧ ¬ (some q : Option Nat) = some q0 := by
  refine ⟨?_, fun z => by cases z; omega⟩
  unfold q_q q_k
  simp only [Bool.and_eq_true, decide_eq_true_eq]
  omega
theorem c_eq {d : Nat} {Q : Q_} (hd : Sd_ w q p n c) (hs : Sc_ w q0 p0 s) (ha : As_ s) (h0 : q0 < 200) : cl (d + 1) 347 [v_R (some q), v_R (some q0)] w Q = Q (Sum.inl (some (v_I (b_v (eq_s n c s))))) w := by
  have L := fun hn Q => c_eql (d := d) (Q := Q) hd hs ha hn s.length 0 (by omega)
  have hL := ha.1
  obtain ⟨d1, d2, d3, d4, d5, d6, d7, d8, d9⟩ := hd
  obtain ⟨s1, s2, s3, s4, s5, s6⟩ := hs
  obtain ⟨z1, z2⟩ := qq_s d9 h0
  unfold eq_s
  by_cases e : n = s.length
  · have L := L e
    have e3 : decide (∀ k, k < s.length → c k = s.getD k 0) = decide (∀ j, j < s.length → 0 ≤ j → c j = s.getD j 0) := decide_eq_decide.mpr ⟨fun z j h2 _ => z j h2, fun z j h2 => z j h2 (Nat.zero_le _)⟩
    rw [decide_eq_true e, Bool.true_and, e3]
    cases hb : decide (∀ j, j < s.length → 0 ≤ j → c j = s.getD j 0) with
    | true =>
      rw [hb] at L
      simp (disch := first | omega | decide | exact ko_b _ | assumption | (simp only [t_si, t_sl, t_sr, t_sI, t_sR, n_si, n_sl, n_sr, n_sI, n_sR, r_si, r_sl, r_sI]; first | done | omega)) only [x_347_e, x_347_b, x_347_0, x_347_1, x_347_2, x_347_5, x_347_6, x_347_7, x_347_8, x_347_11, x_347_14, x_347_15, x_347_18, x_347_19, x_347_22, x_347_25, x_347_26, x_347_29, x_347_30, x_347_33, x_347_36, x_347_37, x_347_40, x_347_41, x_347_44, x_347_47, x_347_50, x_347_51, x_347_54, x_347_55, x_299_e, x_299_b, x_299_0, x_299_1, x_299_2, x_299_3, x_299_4, x_299_7, x_299_8, bk_v, bk_n, nl_I, nl_R, nl_L, nl_0, oo_lt, oo_le, oo_eq, oo_add, oo_sub, oo_tn, oo_ir, nn_leT, nn_leF, nn_ltT, nn_ltF, nn_eqT, nn_eqF, bv_0, bv_1, ko_b, ko_1, ko_0, true_and, and_true, if_true, if_false, not_true_eq_false, not_false_eq_true, oo_02, decide_eq_true_eq, decide_eq_false_iff_not, ite_not, Nat.reduceAdd, Nat.reduceLT, Nat.reduceSub, Nat.reduceLeDiff, reduceIte, Bool.true_eq_false, Bool.false_eq_true, reduceCtorEq, eq_self, decide_true, decide_false, bv_t, bv_f, and_self, t_si, t_sl, t_sr, t_sI, t_sR, n_si, n_sl, n_sr, n_sI, n_sR, r_si, r_sl, r_sI, z2, d2, d3, d5, s2, s3, s5, e, L]
    | false =>
      rw [hb] at L
      simp (disch := first | omega | decide | exact ko_b _ | assumption | (simp only [t_si, t_sl, t_sr, t_sI, t_sR, n_si, n_sl, n_sr, n_sI, n_sR, r_si, r_sl, r_sI]; first | done | omega)) only [x_347_e, x_347_b, x_347_0, x_347_1, x_347_2, x_347_5, x_347_6, x_347_7, x_347_8, x_347_11, x_347_14, x_347_15, x_347_18, x_347_19, x_347_22, x_347_25, x_347_26, x_347_29, x_347_30, x_347_33, x_347_36, x_347_37, x_347_40, x_347_41, x_347_44, x_347_47, x_347_50, x_347_51, x_347_54, x_347_55, x_299_e, x_299_b, x_299_0, x_299_1, x_299_2, x_299_3, x_299_4, x_299_7, x_299_8, bk_v, bk_n, nl_I, nl_R, nl_L, nl_0, oo_lt, oo_le, oo_eq, oo_add, oo_sub, oo_tn, oo_ir, nn_leT, nn_leF, nn_ltT, nn_ltF, nn_eqT, nn_eqF, bv_0, bv_1, ko_b, ko_1, ko_0, true_and, and_true, if_true, if_false, not_true_eq_false, not_false_eq_true, oo_02, decide_eq_true_eq, decide_eq_false_iff_not, ite_not, Nat.reduceAdd, Nat.reduceLT, Nat.reduceSub, Nat.reduceLeDiff, reduceIte, Bool.true_eq_false, Bool.false_eq_true, reduceCtorEq, eq_self, decide_true, decide_false, bv_t, bv_f, and_self, t_si, t_sl, t_sr, t_sI, t_sR, n_si, n_sl, n_sr, n_sI, n_sR, r_si, r_sl, r_sI, z2, d2, d3, d5, s2, s3, s5, e, L]
  · rw [decide_eq_false e, Bool.false_and]
    simp (disch := first | omega | decide | exact ko_b _ | assumption | (simp only [t_si, t_sl, t_sr, t_sI, t_sR, n_si, n_sl, n_sr, n_sI, n_sR, r_si, r_sl, r_sI]; first | done | omega)) only [x_347_e, x_347_b, x_347_0, x_347_1, x_347_2, x_347_5, x_347_6, x_347_7, x_347_8, x_347_11, x_347_14, x_347_15, x_347_18, x_347_19, x_347_22, x_347_25, x_347_26, x_347_29, x_347_30, x_347_33, x_347_36, x_347_37, x_347_40, x_347_41, x_347_44, x_347_47, x_347_50, x_347_51, x_347_54, x_347_55, x_299_e, x_299_b, x_299_0, x_299_1, x_299_2, x_299_3, x_299_4, x_299_7, x_299_8, x_299_e, x_299_b, x_299_34, x_299_35, bk_v, bk_n, nl_I, nl_R, nl_L, nl_0, oo_lt, oo_le, oo_eq, oo_add, oo_sub, oo_tn, oo_ir, nn_leT, nn_leF, nn_ltT, nn_ltF, nn_eqT, nn_eqF, bv_0, bv_1, ko_b, ko_1, ko_0, true_and, and_true, if_true, if_false, not_true_eq_false, not_false_eq_true, oo_02, decide_eq_true_eq, decide_eq_false_iff_not, ite_not, Nat.reduceAdd, Nat.reduceLT, Nat.reduceSub, Nat.reduceLeDiff, reduceIte, Bool.true_eq_false, Bool.false_eq_true, reduceCtorEq, eq_self, decide_true, decide_false, bv_t, bv_f, and_self, t_si, t_sl, t_sr, t_sI, t_sR, n_si, n_sl, n_sr, n_sI, n_sR, r_si, r_sl, r_sI, z2, d2, d3, d5, s2, s3, s5, e]
/-! building -/
theorem bl_le : ∀ j : Fin 9, Int32.ofNat (j.val + 1) - Int32.ofNat 9 ≤ Int32.ofNat 0 := by decide
def Sb_ (w : Wd) (B V j : Nat) : Prop := w_t w B = 37 ∧ w_r w B 0 = some V ∧ w_i w B 1 = Int32.ofNat 0 ∧ w_i w B 3 = Int32.ofNat j ∧ w_t w V = 2 ∧ w_n w V = 9
theorem c_app {B V j x d : Nat} {Q : Q_} (h : Sb_ w B V j) (hj : j < 9) (hx : x < 128) : cl (d + 3) 336 [v_R (some B), v_I (Int32.ofNat x)] w Q = Q (Sum.inl (some (v_R (some B)))) (s_i (s_i w B 3 (Int32.ofNat (j + 1))) V j (Int32.ofNat x)) := by
  obtain ⟨h1, h2, h3, h4, h5, h6⟩ := h
  have e9 := bl_le ⟨j, hj⟩
  have e9 : Int32.ofNat (j + 1) - Int32.ofNat 9 ≤ Int32.ofNat 0 := e9
  obtain ⟨b1, b2⟩ := ch_i2b ⟨x, hx⟩
  have b1 : (Int32.ofNat x).toInt8.toInt32 = Int32.ofNat x := b1
  have b2 : vp_nar .byte (Int32.ofNat x) = Int32.ofNat x := b2
  simp (disch := first | omega | decide | exact ko_b _ | assumption | (simp only [t_si, t_sl, t_sr, t_sI, t_sR, n_si, n_sl, n_sr, n_sI, n_sR, r_si, r_sl, r_sI]; first | done | omega)) only [x_336_e, x_336_b, x_336_0, x_336_1, x_336_2, x_336_5, x_336_6, x_336_7, x_329_e, x_329_b, x_329_0, x_329_1, x_329_2, x_329_5, x_329_6, x_329_7, x_329_10, x_329_11, x_329_14, x_329_17, x_329_18, x_329_21, x_329_24, x_329_25, x_329_28, x_329_29, x_329_30, x_329_33, x_329_34, x_329_35, x_329_36, x_329_39, x_329_40, x_329_41, x_329_42, x_329_45, x_329_46, x_329_49, x_329_52, x_329_53, x_329_56, x_329_57, x_329_60, x_329_61, x_329_62, x_329_65, x_329_66, x_329_67, x_329_68, x_329_71, x_329_75, x_329_76, x_320_e, x_320_b, x_320_0, x_320_1, x_320_4, x_320_5, x_320_6, x_320_9, x_320_10, x_320_11, x_320_12, x_320_13, x_320_14, x_320_17, x_320_18, x_320_19, x_320_22, x_320_23, x_320_24, x_320_27, x_320_28, x_320_31, x_320_32, x_320_35, x_320_38, x_322_e, x_322_b, x_322_0, x_322_3, x_322_6, x_322_7, x_322_10, x_322_13, x_322_14, x_322_17, x_322_18, x_297_e, x_297_b, x_297_0, x_297_1, x_297_4, x_297_7, x_297_8, x_297_11, x_297_12, bk_v, bk_n, nl_I, nl_R, nl_L, nl_0, oo_lt, oo_le, oo_eq, oo_add, oo_sub, oo_tn, oo_ir, nn_leT, nn_leF, nn_ltT, nn_ltF, nn_eqT, nn_eqF, bv_0, bv_1, ko_b, ko_1, ko_0, true_and, and_true, if_true, if_false, not_true_eq_false, not_false_eq_true, oo_02, decide_eq_true_eq, decide_eq_false_iff_not, ite_not, Nat.reduceAdd, Nat.reduceLT, Nat.reduceSub, Nat.reduceLeDiff, reduceIte, Bool.true_eq_false, Bool.false_eq_true, reduceCtorEq, eq_self, decide_true, decide_false, bv_t, bv_f, and_self, t_si, t_sl, t_sr, t_sI, t_sR, n_si, n_sl, n_sr, n_sI, n_sR, r_si, r_sl, r_sI, h2, h3, h4, h6, sr_0, e9, b1, b2, i_si, Nat.reduceEqDiff, and_false]
theorem c_cor {V m q d : Nat} (hz : w_z w = q) (tV : w_t w V = 2) (nV : w_n w V = 9) (hm : m ≤ 9) (hV : V < q) : ∃ w1, (Kp_ (fun a => a < q) w w1 ∧ w_z w1 = q + 1 ∧ w_s w1 ≤ w_s w + 9 ∧ w_t w1 q = 2 ∧ w_n w1 q = m ∧ ∀ k, k < m → w_i w1 q k = w_i w V k) ∧ ∀ Q, cl (d + 2) 289 [v_R (some V), v_I (Int32.ofNat 0), v_I (Int32.ofNat m)] w Q = Q (Sum.inl (some (v_R (some q)))) w1 := by
  by_cases e : m = 9
  · subst e
    have t3 : w_t (s_I (s_n w 2 9) q (w_i w V)) q = 2 := by rw [t_sI, t_sn, if_pos hz.symm]
    refine ⟨s_I (s_n w 2 9) q (w_i w V), ⟨fun b hb => ?_, ?_, ?_, t3, ?_, fun k hk => ?_⟩, fun Q => ?_⟩
    · have e : ¬ b = w_z w := by omega
      exact ⟨by rw [t_sI, t_sn, if_neg e], by rw [n_sI, n_sn, if_neg e], fun k => by rw [i_sI, if_neg (by omega), i_sn, if_neg e], fun k => by rw [r_sI, r_sn, if_neg e], fun k => by rw [l_sI, l_sn, if_neg e]⟩
    · rw [z_sI, z_sn, hz]
    · rw [s_sI, s_sn]; omega
    · rw [n_sI, n_sn, if_pos hz.symm]
    · rw [i_sI, if_pos rfl]
    · simp (disch := first | omega | decide | exact ko_b _ | assumption | (simp only [t_si, t_sl, t_sr, t_sI, t_sR, n_si, n_sl, n_sr, n_sI, n_sR, r_si, r_sl, r_sI]; first | done | omega)) only [x_289_e, x_289_b, x_289_0, x_289_1, x_289_4, x_289_5, x_289_6, x_289_7, x_289_10, x_289_11, x_289_12, x_289_13, x_289_16, x_289_17, x_289_18, x_289_21, x_289_24, bk_v, bk_n, nl_I, nl_R, nl_L, nl_0, oo_lt, oo_le, oo_eq, oo_add, oo_sub, oo_tn, oo_ir, nn_leT, nn_leF, nn_ltT, nn_ltF, nn_eqT, nn_eqF, bv_0, bv_1, ko_b, ko_1, ko_0, true_and, and_true, if_true, if_false, not_true_eq_false, not_false_eq_true, oo_02, decide_eq_true_eq, decide_eq_false_iff_not, ite_not, Nat.reduceAdd, Nat.reduceLT, Nat.reduceSub, Nat.reduceLeDiff, reduceIte, Bool.true_eq_false, Bool.false_eq_true, reduceCtorEq, eq_self, decide_true, decide_false, bv_t, bv_f, and_self, t_si, t_sl, t_sr, t_sI, t_sR, n_si, n_sl, n_sr, n_sI, n_sR, r_si, r_sl, r_sI, nV, hz]
  · have t1 : w_t (s_n w 2 m) V = 2 := by rw [t_sn, if_neg (by omega)]; exact tV
    have n1 : w_n (s_n w 2 m) V = 9 := by rw [n_sn, if_neg (by omega)]; exact nV
    have t2 : w_t (s_n w 2 m) q = 2 := by rw [t_sn, if_pos hz.symm]
    have n2 : w_n (s_n w 2 m) q = m := by rw [n_sn, if_pos hz.symm]
    have hcp : cp_k (s_n w 2 m) V q (Int32.ofNat 0) (Int32.ofNat 0) (Int32.ofNat m) := oo_cp (by omega) (by omega) (by omega) (by omega) (by omega)
    refine ⟨s_I (s_n w 2 m) q (va_cpy (w_i (s_n w 2 m) V) (w_i (s_n w 2 m) q) 0 0 m), ⟨fun b hb => ?_, ?_, ?_, ?_, ?_, fun k hk => ?_⟩, fun Q => ?_⟩
    · have e : ¬ b = w_z w := by omega
      exact ⟨by rw [t_sI, t_sn, if_neg e], by rw [n_sI, n_sn, if_neg e], fun k => by rw [i_sI, if_neg (by omega), i_sn, if_neg e], fun k => by rw [r_sI, r_sn, if_neg e], fun k => by rw [l_sI, l_sn, if_neg e]⟩
    · rw [z_sI, z_sn, hz]
    · rw [s_sI, s_sn]; omega
    · rw [t_sI]; exact t2
    · rw [n_sI]; exact n2
    · rw [i_sI, if_pos rfl]
      have g : va_cpy (w_i (s_n w 2 m) V) (w_i (s_n w 2 m) q) 0 0 m k = w_i (s_n w 2 m) V k := by
        unfold va_cpy
        rw [if_pos (by omega)]
        rw [show 0 + (k - 0) = k by omega]
      rw [g, i_sn, if_neg (by omega)]
    · simp (disch := first | omega | decide | exact ko_b _ | assumption | (simp only [t_si, t_sl, t_sr, t_sI, t_sR, n_si, n_sl, n_sr, n_sI, n_sR, r_si, r_sl, r_sI]; first | done | omega)) only [x_289_e, x_289_b, x_289_0, x_289_1, x_289_4, x_289_5, x_289_6, x_289_7, x_289_10, x_289_11, x_289_12, x_289_13, x_289_16, x_289_17, x_289_18, x_289_21, x_289_24, x_290_e, x_290_b, x_290_0, x_290_1, x_290_2, x_290_5, x_290_6, x_290_7, x_290_8, x_290_9, x_290_10, x_290_12, x_290_14, x_290_15, x_290_16, x_290_18, x_290_19, x_290_20, x_290_21, x_290_22, x_290_23, x_290_24, x_290_27, x_290_30, x_290_32, x_291_e, x_291_b, x_291_0, x_291_1, x_291_2, x_291_8, x_291_9, x_291_12, x_291_13, x_291_16, x_291_17, x_291_20, x_291_23, x_291_26, x_291_27, x_291_30, x_291_36, x_291_37, bk_v, bk_n, nl_I, nl_R, nl_L, nl_0, oo_lt, oo_le, oo_eq, oo_add, oo_sub, oo_tn, oo_ir, nn_leT, nn_leF, nn_ltT, nn_ltF, nn_eqT, nn_eqF, bv_0, bv_1, ko_b, ko_1, ko_0, true_and, and_true, if_true, if_false, not_true_eq_false, not_false_eq_true, oo_02, decide_eq_true_eq, decide_eq_false_iff_not, ite_not, Nat.reduceAdd, Nat.reduceLT, Nat.reduceSub, Nat.reduceLeDiff, reduceIte, Bool.true_eq_false, Bool.false_eq_true, reduceCtorEq, eq_self, decide_true, decide_false, bv_t, bv_f, and_self, t_si, t_sl, t_sr, t_sI, t_sR, n_si, n_sl, n_sr, n_sI, n_sR, r_si, r_sl, r_sI, nV, n1, hz, e, hcp, Nat.sub_zero]
theorem c_tos {B V m q d : Nat} (hz : w_z w = q) (h : Sb_ w B V m) (hm : m ≤ 9) (hB : B < q) (hV : V < q) : ∃ w1, (Kp_ (fun a => a < q) w w1 ∧ w_z w1 = q + 2 ∧ w_s w1 ≤ w_s w + 13 ∧ w_t w1 q = 38 ∧ w_r w1 q 0 = some (q + 1) ∧ w_i w1 q 1 = Int32.ofNat 0 ∧ w_t w1 (q + 1) = 2 ∧ w_n w1 (q + 1) = m ∧ ∀ k, k < m → w_i w1 (q + 1) k = w_i w V k) ∧ ∀ Q, cl (d + 5) 333 [v_R (some B)] w Q = Q (Sum.inl (some (v_R (some q)))) w1 := by
  obtain ⟨h1, h2, h3, h4, h5, h6⟩ := h
  obtain ⟨u1, hu1⟩ : ∃ u, u = s_n w 38 4 := ⟨_, rfl⟩
  have z1 : w_z u1 = q + 1 := by rw [hu1, z_sn, hz]
  have g1 : ∀ b, b < q → w_t u1 b = w_t w b ∧ w_n u1 b = w_n w b ∧ (∀ k, w_i u1 b k = w_i w b k) ∧ (∀ k, w_r u1 b k = w_r w b k) ∧ ∀ k, w_l u1 b k = w_l w b k := fun b hb => by
    have e : ¬ b = w_z w := by omega
    rw [hu1]
    exact ⟨by rw [t_sn, if_neg e], by rw [n_sn, if_neg e], fun k => by rw [i_sn, if_neg e], fun k => by rw [r_sn, if_neg e], fun k => by rw [l_sn, if_neg e]⟩
  have tq : w_t u1 q = 38 := by rw [hu1, t_sn, if_pos hz.symm]
  have b1 : w_t u1 B = 37 := (g1 B hB).1.trans h1
  have b2 : w_r u1 B 0 = some V := ((g1 B hB).2.2.2.1 0).trans h2
  have b3 : w_i u1 B 1 = Int32.ofNat 0 := ((g1 B hB).2.2.1 1).trans h3
  have b4 : w_i u1 B 3 = Int32.ofNat m := ((g1 B hB).2.2.1 3).trans h4
  obtain ⟨u3, ⟨k3, z3, s3, t3, n3, i3⟩, q3⟩ := c_cor (w := s_i u1 q 1 (Int32.ofNat 0)) (V := V) (m := m) (q := q + 1) (d := d) z1 ((g1 V hV).1.trans h5) ((g1 V hV).2.1.trans h6) hm (by omega)
  have tq3 : w_t u3 q = 38 := (k3 q (by omega)).1.trans tq
  have k4 := ko_4
  refine ⟨s_r u3 q 0 (some (q + 1)), ⟨fun b hb => ?_, ?_, ?_, tq3, ?_, ?_, t3, n3, fun k hk => ?_⟩, fun Q => ?_⟩
  · obtain ⟨a1, a2, a3, a4, a5⟩ := k3 b (by omega)
    obtain ⟨c1, c2, c3, c4, c5⟩ := g1 b hb
    exact ⟨a1.trans c1, a2.trans c2, fun k => (a3 k).trans ((by rw [i_si, if_neg (by omega)] : w_i (s_i u1 q 1 (Int32.ofNat 0)) b k = w_i u1 b k).trans (c3 k)), fun k => by rw [r_sr, if_neg (by omega)]; exact (a4 k).trans (c4 k), fun k => (a5 k).trans (c5 k)⟩
  · rw [z_sr, z3]
  · have e : w_s (s_i u1 q 1 (Int32.ofNat 0)) = w_s w + 4 := by rw [s_si, hu1, s_sn]
    rw [s_sr]; omega
  · rw [r_sr, if_pos ⟨rfl, rfl⟩]
  · rw [i_sr, (k3 q (by omega)).2.2.1, i_si, if_pos ⟨rfl, rfl⟩]
  · rw [i_sr, i3 k hk, i_si, if_neg (by omega)]; exact (g1 V hV).2.2.1 k
  · have tw : 37 = w_t w B := h1.symm
    simp (disch := first | omega | decide | exact ko_b _ | assumption | (simp only [t_si, t_sl, t_sr, t_sI, t_sR, n_si, n_sl, n_sr, n_sI, n_sR, r_si, r_sl, r_sI]; first | done | omega)) only [x_333_e, x_333_b, x_333_0, bk_v, bk_n, nl_I, nl_R, nl_L, nl_0, oo_lt, oo_le, oo_eq, oo_add, oo_sub, oo_tn, oo_ir, nn_leT, nn_leF, nn_ltT, nn_ltF, nn_eqT, nn_eqF, bv_0, bv_1, ko_b, ko_1, ko_0, true_and, and_true, if_true, if_false, not_true_eq_false, not_false_eq_true, oo_02, decide_eq_true_eq, decide_eq_false_iff_not, ite_not, Nat.reduceAdd, Nat.reduceLT, Nat.reduceSub, Nat.reduceLeDiff, reduceIte, Bool.true_eq_false, Bool.false_eq_true, reduceCtorEq, eq_self, decide_true, decide_false, bv_t, bv_f, and_self, t_si, t_sl, t_sr, t_sI, t_sR, n_si, n_sl, n_sr, n_sI, n_sR, r_si, r_sl, r_sI, hz]
    rw [← hu1]
    simp (disch := first | omega | decide | exact ko_b _ | assumption | (simp only [t_si, t_sl, t_sr, t_sI, t_sR, n_si, n_sl, n_sr, n_sI, n_sR, r_si, r_sl, r_sI]; first | done | omega)) only [x_333_e, x_333_b, x_333_3, x_333_4, x_333_5, x_333_8, x_342_e, x_342_b, x_342_0, x_342_1, x_342_2, x_342_3, x_342_6, x_343_e, x_343_b, x_343_0, x_343_1, x_343_4, x_343_5, x_343_8, x_343_9, x_343_10, x_343_13, x_343_15, x_343_16, x_343_19, x_343_22, x_343_23, x_343_24, x_343_27, x_343_28, x_343_29, x_343_30, x_343_32, x_343_35, x_343_38, x_343_41, x_343_44, x_343_47, x_343_48, x_343_51, x_343_54, x_343_55, x_343_56, x_343_57, x_343_62, x_343_65, x_343_66, x_343_67, x_343_70, x_343_75, x_343_78, x_343_79, x_343_80, x_343_81, x_343_84, x_343_85, x_343_86, x_343_87, x_343_89, x_343_90, x_343_91, x_343_94, x_343_97, x_327_e, x_327_b, x_327_0, x_327_1, x_327_4, x_334_e, x_334_b, x_334_0, x_334_1, x_334_4, x_328_e, x_328_b, x_328_0, x_328_1, x_328_4, x_322_e, x_322_b, x_322_0, x_322_3, x_322_6, x_322_7, x_322_10, x_322_13, x_322_14, x_322_17, x_322_18, bk_v, bk_n, nl_I, nl_R, nl_L, nl_0, oo_lt, oo_le, oo_eq, oo_add, oo_sub, oo_tn, oo_ir, nn_leT, nn_leF, nn_ltT, nn_ltF, nn_eqT, nn_eqF, bv_0, bv_1, ko_b, ko_1, ko_0, true_and, and_true, if_true, if_false, not_true_eq_false, not_false_eq_true, oo_02, decide_eq_true_eq, decide_eq_false_iff_not, ite_not, Nat.reduceAdd, Nat.reduceLT, Nat.reduceSub, Nat.reduceLeDiff, reduceIte, Bool.true_eq_false, Bool.false_eq_true, reduceCtorEq, eq_self, decide_true, decide_false, bv_t, bv_f, and_self, t_si, t_sl, t_sr, t_sI, t_sR, n_si, n_sl, n_sr, n_sI, n_sR, r_si, r_sl, r_sI, b2, b3, b4, q3]
theorem c_vch {x q d : Nat} (hz : w_z w = q) (hx : x < 128) : ∃ w1, (Kp_ (fun a => a < q) w w1 ∧ w_z w1 = q + 2 ∧ w_s w1 = w_s w + 5 ∧ w_t w1 q = 38 ∧ w_r w1 q 0 = some (q + 1) ∧ w_i w1 q 1 = Int32.ofNat 0 ∧ w_t w1 (q + 1) = 2 ∧ w_n w1 (q + 1) = 1 ∧ w_i w1 (q + 1) 0 = Int32.ofNat x) ∧ ∀ Q, cl (d + 2) 345 [v_I (Int32.ofNat x)] w Q = Q (Sum.inl (some (v_R (some q)))) w1 := by
  obtain ⟨b1, b2⟩ := ch_i2b ⟨x, hx⟩
  have b1 : (Int32.ofNat x).toInt8.toInt32 = Int32.ofNat x := b1
  have b2 : vp_nar .byte (Int32.ofNat x) = Int32.ofNat x := b2
  have k4 := ko_4
  obtain ⟨u1, hu1⟩ : ∃ u, u = s_n w 38 4 := ⟨_, rfl⟩
  have z1 : w_z u1 = q + 1 := by rw [hu1, z_sn, hz]
  have g1 : ∀ b, b < q → w_t u1 b = w_t w b ∧ w_n u1 b = w_n w b ∧ (∀ k, w_i u1 b k = w_i w b k) ∧ (∀ k, w_r u1 b k = w_r w b k) ∧ ∀ k, w_l u1 b k = w_l w b k := fun b hb => by
    have e : ¬ b = w_z w := by omega
    rw [hu1]
    exact ⟨by rw [t_sn, if_neg e], by rw [n_sn, if_neg e], fun k => by rw [i_sn, if_neg e], fun k => by rw [r_sn, if_neg e], fun k => by rw [l_sn, if_neg e]⟩
  have tq : w_t u1 q = 38 := by rw [hu1, t_sn, if_pos hz.symm]
  obtain ⟨u2, hu2⟩ : ∃ u, u = s_n u1 2 1 := ⟨_, rfl⟩
  have z2 : w_z u2 = q + 2 := by rw [hu2, z_sn, z1]
  have g2 : ∀ b, b < q + 1 → w_t u2 b = w_t u1 b ∧ w_n u2 b = w_n u1 b ∧ (∀ k, w_i u2 b k = w_i u1 b k) ∧ (∀ k, w_r u2 b k = w_r u1 b k) ∧ ∀ k, w_l u2 b k = w_l u1 b k := fun b hb => by
    have e : ¬ b = w_z u1 := by omega
    rw [hu2]
    exact ⟨by rw [t_sn, if_neg e], by rw [n_sn, if_neg e], fun k => by rw [i_sn, if_neg e], fun k => by rw [r_sn, if_neg e], fun k => by rw [l_sn, if_neg e]⟩
  have tp : w_t u2 (q + 1) = 2 := by rw [hu2, t_sn, if_pos z1.symm]
  have np : w_n u2 (q + 1) = 1 := by rw [hu2, n_sn, if_pos z1.symm]
  have tq2 : w_t u2 q = 38 := (g2 q (by omega)).1.trans tq
  have L : ∀ d Q, cl d 298 [v_I (Int32.ofNat x)] u1 Q = Q (Sum.inl (some (v_R (some (q + 1))))) (s_i u2 (q + 1) 0 (Int32.ofNat x)) := fun d Q => by
    simp (disch := first | omega | decide | exact ko_b _ | assumption | (simp only [t_si, t_sl, t_sr, t_sI, t_sR, n_si, n_sl, n_sr, n_sI, n_sR, r_si, r_sl, r_sI]; first | done | omega)) only [x_298_e, x_298_b, x_298_0, x_298_1, bk_v, bk_n, nl_I, nl_R, nl_L, nl_0, oo_lt, oo_le, oo_eq, oo_add, oo_sub, oo_tn, oo_ir, nn_leT, nn_leF, nn_ltT, nn_ltF, nn_eqT, nn_eqF, bv_0, bv_1, ko_b, ko_1, ko_0, true_and, and_true, if_true, if_false, not_true_eq_false, not_false_eq_true, oo_02, decide_eq_true_eq, decide_eq_false_iff_not, ite_not, Nat.reduceAdd, Nat.reduceLT, Nat.reduceSub, Nat.reduceLeDiff, reduceIte, Bool.true_eq_false, Bool.false_eq_true, reduceCtorEq, eq_self, decide_true, decide_false, bv_t, bv_f, and_self, t_si, t_sl, t_sr, t_sI, t_sR, n_si, n_sl, n_sr, n_sI, n_sR, r_si, r_sl, r_sI, z1]
    rw [← hu2]
    simp (disch := first | omega | decide | exact ko_b _ | assumption | (simp only [t_si, t_sl, t_sr, t_sI, t_sR, n_si, n_sl, n_sr, n_sI, n_sR, r_si, r_sl, r_sI]; first | done | omega)) only [x_298_e, x_298_b, x_298_3, x_298_4, x_298_5, x_298_6, x_298_7, x_298_8, bk_v, bk_n, nl_I, nl_R, nl_L, nl_0, oo_lt, oo_le, oo_eq, oo_add, oo_sub, oo_tn, oo_ir, nn_leT, nn_leF, nn_ltT, nn_ltF, nn_eqT, nn_eqF, bv_0, bv_1, ko_b, ko_1, ko_0, true_and, and_true, if_true, if_false, not_true_eq_false, not_false_eq_true, oo_02, decide_eq_true_eq, decide_eq_false_iff_not, ite_not, Nat.reduceAdd, Nat.reduceLT, Nat.reduceSub, Nat.reduceLeDiff, reduceIte, Bool.true_eq_false, Bool.false_eq_true, reduceCtorEq, eq_self, decide_true, decide_false, bv_t, bv_f, and_self, t_si, t_sl, t_sr, t_sI, t_sR, n_si, n_sl, n_sr, n_sI, n_sR, r_si, r_sl, r_sI, np, b1, b2]
  refine ⟨s_i (s_r (s_i u2 (q + 1) 0 (Int32.ofNat x)) q 0 (some (q + 1))) q 1 (Int32.ofNat 0), ⟨fun b hb => ?_, z2, ?_, tq2, ?_, ?_, tp, np, ?_⟩, fun Q => ?_⟩
  · obtain ⟨a1, a2, a3, a4, a5⟩ := g2 b (by omega)
    obtain ⟨c1, c2, c3, c4, c5⟩ := g1 b hb
    exact ⟨a1.trans c1, a2.trans c2, fun k => by rw [i_si, if_neg (by omega), i_sr, i_si, if_neg (by omega)]; exact (a3 k).trans (c3 k), fun k => by rw [r_si, r_sr, if_neg (by omega)]; exact (a4 k).trans (c4 k), fun k => (a5 k).trans (c5 k)⟩
  · show w_s u2 = _
    rw [hu2, s_sn, hu1, s_sn]
  · rw [r_si, r_sr, if_pos ⟨rfl, rfl⟩]
  · rw [i_si, if_pos ⟨rfl, rfl⟩]
  · rw [i_si, if_neg (by omega), i_sr, i_si, if_pos ⟨rfl, rfl⟩]
  · simp (disch := first | omega | decide | exact ko_b _ | assumption | (simp only [t_si, t_sl, t_sr, t_sI, t_sR, n_si, n_sl, n_sr, n_sI, n_sR, r_si, r_sl, r_sI]; first | done | omega)) only [x_345_e, x_345_b, x_345_0, x_345_3, x_345_6, x_345_7, x_345_10, x_345_13, x_297_e, x_297_b, x_297_0, x_297_1, x_297_4, x_297_7, x_297_8, x_297_11, x_297_12, bk_v, bk_n, nl_I, nl_R, nl_L, nl_0, oo_lt, oo_le, oo_eq, oo_add, oo_sub, oo_tn, oo_ir, nn_leT, nn_leF, nn_ltT, nn_ltF, nn_eqT, nn_eqF, bv_0, bv_1, ko_b, ko_1, ko_0, true_and, and_true, if_true, if_false, not_true_eq_false, not_false_eq_true, oo_02, decide_eq_true_eq, decide_eq_false_iff_not, ite_not, Nat.reduceAdd, Nat.reduceLT, Nat.reduceSub, Nat.reduceLeDiff, reduceIte, Bool.true_eq_false, Bool.false_eq_true, reduceCtorEq, eq_self, decide_true, decide_false, bv_t, bv_f, and_self, t_si, t_sl, t_sr, t_sI, t_sR, n_si, n_sl, n_sr, n_sI, n_sR, r_si, r_sl, r_sI, hz]
    rw [← hu1]
    simp (disch := first | omega | decide | exact ko_b _ | assumption | (simp only [t_si, t_sl, t_sr, t_sI, t_sR, n_si, n_sl, n_sr, n_sI, n_sR, r_si, r_sl, r_sI]; first | done | omega)) only [x_345_e, x_345_b, x_345_16, x_345_17, x_345_18, x_345_21, x_345_22, x_345_25, x_346_e, x_346_b, x_346_0, x_346_1, x_346_4, x_346_5, x_346_6, x_346_9, x_346_10, x_346_11, x_346_14, bk_v, bk_n, nl_I, nl_R, nl_L, nl_0, oo_lt, oo_le, oo_eq, oo_add, oo_sub, oo_tn, oo_ir, nn_leT, nn_leF, nn_ltT, nn_ltF, nn_eqT, nn_eqF, bv_0, bv_1, ko_b, ko_1, ko_0, true_and, and_true, if_true, if_false, not_true_eq_false, not_false_eq_true, oo_02, decide_eq_true_eq, decide_eq_false_iff_not, ite_not, Nat.reduceAdd, Nat.reduceLT, Nat.reduceSub, Nat.reduceLeDiff, reduceIte, Bool.true_eq_false, Bool.false_eq_true, reduceCtorEq, eq_self, decide_true, decide_false, bv_t, bv_f, and_self, t_si, t_sl, t_sr, t_sI, t_sR, n_si, n_sl, n_sr, n_sI, n_sR, r_si, r_sl, r_sI, L, and_false]
end
