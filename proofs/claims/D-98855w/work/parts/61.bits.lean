/-! BITS: how many a set has -/
set_option maxRecDepth 100000
def bt_n (s : Nat) : Nat := it_ (fun t v => if s.testBit t = true then v + 1 else v) 0 10 0
def bc_1 (x : Int32) : Int32 := x - ((x.toUInt32 >>> ((Int32.ofNat 1).toUInt32 &&& Int32.toUInt32 31)).toInt32 &&& Int32.ofNat 1431655765)
def bc_2 (x : Int32) : Int32 := (x &&& Int32.ofNat 858993459) + ((x.toUInt32 >>> ((Int32.ofNat 2).toUInt32 &&& Int32.toUInt32 31)).toInt32 &&& Int32.ofNat 858993459)
def bc_3 (x : Int32) : Int32 := (x + (x.toUInt32 >>> ((Int32.ofNat 4).toUInt32 &&& Int32.toUInt32 31)).toInt32) &&& Int32.ofNat 252645135
def bc_4 (x : Int32) : Int32 := x + (x.toUInt32 >>> ((Int32.ofNat 8).toUInt32 &&& Int32.toUInt32 31)).toInt32
def bc_5 (x : Int32) : Int32 := x + (x.toUInt32 >>> ((Int32.ofNat 16).toUInt32 &&& Int32.toUInt32 31)).toInt32
theorem bc_all : ∀ s : Fin 1024, bc_5 (bc_4 (bc_3 (bc_2 (bc_1 (Int32.ofNat s.val))))) &&& Int32.ofNat 63 = Int32.ofNat (bt_n s.val) := by decide +kernel
def kc_ : Nat → Nat → Option Nat
  | _, 0 => some 0
  | 0, _ + 1 => none
  | f + 1, v + 1 => (kc_ f ((v + 1) &&& v)).map (· + 1)
theorem kc_all : ∀ s : Fin 1024, kc_ 11 s.val = some (bt_n s.val) := by decide +kernel
section
variable {w : Wd}
theorem j_bits {d s : Nat} {Q : Q_} (hs : s < 1024) : cl d 303 [v_I (Int32.ofNat s)] w Q = Q (Sum.inl (some (v_I (Int32.ofNat (bt_n s))))) w := by
  rw [← bc_all ⟨s, hs⟩]
  unfold bc_5 bc_4 bc_3 bc_2 bc_1
  simp only [x_303_e, x_303_b, x_303_0, x_303_1, x_303_2, x_303_3, x_303_4, x_303_7, x_303_8, x_303_9, x_303_10, x_303_11, x_303_14, x_303_15, x_303_16, x_303_17, x_303_18, x_303_21, x_303_22, x_303_23, x_303_24, x_303_25, x_303_26, x_303_27, x_303_28, x_303_29, x_303_32, x_303_33, x_303_34, x_303_35, x_303_36, x_303_38, x_303_39, x_303_40, x_303_41, x_303_42, x_303_43, x_303_45, x_303_46, x_303_47, x_303_48, x_303_49, x_303_51, x_303_52, nl_I, nl_R, nl_0]
theorem m_bits {d s : Nat} {Q : Q_} (hs : s < 1024) : cl d 221 [v_I (Int32.ofNat s)] w Q = Q (Sum.inl (some (v_I (Int32.ofNat (bt_n s))))) w := by
  have key : ∀ (f v n r : Nat) (a0 : Option Vl), v < 1024 → kc_ f v = some r → wp d 221 4 [a0, some (v_I (Int32.ofNat n)), some (v_I (Int32.ofNat v))] [] w Q = Q (Sum.inl (some (v_I (Int32.ofNat (n + r))))) w := by
    intro f
    induction f with
    | zero =>
      intro v n r a0 hv h
      cases v with
      | zero =>
        cases h
        rw [x_221_4]
        simp (disch := first | omega | decide | exact ko_b _ | assumption | (simp only [t_si, t_sl, t_sr, t_sI, t_sR, n_si, n_sl, n_sr, n_sI, n_sR, r_si, r_sl, r_sI]; first | done | omega)) only [x_221_e, x_221_b, x_221_0, x_221_1, x_221_2, x_221_3, x_221_5, x_221_8, x_221_11, x_221_12, x_221_13, x_221_14, x_221_15, x_221_16, x_221_17, x_221_20, x_221_21, bk_v, bk_n, nl_I, nl_R, nl_L, nl_0, oo_lt, oo_le, oo_eq, oo_add, oo_sub, oo_tn, oo_ir, nn_leT, nn_leF, nn_ltT, nn_ltF, nn_eqT, nn_eqF, bv_0, bv_1, ko_b, ko_1, ko_0, true_and, and_true, if_true, if_false, not_true_eq_false, not_false_eq_true, oo_02, decide_eq_true_eq, decide_eq_false_iff_not, ite_not, Nat.reduceAdd, Nat.reduceLT, Nat.reduceSub, Nat.reduceLeDiff, reduceIte, Bool.true_eq_false, Bool.false_eq_true, reduceCtorEq, eq_self, decide_true, decide_false, bv_t, bv_f, and_self, t_si, t_sl, t_sr, t_sI, t_sR, n_si, n_sl, n_sr, n_sI, n_sR, r_si, r_sl, r_sI, Nat.add_zero]
      | succ v => cases h
    | succ f ih =>
      intro v n r a0 hv h
      cases v with
      | zero =>
        cases h
        rw [x_221_4]
        simp (disch := first | omega | decide | exact ko_b _ | assumption | (simp only [t_si, t_sl, t_sr, t_sI, t_sR, n_si, n_sl, n_sr, n_sI, n_sR, r_si, r_sl, r_sI]; first | done | omega)) only [x_221_e, x_221_b, x_221_0, x_221_1, x_221_2, x_221_3, x_221_5, x_221_8, x_221_11, x_221_12, x_221_13, x_221_14, x_221_15, x_221_16, x_221_17, x_221_20, x_221_21, bk_v, bk_n, nl_I, nl_R, nl_L, nl_0, oo_lt, oo_le, oo_eq, oo_add, oo_sub, oo_tn, oo_ir, nn_leT, nn_leF, nn_ltT, nn_ltF, nn_eqT, nn_eqF, bv_0, bv_1, ko_b, ko_1, ko_0, true_and, and_true, if_true, if_false, not_true_eq_false, not_false_eq_true, oo_02, decide_eq_true_eq, decide_eq_false_iff_not, ite_not, Nat.reduceAdd, Nat.reduceLT, Nat.reduceSub, Nat.reduceLeDiff, reduceIte, Bool.true_eq_false, Bool.false_eq_true, reduceCtorEq, eq_self, decide_true, decide_false, bv_t, bv_f, and_self, t_si, t_sl, t_sr, t_sI, t_sR, n_si, n_sl, n_sr, n_sI, n_sR, r_si, r_sl, r_sI, Nat.add_zero]
      | succ v =>
        unfold kc_ at h
        obtain ⟨r1, h1, h2⟩ := Option.map_eq_some_iff.mp h
        subst h2
        rw [show n + (r1 + 1) = n + 1 + r1 by omega, ← ih ((v + 1) &&& v) (n + 1) r1 (n_l a0) (Nat.lt_of_le_of_lt Nat.and_le_left hv) h1]
        rw [x_221_4]
        simp (disch := first | omega | decide | exact ko_b _ | assumption | (simp only [t_si, t_sl, t_sr, t_sI, t_sR, n_si, n_sl, n_sr, n_sI, n_sR, r_si, r_sl, r_sI]; first | done | omega)) only [x_221_e, x_221_b, x_221_0, x_221_1, x_221_2, x_221_3, x_221_5, x_221_8, x_221_11, x_221_12, x_221_13, x_221_14, x_221_15, x_221_16, x_221_17, x_221_20, x_221_21, bk_v, bk_n, nl_I, nl_R, nl_L, nl_0, oo_lt, oo_le, oo_eq, oo_add, oo_sub, oo_tn, oo_ir, nn_leT, nn_leF, nn_ltT, nn_ltF, nn_eqT, nn_eqF, bv_0, bv_1, ko_b, ko_1, ko_0, true_and, and_true, if_true, if_false, not_true_eq_false, not_false_eq_true, oo_02, decide_eq_true_eq, decide_eq_false_iff_not, ite_not, Nat.reduceAdd, Nat.reduceLT, Nat.reduceSub, Nat.reduceLeDiff, reduceIte, Bool.true_eq_false, Bool.false_eq_true, reduceCtorEq, eq_self, decide_true, decide_false, bv_t, bv_f, and_self, t_si, t_sl, t_sr, t_sI, t_sR, n_si, n_sl, n_sr, n_sI, n_sR, r_si, r_sl, r_sI, sb_a, Nat.add_sub_cancel]
  have h := key 11 s 0 (bt_n s) (some (v_I (Int32.ofNat s))) hs (kc_all ⟨s, hs⟩)
  rw [Nat.zero_add] at h
  rw [← h]
  simp (disch := first | omega | decide | exact ko_b _ | assumption | (simp only [t_si, t_sl, t_sr, t_sI, t_sR, n_si, n_sl, n_sr, n_sI, n_sR, r_si, r_sl, r_sI]; first | done | omega)) only [x_221_e, x_221_b, x_221_0, x_221_1, x_221_2, x_221_3, x_221_5, x_221_8, x_221_11, x_221_12, x_221_13, x_221_14, x_221_15, x_221_16, x_221_17, x_221_20, x_221_21, bk_v, bk_n, nl_I, nl_R, nl_L, nl_0, oo_lt, oo_le, oo_eq, oo_add, oo_sub, oo_tn, oo_ir, nn_leT, nn_leF, nn_ltT, nn_ltF, nn_eqT, nn_eqF, bv_0, bv_1, ko_b, ko_1, ko_0, true_and, and_true, if_true, if_false, not_true_eq_false, not_false_eq_true, oo_02, decide_eq_true_eq, decide_eq_false_iff_not, ite_not, Nat.reduceAdd, Nat.reduceLT, Nat.reduceSub, Nat.reduceLeDiff, reduceIte, Bool.true_eq_false, Bool.false_eq_true, reduceCtorEq, eq_self, decide_true, decide_false, bv_t, bv_f, and_self, t_si, t_sl, t_sr, t_sI, t_sR, n_si, n_sl, n_sr, n_sI, n_sR, r_si, r_sl, r_sI]
end
