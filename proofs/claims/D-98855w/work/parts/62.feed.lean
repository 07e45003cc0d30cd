/-! FEED: both halves -/
set_option maxRecDepth 100000
def w_b (v : Int32) (k : Nat) : Int32 := (v >>> (Int32.ofNat (24 - 8 * k) &&& 31)) &&& Int32.ofNat 255
def w_by (v : Int32) (k : Nat) : Nat := (w_b v k).toNatClampNeg
theorem by_of (y : Int32) : ∃ n, n < 256 ∧ y &&& Int32.ofNat 255 = Int32.ofNat n ∧ y.toInt8.toInt32 = sb_y n := by
  refine ⟨y.toBitVec.toNat &&& 255, ?_, ?_, ?_⟩
  · exact Nat.lt_of_le_of_lt Nat.and_le_right (by decide)
  · rw [← sb_a]
    congr 1
    exact Int32.toBitVec_inj.mp (by show _ = BitVec.ofNat 32 _; simp)
  · have h1 : y.toInt8 = (Int32.ofNat (y.toBitVec.toNat &&& 255)).toInt8 := by
      apply Int8.toBitVec_inj.mp
      rw [Int32.toBitVec_toInt8, Int32.toBitVec_toInt8]
      show y.toBitVec.signExtend 8 = (BitVec.ofNat 32 (y.toBitVec.toNat &&& 255)).signExtend 8
      apply BitVec.eq_of_getLsbD_eq
      intro i hi
      rw [BitVec.getLsbD_signExtend, BitVec.getLsbD_signExtend]
      simp only [hi, decide_true, Bool.true_and, show i < 32 by omega, if_true, BitVec.getLsbD_ofNat, Nat.testBit_and]
      rw [show (255 : Nat) = 2 ^ 8 - 1 by decide, Nat.testBit_two_pow_sub_one, decide_eq_true hi, Bool.and_true]
      rfl
    rw [h1]
    have h2 : y.toBitVec.toNat &&& 255 < 256 := Nat.lt_of_le_of_lt Nat.and_le_right (by decide)
    exact (by decide +kernel : ∀ n : Fin 256, (Int32.ofNat n.val).toInt8.toInt32 = sb_y n.val) ⟨_, h2⟩
theorem nar_b : ∀ n : Fin 256, vp_nar .byte (sb_y n.val) = sb_y n.val := by decide +kernel
theorem by_m (v : Int32) (k : Nat) : w_b v k = Int32.ofNat (w_by v k) ∧ w_by v k < 256 ∧ vp_nar .byte ((v >>> (Int32.ofNat (24 - 8 * k) &&& 31)).toInt8.toInt32) = sb_y (w_by v k) := by
  obtain ⟨n, h1, h2, h3⟩ := by_of (v >>> (Int32.ofNat (24 - 8 * k) &&& 31))
  have e : w_by v k = n := by
    unfold w_by w_b
    rw [h2, oo_tn (by omega)]
  refine ⟨?_, by omega, ?_⟩
  · rw [e]; exact h2
  · rw [e, h3]; exact nar_b ⟨n, h1⟩
theorem oo_rem {k m : Nat} (hk : k < 2147483648) (hm : m < 2147483648) : Int32.ofNat k - Int32.ofNat k / Int32.ofNat m * Int32.ofNat m = Int32.ofNat (k % m) := by
  rw [← Int32.ofNat_div hk hm, oo_mul, oo_sub (Nat.div_mul_le_self k m), Nat.mod_eq_sub_div_mul]
def wd_5 (a b c d e : Int32) (k : Nat) : Int32 := if k < 4 then a else if k < 8 then b else if k < 12 then c else if k < 16 then d else e
def s_feed (S : Sm) (a b c d e : Int32) : Sm := (sm_T S, sm_B S, sm_I S, fun j => if sm_n S ≤ j ∧ j < sm_n S + 20 then w_by (wd_5 a b c d e (j - sm_n S)) ((j - sm_n S) % 4) else sm_tp S j, sm_n S + 20, sm_f S)
def mz_ (a _k : Nat) : Prop := 1440 ≤ a ∧ a ≤ 1475
def MF_ (d t : Nat) (as : S_) (w : Wd) (r : Vl) (c : Nat) (S1 : Sm) : Prop := ∃ w1, Fr_ mz_ w w1 ∧ RM_ w1 S1 ∧ w_i w1 1440 3 = Int32.ofNat c ∧ ∀ Q, cl d t as w Q = Q (Sum.inl (some r)) w1
section
variable {w : Wd} {S : Sm} {G : Gm} {σ : Nat → Nat}
theorem m_feed_no (h9 : RM_ w S) (hV : WS_ S) {d : Nat} {a b c e f : Int32} (hn : 600 < sm_n S + 20) : MR_ d 151 [v_R (some 1440), v_I a, v_I b, v_I c, v_I e, v_I f] w (v_I (Int32.ofInt (-1))) 0 := by
  have h6 := hV.2.2.2.2.2.1
  refine mr_go (ls := [some (v_R (some 1440)), some (v_I a), some (v_I b), some (v_I c), some (v_I e), some (v_I f), none, none]) (fun Q => ?_) (fun w0 hf hc => mr_0 hc (fun Q => ?_))
  · have h := h9
    have hq := RM_MQ h hV
    have hMM := hq
    obtain ⟨hM, hT, hS, ⟨hn, hk4⟩, hW1, hW2, hW3⟩ := hMM
    unfold sh_M at hM
    unfold MT_ at hT
    unfold MS_ at hS
    have hB := h.2.2.1.2
    unfold PK_ at hB
    have hR := h.2.2.2
    simp (disch := first | omega | decide | exact ko_b _ | assumption | (simp only [t_si, t_sl, t_sr, t_sI, t_sR, n_si, n_sl, n_sr, n_sI, n_sR, r_si, r_sl, r_sI]; first | done | omega)) only [x_151_e, x_151_b, x_151_0, x_151_1, x_151_2, x_151_6, x_151_9, x_151_11, x_151_12, x_151_15, x_151_18, x_151_19, x_151_20, x_151_21, x_151_25, x_151_27, x_151_30, x_151_32, x_151_33, x_151_36, x_151_37, x_151_40, x_151_42, x_151_44, x_151_47, x_151_48, x_151_51, x_151_53, x_151_55, x_151_58, x_151_59, x_151_62, x_151_64, x_151_66, x_151_69, x_151_71, x_151_74, x_151_76, x_151_78, x_151_79, x_151_82, x_151_83, x_151_86, x_151_88, x_151_90, x_151_92, x_151_94, x_151_95, x_151_96, x_151_97, x_151_98, x_151_99, x_151_102, x_151_103, x_151_104, x_151_105, x_151_106, x_151_109, x_151_110, x_151_111, x_151_114, x_151_117, x_151_120, x_151_121, x_151_124, bk_v, bk_n, nl_I, nl_R, nl_L, nl_0, oo_lt, oo_le, oo_eq, oo_add, oo_sub, oo_tn, oo_ir, nn_leT, nn_leF, nn_ltT, nn_ltF, nn_eqT, nn_eqF, bv_0, bv_1, ko_b, ko_1, ko_0, true_and, and_true, if_true, if_false, not_true_eq_false, not_false_eq_true, oo_02, decide_eq_true_eq, decide_eq_false_iff_not, ite_not, Nat.reduceAdd, Nat.reduceLT, Nat.reduceSub, Nat.reduceLeDiff, reduceIte, Bool.true_eq_false, Bool.false_eq_true, reduceCtorEq, eq_self, decide_true, decide_false, bv_t, bv_f, and_self, t_si, t_sl, t_sr, t_sI, t_sR, n_si, n_sl, n_sr, n_sI, n_sR, r_si, r_sl, r_sI, hM, hT, hS, hB, hR]
  · have h := RM_fr h9 hV hf
    have hq := RM_MQ h hV
    have hMM := hq
    obtain ⟨hM, hT, hS, ⟨hn, hk4⟩, hW1, hW2, hW3⟩ := hMM
    unfold sh_M at hM
    unfold MT_ at hT
    unfold MS_ at hS
    have hB := h.2.2.1.2
    unfold PK_ at hB
    have hR := h.2.2.2
    simp (disch := first | omega | decide | exact ko_b _ | assumption | (simp only [t_si, t_sl, t_sr, t_sI, t_sR, n_si, n_sl, n_sr, n_sI, n_sR, r_si, r_sl, r_sI]; first | done | omega)) only [x_151_e, x_151_b, x_151_0, x_151_1, x_151_2, x_151_5, x_151_6, x_151_9, x_151_11, x_151_12, x_151_15, x_151_18, x_151_19, x_151_20, x_151_21, x_151_25, x_151_27, x_151_30, x_151_32, x_151_33, x_151_36, x_151_37, x_151_40, x_151_42, x_151_44, x_151_47, x_151_48, x_151_51, x_151_53, x_151_55, x_151_58, x_151_59, x_151_62, x_151_64, x_151_66, x_151_69, x_151_71, x_151_74, x_151_76, x_151_78, x_151_79, x_151_82, x_151_83, x_151_86, x_151_88, x_151_90, x_151_92, x_151_94, x_151_95, x_151_96, x_151_97, x_151_98, x_151_99, x_151_102, x_151_103, x_151_104, x_151_105, x_151_106, x_151_109, x_151_110, x_151_111, x_151_114, x_151_117, x_151_120, x_151_121, x_151_124, bk_v, bk_n, nl_I, nl_R, nl_L, nl_0, oo_lt, oo_le, oo_eq, oo_add, oo_sub, oo_tn, oo_ir, nn_leT, nn_leF, nn_ltT, nn_ltF, nn_eqT, nn_eqF, bv_0, bv_1, ko_b, ko_1, ko_0, true_and, and_true, if_true, if_false, not_true_eq_false, not_false_eq_true, oo_02, decide_eq_true_eq, decide_eq_false_iff_not, ite_not, Nat.reduceAdd, Nat.reduceLT, Nat.reduceSub, Nat.reduceLeDiff, reduceIte, Bool.true_eq_false, Bool.false_eq_true, reduceCtorEq, eq_self, decide_true, decide_false, bv_t, bv_f, and_self, t_si, t_sl, t_sr, t_sI, t_sR, n_si, n_sl, n_sr, n_sI, n_sR, r_si, r_sl, r_sI, hM, hT, hS, hB, hR]
theorem m_feed (h9 : RM_ w S) (hV : WS_ S) {d : Nat} {a b c e f : Int32} (hn : sm_n S + 20 ≤ 600) : MF_ d 151 [v_R (some 1440), v_I a, v_I b, v_I c, v_I e, v_I f] w (v_I (Int32.ofNat (sm_n S + 20))) 0 (s_feed S a b c e f) := by
  have h0 := RM_3 (x := Int32.ofNat 0) h9
  have hM := h0.1
  have t1 : w_t (s_i w 1440 3 (Int32.ofNat 0)) 1440 = 25 := hM.1
  have t2 : w_r (s_i w 1440 3 (Int32.ofNat 0)) 1440 12 = some 1452 ∧ w_t (s_i w 1440 3 (Int32.ofNat 0)) 1452 = 1 ∧ w_n (s_i w 1440 3 (Int32.ofNat 0)) 1452 = 600 := by unfold sh_M at hM; simp only [hM, and_self]
  have e13 : w_i (s_i w 1440 3 (Int32.ofNat 0)) 1440 13 = Int32.ofNat (sm_n S) := h0.2.2.2.2.2.2.1
  have etp := h0.2.2.2.2.2.1
  have c0 : w_i (s_i w 1440 3 (Int32.ofNat 0)) 1440 3 = Int32.ofNat 0 := by rw [i_si, if_pos ⟨rfl, rfl⟩]
  have t9 : w_t w 1440 = 25 := t1
  have hst : ∀ Q, cl d 151 [v_R (some 1440), v_I a, v_I b, v_I c, v_I e, v_I f] w Q = wp d 151 5 [some (v_R (some 1440)), some (v_I a), some (v_I b), some (v_I c), some (v_I e), some (v_I f), none, none] [] (s_i w 1440 3 (Int32.ofNat 0)) Q := fun Q => by
    simp (disch := first | omega | decide | exact ko_b _ | assumption | (simp only [t_si, t_sl, t_sr, t_sI, t_sR, n_si, n_sl, n_sr, n_sI, n_sR, r_si, r_sl, r_sI]; first | done | omega)) only [x_151_e, x_151_b, x_151_0, x_151_1, x_151_2, x_151_6, x_151_9, x_151_11, x_151_12, x_151_15, x_151_18, x_151_19, x_151_20, x_151_21, x_151_25, x_151_27, x_151_30, x_151_32, x_151_33, x_151_36, x_151_37, x_151_40, x_151_42, x_151_44, x_151_47, x_151_48, x_151_51, x_151_53, x_151_55, x_151_58, x_151_59, x_151_62, x_151_64, x_151_66, x_151_69, x_151_71, x_151_74, x_151_76, x_151_78, x_151_79, x_151_82, x_151_83, x_151_86, x_151_88, x_151_90, x_151_92, x_151_94, x_151_95, x_151_96, x_151_97, x_151_98, x_151_99, x_151_102, x_151_103, x_151_104, x_151_105, x_151_106, x_151_109, x_151_110, x_151_111, x_151_114, x_151_117, x_151_120, x_151_121, x_151_124, bk_v, bk_n, nl_I, nl_R, nl_L, nl_0, oo_lt, oo_le, oo_eq, oo_add, oo_sub, oo_tn, oo_ir, nn_leT, nn_leF, nn_ltT, nn_ltF, nn_eqT, nn_eqF, bv_0, bv_1, ko_b, ko_1, ko_0, true_and, and_true, if_true, if_false, not_true_eq_false, not_false_eq_true, oo_02, decide_eq_true_eq, decide_eq_false_iff_not, ite_not, Nat.reduceAdd, Nat.reduceLT, Nat.reduceSub, Nat.reduceLeDiff, reduceIte, Bool.true_eq_false, Bool.false_eq_true, reduceCtorEq, eq_self, decide_true, decide_false, bv_t, bv_f, and_self, t_si, t_sl, t_sr, t_sI, t_sR, n_si, n_sl, n_sr, n_sI, n_sR, r_si, r_sl, r_sI]
  have hz0 : Fr_ mz_ w (s_i w 1440 3 (Int32.ofNat 0)) := fr_si (fr_rf _ _) (by unfold mz_; omega)
  generalize hw0 : s_i w 1440 3 (Int32.ofNat 0) = w0 at *
  obtain ⟨s1, ⟨i1, i2, i3⟩, q1⟩ := lp_ex (fun k (s : Option Vl × Wd) (Q : Q_) => wp d 151 23 [some (v_R (some 1440)), some (v_I a), some (v_I b), some (v_I c), some (v_I e), some (v_I f), some (v_I (Int32.ofNat k)), s.1] [] s.2 Q) (fun k s => Fr_ (fun a k => a = 1452 ∨ (a = 1440 ∧ k = 13)) w0 s.2 ∧ w_i s.2 1440 13 = Int32.ofNat (sm_n S + k) ∧ ∀ j, j < 600 → w_i s.2 1452 j = Int32.ofNat (if sm_n S ≤ j ∧ j < sm_n S + k then w_by (wd_5 a b c e f (j - sm_n S)) ((j - sm_n S) % 4) else sm_tp S j)) 20 (fun k s hk hI => by
    obtain ⟨i1, i2, i3⟩ := hI
    have u1 : w_t s.2 1440 = 25 := by rw [i1.1]; exact t1
    have u2 : w_r s.2 1440 12 = some 1452 := by rw [i1.2.2.1]; exact t2.1
    have u3 : w_t s.2 1452 = 1 := by rw [i1.1]; exact t2.2.1
    have u4 : w_n s.2 1452 = 600 := by rw [i1.2.1]; exact t2.2.2
    refine ⟨(some (v_I (wd_5 a b c e f k)), s_i (s_i s.2 1452 (sm_n S + k) (w_b (wd_5 a b c e f k) (k % 4))) 1440 13 (Int32.ofNat (sm_n S + (k + 1)))), ⟨fr_si (fr_si i1 (by omega)) (by omega), by rw [i_si, if_pos ⟨rfl, rfl⟩], fun j hj => ?_⟩, fun Q => ?_⟩
    · rw [i_si, if_neg (by omega), i_si]
      by_cases c1 : j = sm_n S + k
      · rw [if_pos ⟨rfl, c1⟩, if_pos (by omega), (by_m _ _).1]
        subst c1
        rw [Nat.add_sub_cancel_left]
      · rw [if_neg (fun z => c1 z.2), i3 j hj]
        by_cases c2 : sm_n S ≤ j ∧ j < sm_n S + k
        · rw [if_pos c2, if_pos (by omega)]
        · rw [if_neg c2, if_neg (by omega)]
    · rw [x_151_23]
      unfold wd_5 w_b
      have er := oo_rem (k := k) (m := 4) (by omega) (by omega)
      rcases (by omega : k < 4 ∨ (4 ≤ k ∧ k < 8) ∨ (8 ≤ k ∧ k < 12) ∨ (12 ≤ k ∧ k < 16) ∨ 16 ≤ k) with c1 | c1 | c1 | c1 | c1
      all_goals simp (disch := first | omega | decide | exact ko_b _ | assumption | (simp only [t_si, t_sl, t_sr, t_sI, t_sR, n_si, n_sl, n_sr, n_sI, n_sR, r_si, r_sl, r_sI]; first | done | omega)) only [x_151_e, x_151_b, x_151_25, x_151_27, x_151_30, x_151_32, x_151_33, x_151_36, x_151_37, x_151_40, x_151_42, x_151_44, x_151_47, x_151_48, x_151_51, x_151_53, x_151_55, x_151_58, x_151_59, x_151_62, x_151_64, x_151_66, x_151_69, x_151_71, x_151_74, x_151_76, x_151_78, x_151_79, x_151_82, x_151_83, x_151_86, x_151_88, x_151_90, x_151_92, x_151_94, x_151_95, x_151_96, x_151_97, x_151_98, x_151_99, x_151_102, x_151_103, x_151_104, x_151_105, x_151_106, x_151_109, x_151_110, x_151_111, x_151_114, x_151_117, bk_v, bk_n, nl_I, nl_R, nl_L, nl_0, oo_lt, oo_le, oo_eq, oo_add, oo_sub, oo_tn, oo_ir, nn_leT, nn_leF, nn_ltT, nn_ltF, nn_eqT, nn_eqF, bv_0, bv_1, ko_b, ko_1, ko_0, true_and, and_true, if_true, if_false, not_true_eq_false, not_false_eq_true, oo_02, decide_eq_true_eq, decide_eq_false_iff_not, ite_not, Nat.reduceAdd, Nat.reduceLT, Nat.reduceSub, Nat.reduceLeDiff, reduceIte, Bool.true_eq_false, Bool.false_eq_true, reduceCtorEq, eq_self, decide_true, decide_false, bv_t, bv_f, and_self, t_si, t_sl, t_sr, t_sI, t_sR, n_si, n_sl, n_sr, n_sI, n_sR, r_si, r_sl, r_sI, u2, u4, i2, er, oo_mul, i_si, Nat.reduceEqDiff, false_and, Nat.add_assoc]) 20 0 (none, w0) rfl ⟨fr_rf _ _, e13, fun j hj => by rw [if_neg (by omega)]; exact etp j hj⟩
  have u1 : w_t s1.2 1440 = 25 := by rw [i1.1]; exact t1
  have g : ∀ a k, a ≠ 1452 → (a ≠ 1440 ∨ k ≠ 13) → w_i s1.2 a k = w_i w0 a k := fun a k z y => i1.2.2.2.2.2 a k (by omega)
  refine ⟨s1.2, fr_tr hz0 (fr_mo i1 (fun a k z => by unfold mz_; omega)), ?_, by rw [g _ _ (by omega) (by omega)]; exact c0, fun Q => ?_⟩
  · obtain ⟨h1, h2, h3, h4, h5, h6, h7, h8⟩ := h0
    refine ⟨sh_fr h1 i1, ?_, ?_, ?_, ?_, i3, i2, ?_⟩
    · show MT_ s1.2 (sm_T S)
      unfold MT_ at h2 ⊢
      simp (disch := omega) only [g]
      exact h2
    · show MB_ s1.2 (tm_n (sm_T S)) (sm_B S)
      unfold MB_ MS_ PK_ at h3 ⊢
      simp (disch := omega) only [g]
      exact h3
    · show w_i s1.2 1440 50 = b_v (sm_I S).isSome
      rw [g _ _ (by omega) (by omega)]; exact h4
    · show ∀ B, sm_I S = some B → MI_ s1.2 (tm_n (sm_T S)) B
      unfold MI_ PK_ at h5 ⊢
      simp (disch := omega) only [g]
      exact h5
    · show w_i s1.2 1440 22 = sm_f S
      rw [g _ _ (by omega) (by omega)]; exact h8
  · have fin : wp d 151 23 [some (v_R (some 1440)), some (v_I a), some (v_I b), some (v_I c), some (v_I e), some (v_I f), some (v_I (Int32.ofNat 20)), s1.1] [] s1.2 Q = Q (Sum.inl (some (v_I (Int32.ofNat (sm_n S + 20))))) s1.2 := by
      rw [x_151_23]
      simp (disch := first | omega | decide | exact ko_b _ | assumption | (simp only [t_si, t_sl, t_sr, t_sI, t_sR, n_si, n_sl, n_sr, n_sI, n_sR, r_si, r_sl, r_sI]; first | done | omega)) only [x_151_e, x_151_b, x_151_25, x_151_27, x_151_30, x_151_32, x_151_33, x_151_36, x_151_37, x_151_40, x_151_42, x_151_44, x_151_47, x_151_48, x_151_51, x_151_53, x_151_55, x_151_58, x_151_59, x_151_62, x_151_64, x_151_66, x_151_69, x_151_71, x_151_74, x_151_76, x_151_78, x_151_79, x_151_82, x_151_83, x_151_86, x_151_88, x_151_90, x_151_92, x_151_94, x_151_95, x_151_96, x_151_97, x_151_98, x_151_99, x_151_102, x_151_103, x_151_104, x_151_105, x_151_106, x_151_109, x_151_110, x_151_111, x_151_114, x_151_117, x_151_120, x_151_121, x_151_124, bk_v, bk_n, nl_I, nl_R, nl_L, nl_0, oo_lt, oo_le, oo_eq, oo_add, oo_sub, oo_tn, oo_ir, nn_leT, nn_leF, nn_ltT, nn_ltF, nn_eqT, nn_eqF, bv_0, bv_1, ko_b, ko_1, ko_0, true_and, and_true, if_true, if_false, not_true_eq_false, not_false_eq_true, oo_02, decide_eq_true_eq, decide_eq_false_iff_not, ite_not, Nat.reduceAdd, Nat.reduceLT, Nat.reduceSub, Nat.reduceLeDiff, reduceIte, Bool.true_eq_false, Bool.false_eq_true, reduceCtorEq, eq_self, decide_true, decide_false, bv_t, bv_f, and_self, t_si, t_sl, t_sr, t_sI, t_sR, n_si, n_sl, n_sr, n_sI, n_sR, r_si, r_sl, r_sI, i2]
    rw [hst Q]
    refine Eq.trans ?_ ((q1 Q).trans fin)
    simp (disch := first | omega | decide | exact ko_b _ | assumption | (simp only [t_si, t_sl, t_sr, t_sI, t_sR, n_si, n_sl, n_sr, n_sI, n_sR, r_si, r_sl, r_sI]; first | done | omega)) only [x_151_e, x_151_b, x_151_5, x_151_6, x_151_9, x_151_11, x_151_12, x_151_15, x_151_18, x_151_19, x_151_20, x_151_21, bk_v, bk_n, nl_I, nl_R, nl_L, nl_0, oo_lt, oo_le, oo_eq, oo_add, oo_sub, oo_tn, oo_ir, nn_leT, nn_leF, nn_ltT, nn_ltF, nn_eqT, nn_eqF, bv_0, bv_1, ko_b, ko_1, ko_0, true_and, and_true, if_true, if_false, not_true_eq_false, not_false_eq_true, oo_02, decide_eq_true_eq, decide_eq_false_iff_not, ite_not, Nat.reduceAdd, Nat.reduceLT, Nat.reduceSub, Nat.reduceLeDiff, reduceIte, Bool.true_eq_false, Bool.false_eq_true, reduceCtorEq, eq_self, decide_true, decide_false, bv_t, bv_f, and_self, t_si, t_sl, t_sr, t_sI, t_sR, n_si, n_sl, n_sr, n_sI, n_sR, r_si, r_sl, r_sI, e13]
end
