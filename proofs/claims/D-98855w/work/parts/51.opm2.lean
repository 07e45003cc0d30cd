/-! ACTS: the model's half, the operations -/
set_option maxRecDepth 100000
def b_undo (B : Bm) : Bm := (bm_h B (bm_a B - 1), bm_a B - 1, bm_h B, bm_m B, bm_l B, bm_t B, bm_r B)
theorem l9_m : Int64.ofInt (-9) = (Int32.ofInt (-9)).toInt64 := by decide
section
variable {w : Wd} {S : Sm}
theorem MS_put2 {T : Tm} {X : Xm} (h : MQ_ w T X) {d t l : Nat} {v : Option Vl} (hL : xm_L X < tm_n T) (ht : t < tm_n T) (hl : l ≤ xm_L X) : ∃ w1, Fr_ p_st w w1 ∧ MS_ w1 (tm_n T) (x_put X t l) ∧ ∀ Q, wp d 196 50 [some (v_R (some 1440)), some (v_I (Int32.ofNat t)), some (v_I (Int32.ofNat l)), v] [] w Q = Q (Sum.inl (some (v_I (Int32.ofNat (xm_L X + 1))))) w1 := by
  have hM9 := h.1
  have hS9 := h.2.2.1
  have hq := h
  obtain ⟨hM, hT, hS, ⟨hn, hk4⟩, hW1, hW2, hW3⟩ := hq
  unfold sh_M at hM
  unfold MT_ at hT
  unfold MS_ at hS
  have hlp := lp_ex (fun k w1 Q => wp d 196 55 [some (v_R (some 1440)), some (v_I (Int32.ofNat t)), some (v_I (Int32.ofNat l)), some (v_I (Int32.ofNat (xm_L X - k)))] [] w1 Q) (fun k w1 => Fr_ (fun a _ => a = 1453) w w1 ∧ ∀ j, w_i w1 1453 j = if xm_L X - k < j ∧ j ≤ xm_L X then w_i w 1453 (j - 1) else w_i w 1453 j) (xm_L X - l) (fun k w1 hk hI => ?_) (xm_L X - l) 0 w (Nat.zero_add _) ?_
  · obtain ⟨w1, ⟨h1, h2⟩, h3⟩ := hlp
    have hM1 := sh_fr hM9 h1
    unfold sh_M at hM1
    have e28 : w_i w1 1440 28 = Int32.ofNat (xm_L X) := by rw [h1.2.2.2.2.2 _ _ (by omega)]; exact hS9.1
    have g : ∀ a k, a ≠ 1453 → w_i w1 a k = w_i w a k := fun a k z => h1.2.2.2.2.2 a k z
    refine ⟨s_i (s_i w1 1453 l (Int32.ofNat t)) 1440 28 (Int32.ofNat (xm_L X + 1)), fr_si (fr_si (fr_mo h1 (fun a k z => by unfold p_st; omega)) (by unfold p_st; omega)) (by unfold p_st; omega), ?_, fun Q => ?_⟩
    · unfold MS_
      simp only [i_si, Nat.reduceEqDiff, false_and, and_false, if_false, true_and, and_self, if_true]
      refine ⟨rfl, ?_, ?_, fun k hk => ?_, fun k hk => ?_, fun k hk => ?_, fun k hk => ?_⟩
      · rw [g _ _ (by omega)]; exact hS9.2.1
      · rw [g _ _ (by omega)]; exact hS9.2.2.1
      · have hk : k < xm_L X + 1 := hk
        show _ = Int32.ofNat (if k < l then xm_t X k else if k = l then t else xm_t X (k - 1))
        by_cases c1 : k < l
        · rw [if_pos c1, if_neg (by omega), h2, if_neg (by omega)]; exact hS9.2.2.2.1 k (by omega)
        · rw [if_neg c1]
          by_cases c2 : k = l
          · rw [if_pos c2, if_pos c2]
          · rw [if_neg c2, if_neg c2, h2, if_pos (by omega)]; exact hS9.2.2.2.1 (k - 1) (by omega)
      · rw [g _ _ (by omega)]; exact hS9.2.2.2.2.1 k hk
      · rw [g _ _ (by omega)]; exact hS9.2.2.2.2.2.1 k hk
      · rw [g _ _ (by omega)]; exact hS9.2.2.2.2.2.2 k hk
    · have e : wp d 196 55 [some (v_R (some 1440)), some (v_I (Int32.ofNat t)), some (v_I (Int32.ofNat l)), some (v_I (Int32.ofNat (xm_L X - (xm_L X - l))))] [] w1 Q = Q (Sum.inl (some (v_I (Int32.ofNat (xm_L X + 1))))) (s_i (s_i w1 1453 l (Int32.ofNat t)) 1440 28 (Int32.ofNat (xm_L X + 1))) := by
        rw [x_196_55]
        clear hM hT hS
        simp (disch := first | omega | decide | exact ko_b _ | assumption | (simp only [t_si, t_sl, t_sr, t_sI, t_sR, n_si, n_sl, n_sr, n_sI, n_sR, r_si, r_sl, r_sI]; first | done | omega)) only [x_196_e, x_196_b, x_196_50, x_196_51, x_196_54, x_196_56, x_196_57, x_196_60, x_196_61, x_196_64, x_196_65, x_196_66, x_196_69, x_196_70, x_196_71, x_196_72, x_196_73, x_196_74, x_196_77, x_196_80, x_196_81, x_196_84, x_196_85, x_196_86, x_196_87, x_196_88, x_196_89, x_196_92, x_196_93, x_196_94, x_196_97, x_196_98, x_196_101, bk_v, bk_n, nl_I, nl_R, nl_L, nl_0, oo_lt, oo_le, oo_eq, oo_add, oo_sub, oo_tn, oo_ir, nn_leT, nn_leF, nn_ltT, nn_ltF, nn_eqT, nn_eqF, bv_0, bv_1, ko_b, ko_1, ko_0, true_and, and_true, if_true, if_false, not_true_eq_false, not_false_eq_true, oo_02, decide_eq_true_eq, decide_eq_false_iff_not, ite_not, Nat.reduceAdd, Nat.reduceLT, Nat.reduceSub, Nat.reduceLeDiff, reduceIte, Bool.true_eq_false, Bool.false_eq_true, reduceCtorEq, eq_self, decide_true, decide_false, bv_t, bv_f, and_self, t_si, t_sl, t_sr, t_sI, t_sR, n_si, n_sl, n_sr, n_sI, n_sR, r_si, r_sl, r_sI, hM1, e28, i_si, Nat.reduceEqDiff, false_and, and_false, if_false, true_and, and_self, if_true]
      rw [← e, ← h3 Q]
      simp (disch := first | omega | decide | exact ko_b _ | assumption | (simp only [t_si, t_sl, t_sr, t_sI, t_sR, n_si, n_sl, n_sr, n_sI, n_sR, r_si, r_sl, r_sI]; first | done | omega)) only [x_196_e, x_196_b, x_196_50, x_196_51, x_196_54, x_196_56, x_196_57, x_196_60, x_196_61, x_196_64, x_196_65, x_196_66, x_196_69, x_196_70, x_196_71, x_196_72, x_196_73, x_196_74, x_196_77, x_196_80, x_196_81, x_196_84, x_196_85, x_196_86, x_196_87, x_196_88, x_196_89, x_196_92, x_196_93, x_196_94, x_196_97, x_196_98, x_196_101, bk_v, bk_n, nl_I, nl_R, nl_L, nl_0, oo_lt, oo_le, oo_eq, oo_add, oo_sub, oo_tn, oo_ir, nn_leT, nn_leF, nn_ltT, nn_ltF, nn_eqT, nn_eqF, bv_0, bv_1, ko_b, ko_1, ko_0, true_and, and_true, if_true, if_false, not_true_eq_false, not_false_eq_true, oo_02, decide_eq_true_eq, decide_eq_false_iff_not, ite_not, Nat.reduceAdd, Nat.reduceLT, Nat.reduceSub, Nat.reduceLeDiff, reduceIte, Bool.true_eq_false, Bool.false_eq_true, reduceCtorEq, eq_self, decide_true, decide_false, bv_t, bv_f, and_self, t_si, t_sl, t_sr, t_sI, t_sR, n_si, n_sl, n_sr, n_sI, n_sR, r_si, r_sl, r_sI, hM, hT, hS, Nat.sub_zero]
  · obtain ⟨h1, h2⟩ := hI
    have hM1 := sh_fr hM9 h1
    unfold sh_M at hM1
    refine ⟨s_i w1 1453 (xm_L X - k) (w_i w1 1453 (xm_L X - k - 1)), ⟨fr_si h1 rfl, fun j => ?_⟩, fun Q => ?_⟩
    · rw [i_si]
      by_cases c : j = xm_L X - k
      · subst c
        rw [if_pos ⟨rfl, rfl⟩, if_pos (by omega), h2, if_neg (by omega)]
      · rw [if_neg (fun z => c z.2), h2]
        by_cases c2 : xm_L X - k < j ∧ j ≤ xm_L X
        · rw [if_pos c2, if_pos (by omega)]
        · rw [if_neg c2, if_neg (by omega)]
    · rw [x_196_55]
      clear hM hT hS
      have e1 : Int32.ofNat (xm_L X - k) + Int32.ofInt (-1) = Int32.ofNat (xm_L X - (k + 1)) := by
        rw [show Int32.ofNat (xm_L X - (k + 1)) = Int32.ofNat (xm_L X - k) - Int32.ofNat 1 by rw [oo_sub (by omega)]; rfl]
        rw [Int32.sub_eq_add_neg]; rfl
      simp (disch := first | omega | decide | exact ko_b _ | assumption | (simp only [t_si, t_sl, t_sr, t_sI, t_sR, n_si, n_sl, n_sr, n_sI, n_sR, r_si, r_sl, r_sI]; first | done | omega)) only [x_196_e, x_196_b, x_196_50, x_196_51, x_196_54, x_196_56, x_196_57, x_196_60, x_196_61, x_196_64, x_196_65, x_196_66, x_196_69, x_196_70, x_196_71, x_196_72, x_196_73, x_196_74, x_196_77, x_196_80, x_196_81, x_196_84, x_196_85, x_196_86, x_196_87, x_196_88, x_196_89, x_196_92, x_196_93, x_196_94, x_196_97, x_196_98, x_196_101, bk_v, bk_n, nl_I, nl_R, nl_L, nl_0, oo_lt, oo_le, oo_eq, oo_add, oo_sub, oo_tn, oo_ir, nn_leT, nn_leF, nn_ltT, nn_ltF, nn_eqT, nn_eqF, bv_0, bv_1, ko_b, ko_1, ko_0, true_and, and_true, if_true, if_false, not_true_eq_false, not_false_eq_true, oo_02, decide_eq_true_eq, decide_eq_false_iff_not, ite_not, Nat.reduceAdd, Nat.reduceLT, Nat.reduceSub, Nat.reduceLeDiff, reduceIte, Bool.true_eq_false, Bool.false_eq_true, reduceCtorEq, eq_self, decide_true, decide_false, bv_t, bv_f, and_self, t_si, t_sl, t_sr, t_sI, t_sR, n_si, n_sl, n_sr, n_sI, n_sR, r_si, r_sl, r_sI, hM1, e1]
  · exact ⟨fr_rf _ _, fun j => by rw [if_neg (by omega)]⟩
theorem m_put (h9 : RM_ w S) (hV : WS_ S) {d t l : Nat} (ht : t < tm_n (sm_T S)) (hf : f_lv (bm_X (sm_B S)) t = none) (hl : l ≤ xm_L (bm_X (sm_B S))) : MA_ (d + 6) 196 [v_R (some 1440), v_I (Int32.ofNat t), v_I (Int32.ofNat l)] w (v_I (Int32.ofNat (xm_L (bm_X (sm_B S)) + 1))) 0 (s_set S (b_set (b_keep (sm_B S)) (x_put (bm_X (sm_B S)) t l))) := by
  refine ma_go (ls := [some (v_R (some 1440)), some (v_I (Int32.ofNat t)), some (v_I (Int32.ofNat l)), none]) h9 (fun Q => ?_) (fun w0 h hc => ?_)
  · have h := h9
    have hq := RM_MQ h hV
    have hMM := hq
    obtain ⟨hM, hT, hS, ⟨hn, hk4⟩, hW1, hW2, hW3⟩ := hMM
    unfold sh_M at hM
    unfold MT_ at hT
    unfold MS_ at hS
    have hB := h.2.2.1.2
    unfold PK_ at hB
    have hR := h.2.2.2
    simp (disch := first | omega | decide | exact ko_b _ | assumption | (simp only [t_si, t_sl, t_sr, t_sI, t_sR, n_si, n_sl, n_sr, n_sI, n_sR, r_si, r_sl, r_sI]; first | done | omega)) only [x_196_e, x_196_b, x_196_0, x_196_1, x_196_2, x_196_6, x_196_7, x_196_10, x_196_13, x_196_14, x_196_15, x_196_18, x_196_19, x_196_20, x_196_21, x_196_24, x_196_25, x_196_28, x_196_29, x_196_32, x_196_33, x_196_34, x_196_37, x_196_40, x_196_41, x_196_42, x_196_45, x_196_46, x_196_47, x_196_50, x_196_51, x_196_54, x_196_56, x_196_57, x_196_60, x_196_61, x_196_64, x_196_65, x_196_66, x_196_69, x_196_70, x_196_71, x_196_72, x_196_73, x_196_74, x_196_77, x_196_80, x_196_81, x_196_84, x_196_85, x_196_86, x_196_87, x_196_88, x_196_89, x_196_92, x_196_93, x_196_94, x_196_97, x_196_98, x_196_101, bk_v, bk_n, nl_I, nl_R, nl_L, nl_0, oo_lt, oo_le, oo_eq, oo_add, oo_sub, oo_tn, oo_ir, nn_leT, nn_leF, nn_ltT, nn_ltF, nn_eqT, nn_eqF, bv_0, bv_1, ko_b, ko_1, ko_0, true_and, and_true, if_true, if_false, not_true_eq_false, not_false_eq_true, oo_02, decide_eq_true_eq, decide_eq_false_iff_not, ite_not, Nat.reduceAdd, Nat.reduceLT, Nat.reduceSub, Nat.reduceLeDiff, reduceIte, Bool.true_eq_false, Bool.false_eq_true, reduceCtorEq, eq_self, decide_true, decide_false, bv_t, bv_f, and_self, t_si, t_sl, t_sr, t_sI, t_sR, n_si, n_sl, n_sr, n_sI, n_sR, r_si, r_sl, r_sI, hM, hT, hS, hB, hR]
  · obtain ⟨w1, f1, r1, c1, q1⟩ := m_keep h hV (d := d + 4)
    have hV1 := WS_set hV (WB_keep hV.2.2.2.1)
    have hX := hV.2.2.2.1.1
    obtain ⟨w2, f2, s2, q2⟩ := MS_put2 (RM_MQ r1 hV1) (d := d + 6) (t := t) (l := l) (v := none) (lv_rm1 hX ht hf) ht hl
    refine ⟨w2, fr_tr f1 (fr_mo f2 (fun a k => p_st_pb)), RM_X r1 f2 s2, ?_, fun Q => ?_⟩
    · rw [f2.2.2.2.2.2 _ _ (by unfold p_st; omega), c1]; exact hc
    · rw [show xm_L (bm_X (sm_B (s_set S (b_keep (sm_B S))))) = xm_L (bm_X (sm_B S)) from rfl] at q2
      have hq := RM_MQ h hV
      have hMM := hq
      obtain ⟨hM, hT, hS, ⟨hn, hk4⟩, hW1, hW2, hW3⟩ := hMM
      unfold sh_M at hM
      unfold MT_ at hT
      unfold MS_ at hS
      have hB := h.2.2.1.2
      unfold PK_ at hB
      have hR := h.2.2.2
      have hy := oo_yes ht (by omega)
      have hb : (o_i (f_lv (bm_X (sm_B S)) t) = Int32.ofInt (-1)) = ((f_lv (bm_X (sm_B S)) t).isNone = true) := oi_m (fun k e => by have := flv_lt e; omega)
      rw [hf] at hb
      simp (disch := first | omega | decide | exact ko_b _ | assumption | (simp only [t_si, t_sl, t_sr, t_sI, t_sR, n_si, n_sl, n_sr, n_sI, n_sR, r_si, r_sl, r_sI]; first | done | omega)) only [x_196_e, x_196_b, x_196_0, x_196_1, x_196_2, x_196_5, x_196_6, x_196_7, x_196_10, x_196_13, x_196_14, x_196_15, x_196_18, x_196_19, x_196_20, x_196_21, x_196_24, x_196_25, x_196_28, x_196_29, x_196_32, x_196_33, x_196_34, x_196_37, x_196_40, x_196_41, x_196_42, x_196_45, x_196_46, x_196_47, bk_v, bk_n, nl_I, nl_R, nl_L, nl_0, oo_lt, oo_le, oo_eq, oo_add, oo_sub, oo_tn, oo_ir, nn_leT, nn_leF, nn_ltT, nn_ltF, nn_eqT, nn_eqF, bv_0, bv_1, ko_b, ko_1, ko_0, true_and, and_true, if_true, if_false, not_true_eq_false, not_false_eq_true, oo_02, decide_eq_true_eq, decide_eq_false_iff_not, ite_not, Nat.reduceAdd, Nat.reduceLT, Nat.reduceSub, Nat.reduceLeDiff, reduceIte, Bool.true_eq_false, Bool.false_eq_true, reduceCtorEq, eq_self, decide_true, decide_false, bv_t, bv_f, and_self, t_si, t_sl, t_sr, t_sI, t_sR, n_si, n_sl, n_sr, n_sI, n_sR, r_si, r_sl, r_sI, hM, hT, hS, hB, hR, m_isT h hV, hy, and_self, decide_true, m_lv hq, hf, hb, Option.isNone_none, q1, q2]
theorem m_put_no (h9 : RM_ w S) (hV : WS_ S) {d t : Nat} {x : Int32} (ht : t < tm_n (sm_T S)) (hno : (f_lv (bm_X (sm_B S)) t).isNone = false ∨ no_in x (xm_L (bm_X (sm_B S)) + 1)) : MA_ (d + 6) 196 [v_R (some 1440), v_I (Int32.ofNat t), v_I x] w (v_I (Int32.ofInt (-1))) 0 (s_set S (b_ref (sm_B S) 1)) := by
  refine ma_go (ls := [some (v_R (some 1440)), some (v_I (Int32.ofNat t)), some (v_I x), none]) h9 (fun Q => ?_) (fun w0 h hc => ?_)
  · have h := h9
    have hq := RM_MQ h hV
    have hMM := hq
    obtain ⟨hM, hT, hS, ⟨hn, hk4⟩, hW1, hW2, hW3⟩ := hMM
    unfold sh_M at hM
    unfold MT_ at hT
    unfold MS_ at hS
    have hB := h.2.2.1.2
    unfold PK_ at hB
    have hR := h.2.2.2
    simp (disch := first | omega | decide | exact ko_b _ | assumption | (simp only [t_si, t_sl, t_sr, t_sI, t_sR, n_si, n_sl, n_sr, n_sI, n_sR, r_si, r_sl, r_sI]; first | done | omega)) only [x_196_e, x_196_b, x_196_0, x_196_1, x_196_2, x_196_6, x_196_7, x_196_10, x_196_13, x_196_14, x_196_15, x_196_18, x_196_19, x_196_20, x_196_21, x_196_24, x_196_25, x_196_28, x_196_29, x_196_32, x_196_33, x_196_34, x_196_37, x_196_40, x_196_41, x_196_42, x_196_45, x_196_46, x_196_47, x_196_50, x_196_51, x_196_54, x_196_56, x_196_57, x_196_60, x_196_61, x_196_64, x_196_65, x_196_66, x_196_69, x_196_70, x_196_71, x_196_72, x_196_73, x_196_74, x_196_77, x_196_80, x_196_81, x_196_84, x_196_85, x_196_86, x_196_87, x_196_88, x_196_89, x_196_92, x_196_93, x_196_94, x_196_97, x_196_98, x_196_101, bk_v, bk_n, nl_I, nl_R, nl_L, nl_0, oo_lt, oo_le, oo_eq, oo_add, oo_sub, oo_tn, oo_ir, nn_leT, nn_leF, nn_ltT, nn_ltF, nn_eqT, nn_eqF, bv_0, bv_1, ko_b, ko_1, ko_0, true_and, and_true, if_true, if_false, not_true_eq_false, not_false_eq_true, oo_02, decide_eq_true_eq, decide_eq_false_iff_not, ite_not, Nat.reduceAdd, Nat.reduceLT, Nat.reduceSub, Nat.reduceLeDiff, reduceIte, Bool.true_eq_false, Bool.false_eq_true, reduceCtorEq, eq_self, decide_true, decide_false, bv_t, bv_f, and_self, t_si, t_sl, t_sr, t_sI, t_sR, n_si, n_sl, n_sr, n_sI, n_sR, r_si, r_sl, r_sI, hM, hT, hS, hB, hR]
  · obtain ⟨w1, f1, r1, c1, q1⟩ := m_refuse h hV (d := d + 5) (j := 1) (by omega)
    refine ⟨w1, f1, r1, c1.trans hc, fun Q => ?_⟩
    have hq := RM_MQ h hV
    have hMM := hq
    obtain ⟨hM, hT, hS, ⟨hn, hk4⟩, hW1, hW2, hW3⟩ := hMM
    unfold sh_M at hM
    unfold MT_ at hT
    unfold MS_ at hS
    have hB := h.2.2.1.2
    unfold PK_ at hB
    have hR := h.2.2.2
    have hy := oo_yes ht (by omega)
    have hb : (o_i (f_lv (bm_X (sm_B S)) t) = Int32.ofInt (-1)) = ((f_lv (bm_X (sm_B S)) t).isNone = true) := oi_m (fun k e => by have := flv_lt e; omega)
    cases e : (f_lv (bm_X (sm_B S)) t).isNone with
    | false => simp (disch := first | omega | decide | exact ko_b _ | assumption | (simp only [t_si, t_sl, t_sr, t_sI, t_sR, n_si, n_sl, n_sr, n_sI, n_sR, r_si, r_sl, r_sI]; first | done | omega)) only [x_196_e, x_196_b, x_196_0, x_196_1, x_196_2, x_196_5, x_196_6, x_196_7, x_196_10, x_196_13, x_196_14, x_196_15, x_196_18, x_196_19, x_196_20, x_196_21, x_196_24, x_196_25, x_196_28, x_196_29, x_196_32, x_196_33, x_196_34, x_196_37, x_196_40, x_196_41, x_196_42, x_196_45, x_196_46, x_196_47, bk_v, bk_n, nl_I, nl_R, nl_L, nl_0, oo_lt, oo_le, oo_eq, oo_add, oo_sub, oo_tn, oo_ir, nn_leT, nn_leF, nn_ltT, nn_ltF, nn_eqT, nn_eqF, bv_0, bv_1, ko_b, ko_1, ko_0, true_and, and_true, if_true, if_false, not_true_eq_false, not_false_eq_true, oo_02, decide_eq_true_eq, decide_eq_false_iff_not, ite_not, Nat.reduceAdd, Nat.reduceLT, Nat.reduceSub, Nat.reduceLeDiff, reduceIte, Bool.true_eq_false, Bool.false_eq_true, reduceCtorEq, eq_self, decide_true, decide_false, bv_t, bv_f, and_self, t_si, t_sl, t_sr, t_sI, t_sR, n_si, n_sl, n_sr, n_sI, n_sR, r_si, r_sl, r_sI, hM, hT, hS, hB, hR, m_isT h hV, hy, m_lv hq, hb, e, q1]
    | true =>
      rcases hno with hno | hno | ⟨k, k1, k2, rfl⟩
      · rw [e] at hno; cases hno
      · simp (disch := first | omega | decide | exact ko_b _ | assumption | (simp only [t_si, t_sl, t_sr, t_sI, t_sR, n_si, n_sl, n_sr, n_sI, n_sR, r_si, r_sl, r_sI]; first | done | omega)) only [x_196_e, x_196_b, x_196_0, x_196_1, x_196_2, x_196_5, x_196_6, x_196_7, x_196_10, x_196_13, x_196_14, x_196_15, x_196_18, x_196_19, x_196_20, x_196_21, x_196_24, x_196_25, x_196_28, x_196_29, x_196_32, x_196_33, x_196_34, x_196_37, x_196_40, x_196_41, x_196_42, x_196_45, x_196_46, x_196_47, bk_v, bk_n, nl_I, nl_R, nl_L, nl_0, oo_lt, oo_le, oo_eq, oo_add, oo_sub, oo_tn, oo_ir, nn_leT, nn_leF, nn_ltT, nn_ltF, nn_eqT, nn_eqF, bv_0, bv_1, ko_b, ko_1, ko_0, true_and, and_true, if_true, if_false, not_true_eq_false, not_false_eq_true, oo_02, decide_eq_true_eq, decide_eq_false_iff_not, ite_not, Nat.reduceAdd, Nat.reduceLT, Nat.reduceSub, Nat.reduceLeDiff, reduceIte, Bool.true_eq_false, Bool.false_eq_true, reduceCtorEq, eq_self, decide_true, decide_false, bv_t, bv_f, and_self, t_si, t_sl, t_sr, t_sI, t_sR, n_si, n_sl, n_sr, n_sI, n_sR, r_si, r_sl, r_sI, hM, hT, hS, hB, hR, m_isT h hV, hy, m_lv hq, hb, e, hno, q1]
      · simp (disch := first | omega | decide | exact ko_b _ | assumption | (simp only [t_si, t_sl, t_sr, t_sI, t_sR, n_si, n_sl, n_sr, n_sI, n_sR, r_si, r_sl, r_sI]; first | done | omega)) only [x_196_e, x_196_b, x_196_0, x_196_1, x_196_2, x_196_5, x_196_6, x_196_7, x_196_10, x_196_13, x_196_14, x_196_15, x_196_18, x_196_19, x_196_20, x_196_21, x_196_24, x_196_25, x_196_28, x_196_29, x_196_32, x_196_33, x_196_34, x_196_37, x_196_40, x_196_41, x_196_42, x_196_45, x_196_46, x_196_47, bk_v, bk_n, nl_I, nl_R, nl_L, nl_0, oo_lt, oo_le, oo_eq, oo_add, oo_sub, oo_tn, oo_ir, nn_leT, nn_leF, nn_ltT, nn_ltF, nn_eqT, nn_eqF, bv_0, bv_1, ko_b, ko_1, ko_0, true_and, and_true, if_true, if_false, not_true_eq_false, not_false_eq_true, oo_02, decide_eq_true_eq, decide_eq_false_iff_not, ite_not, Nat.reduceAdd, Nat.reduceLT, Nat.reduceSub, Nat.reduceLeDiff, reduceIte, Bool.true_eq_false, Bool.false_eq_true, reduceCtorEq, eq_self, decide_true, decide_false, bv_t, bv_f, and_self, t_si, t_sl, t_sr, t_sI, t_sR, n_si, n_sl, n_sr, n_sI, n_sR, r_si, r_sl, r_sI, hM, hT, hS, hB, hR, m_isT h hV, hy, m_lv hq, hb, e, q1]
theorem m_put_y (h9 : RM_ w S) (hV : WS_ S) {d : Nat} {y x : Int32} (hx : no_in y (tm_n (sm_T S))) : MR_ (d + 6) 196 [v_R (some 1440), v_I y, v_I x] w (v_I (Int32.ofNat 0)) 1 := by
  refine mr_go (ls := [some (v_R (some 1440)), some (v_I y), some (v_I x), none]) (fun Q => ?_) (fun w0 hf hc => mr_f (fun Q => ?_))
  · have h := h9
    have hq := RM_MQ h hV
    have hMM := hq
    obtain ⟨hM, hT, hS, ⟨hn, hk4⟩, hW1, hW2, hW3⟩ := hMM
    unfold sh_M at hM
    unfold MT_ at hT
    unfold MS_ at hS
    have hB := h.2.2.1.2
    unfold PK_ at hB
    have hR := h.2.2.2
    simp (disch := first | omega | decide | exact ko_b _ | assumption | (simp only [t_si, t_sl, t_sr, t_sI, t_sR, n_si, n_sl, n_sr, n_sI, n_sR, r_si, r_sl, r_sI]; first | done | omega)) only [x_196_e, x_196_b, x_196_0, x_196_1, x_196_2, x_196_6, x_196_7, x_196_10, x_196_13, x_196_14, x_196_15, x_196_18, x_196_19, x_196_20, x_196_21, x_196_24, x_196_25, x_196_28, x_196_29, x_196_32, x_196_33, x_196_34, x_196_37, x_196_40, x_196_41, x_196_42, x_196_45, x_196_46, x_196_47, x_196_50, x_196_51, x_196_54, x_196_56, x_196_57, x_196_60, x_196_61, x_196_64, x_196_65, x_196_66, x_196_69, x_196_70, x_196_71, x_196_72, x_196_73, x_196_74, x_196_77, x_196_80, x_196_81, x_196_84, x_196_85, x_196_86, x_196_87, x_196_88, x_196_89, x_196_92, x_196_93, x_196_94, x_196_97, x_196_98, x_196_101, bk_v, bk_n, nl_I, nl_R, nl_L, nl_0, oo_lt, oo_le, oo_eq, oo_add, oo_sub, oo_tn, oo_ir, nn_leT, nn_leF, nn_ltT, nn_ltF, nn_eqT, nn_eqF, bv_0, bv_1, ko_b, ko_1, ko_0, true_and, and_true, if_true, if_false, not_true_eq_false, not_false_eq_true, oo_02, decide_eq_true_eq, decide_eq_false_iff_not, ite_not, Nat.reduceAdd, Nat.reduceLT, Nat.reduceSub, Nat.reduceLeDiff, reduceIte, Bool.true_eq_false, Bool.false_eq_true, reduceCtorEq, eq_self, decide_true, decide_false, bv_t, bv_f, and_self, t_si, t_sl, t_sr, t_sI, t_sR, n_si, n_sl, n_sr, n_sI, n_sR, r_si, r_sl, r_sI, hM, hT, hS, hB, hR]
  · have h := RM_fr h9 hV hf
    have hq := RM_MQ h hV
    have hMM := hq
    obtain ⟨hM, hT, hS, ⟨hn, hk4⟩, hW1, hW2, hW3⟩ := hMM
    unfold sh_M at hM
    unfold MT_ at hT
    unfold MS_ at hS
    have hB := h.2.2.1.2
    unfold PK_ at hB
    have hR := h.2.2.2
    have hy := decide_eq_false (oo_no (by omega) hx)
    have hM0 := hM.1
    simp (disch := first | omega | decide | exact ko_b _ | assumption | (simp only [t_si, t_sl, t_sr, t_sI, t_sR, n_si, n_sl, n_sr, n_sI, n_sR, r_si, r_sl, r_sI]; first | done | omega)) only [x_196_e, x_196_b, x_196_0, x_196_1, x_196_2, x_196_5, x_196_6, x_196_7, x_196_10, x_196_13, x_196_14, x_196_15, x_196_18, x_196_19, x_196_20, x_196_21, x_196_24, x_196_25, x_196_28, x_196_29, x_196_32, x_196_33, x_196_34, x_196_37, x_196_40, x_196_41, x_196_42, x_196_45, x_196_46, x_196_47, bk_v, bk_n, nl_I, nl_R, nl_L, nl_0, oo_lt, oo_le, oo_eq, oo_add, oo_sub, oo_tn, oo_ir, nn_leT, nn_leF, nn_ltT, nn_ltF, nn_eqT, nn_eqF, bv_0, bv_1, ko_b, ko_1, ko_0, true_and, and_true, if_true, if_false, not_true_eq_false, not_false_eq_true, oo_02, decide_eq_true_eq, decide_eq_false_iff_not, ite_not, Nat.reduceAdd, Nat.reduceLT, Nat.reduceSub, Nat.reduceLeDiff, reduceIte, Bool.true_eq_false, Bool.false_eq_true, reduceCtorEq, eq_self, decide_true, decide_false, bv_t, bv_f, and_self, t_si, t_sl, t_sr, t_sI, t_sR, n_si, n_sl, n_sr, n_sI, n_sR, r_si, r_sl, r_sI, hM, hT, hS, hB, hR, m_isT h hV, hy, m_fail hM0]
theorem m_take (h9 : RM_ w S) (hV : WS_ S) {d t l : Nat} (ht : t < tm_n (sm_T S)) (hf : f_lv (bm_X (sm_B S)) t = some l) : MA_ (d + 6) 200 [v_R (some 1440), v_I (Int32.ofNat t)] w (v_I (Int32.ofNat l)) 0 (s_set S (b_set (b_keep (sm_B S)) (x_take (bm_X (sm_B S)) l))) := by
  refine ma_go (ls := [some (v_R (some 1440)), some (v_I (Int32.ofNat t)), none]) h9 (fun Q => ?_) (fun w0 h hc => ?_)
  · have h := h9
    have hq := RM_MQ h hV
    have hMM := hq
    obtain ⟨hM, hT, hS, ⟨hn, hk4⟩, hW1, hW2, hW3⟩ := hMM
    unfold sh_M at hM
    unfold MT_ at hT
    unfold MS_ at hS
    have hB := h.2.2.1.2
    unfold PK_ at hB
    have hR := h.2.2.2
    simp (disch := first | omega | decide | exact ko_b _ | assumption | (simp only [t_si, t_sl, t_sr, t_sI, t_sR, n_si, n_sl, n_sr, n_sI, n_sR, r_si, r_sl, r_sI]; first | done | omega)) only [x_200_e, x_200_b, x_200_0, x_200_1, x_200_2, x_200_6, x_200_7, x_200_10, x_200_13, x_200_14, x_200_15, x_200_18, x_200_19, x_200_20, x_200_21, x_200_24, x_200_25, x_200_26, x_200_27, x_200_30, x_200_31, x_200_32, x_200_35, x_200_36, x_200_37, x_200_40, x_200_41, x_200_42, x_200_45, x_200_46, bk_v, bk_n, nl_I, nl_R, nl_L, nl_0, oo_lt, oo_le, oo_eq, oo_add, oo_sub, oo_tn, oo_ir, nn_leT, nn_leF, nn_ltT, nn_ltF, nn_eqT, nn_eqF, bv_0, bv_1, ko_b, ko_1, ko_0, true_and, and_true, if_true, if_false, not_true_eq_false, not_false_eq_true, oo_02, decide_eq_true_eq, decide_eq_false_iff_not, ite_not, Nat.reduceAdd, Nat.reduceLT, Nat.reduceSub, Nat.reduceLeDiff, reduceIte, Bool.true_eq_false, Bool.false_eq_true, reduceCtorEq, eq_self, decide_true, decide_false, bv_t, bv_f, and_self, t_si, t_sl, t_sr, t_sI, t_sR, n_si, n_sl, n_sr, n_sI, n_sR, r_si, r_sl, r_sI, hM, hT, hS, hB, hR]
  · obtain ⟨w1, f1, r1, c1, q1⟩ := m_keep h hV (d := d + 4)
    have hV1 := WS_set hV (WB_keep hV.2.2.2.1)
    obtain ⟨w2, f2, s2, q2⟩ := m_toff (RM_MQ r1 hV1) (d := d + 4) ht hf
    refine ⟨w2, fr_tr f1 (fr_mo f2 (fun a k => p_st_pb)), RM_X r1 f2 s2, ?_, fun Q => ?_⟩
    · rw [f2.2.2.2.2.2 _ _ (by unfold p_st; omega), c1]; exact hc
    · have hq := RM_MQ h hV
      have hMM := hq
      obtain ⟨hM, hT, hS, ⟨hn, hk4⟩, hW1, hW2, hW3⟩ := hMM
      unfold sh_M at hM
      unfold MT_ at hT
      unfold MS_ at hS
      have hB := h.2.2.1.2
      unfold PK_ at hB
      have hR := h.2.2.2
      have hl := flv_lt hf
      have t1 : w_t w1 1440 = 25 := by rw [f1.1]; exact hM.1
      have hy := oo_yes ht (by omega)
      have hb : (Int32.ofNat l = Int32.ofInt (-1)) = False := by
        rw [← o_i_s, oi_m (fun k e => by cases e; omega)]
        exact eq_false (fun z => by cases z)
      simp (disch := first | omega | decide | exact ko_b _ | assumption | (simp only [t_si, t_sl, t_sr, t_sI, t_sR, n_si, n_sl, n_sr, n_sI, n_sR, r_si, r_sl, r_sI]; first | done | omega)) only [x_200_e, x_200_b, x_200_0, x_200_1, x_200_2, x_200_5, x_200_6, x_200_7, x_200_10, x_200_13, x_200_14, x_200_15, x_200_18, x_200_19, x_200_20, x_200_21, x_200_24, x_200_25, x_200_26, x_200_27, x_200_30, x_200_31, x_200_32, x_200_35, x_200_36, x_200_37, x_200_40, x_200_41, x_200_42, x_200_45, x_200_46, bk_v, bk_n, nl_I, nl_R, nl_L, nl_0, oo_lt, oo_le, oo_eq, oo_add, oo_sub, oo_tn, oo_ir, nn_leT, nn_leF, nn_ltT, nn_ltF, nn_eqT, nn_eqF, bv_0, bv_1, ko_b, ko_1, ko_0, true_and, and_true, if_true, if_false, not_true_eq_false, not_false_eq_true, oo_02, decide_eq_true_eq, decide_eq_false_iff_not, ite_not, Nat.reduceAdd, Nat.reduceLT, Nat.reduceSub, Nat.reduceLeDiff, reduceIte, Bool.true_eq_false, Bool.false_eq_true, reduceCtorEq, eq_self, decide_true, decide_false, bv_t, bv_f, and_self, t_si, t_sl, t_sr, t_sI, t_sR, n_si, n_sl, n_sr, n_sI, n_sR, r_si, r_sl, r_sI, hM, hT, hS, hB, hR, m_isT h hV, hy, m_lv hq, hf, o_i_s, hb, q1, q2]
theorem m_take_no (h9 : RM_ w S) (hV : WS_ S) {d t : Nat} (ht : t < tm_n (sm_T S)) (hf : f_lv (bm_X (sm_B S)) t = none) : MA_ (d + 6) 200 [v_R (some 1440), v_I (Int32.ofNat t)] w (v_I (Int32.ofInt (-1))) 0 (s_set S (b_ref (sm_B S) 1)) := by
  refine ma_go (ls := [some (v_R (some 1440)), some (v_I (Int32.ofNat t)), none]) h9 (fun Q => ?_) (fun w0 h hc => ?_)
  · have h := h9
    have hq := RM_MQ h hV
    have hMM := hq
    obtain ⟨hM, hT, hS, ⟨hn, hk4⟩, hW1, hW2, hW3⟩ := hMM
    unfold sh_M at hM
    unfold MT_ at hT
    unfold MS_ at hS
    have hB := h.2.2.1.2
    unfold PK_ at hB
    have hR := h.2.2.2
    simp (disch := first | omega | decide | exact ko_b _ | assumption | (simp only [t_si, t_sl, t_sr, t_sI, t_sR, n_si, n_sl, n_sr, n_sI, n_sR, r_si, r_sl, r_sI]; first | done | omega)) only [x_200_e, x_200_b, x_200_0, x_200_1, x_200_2, x_200_6, x_200_7, x_200_10, x_200_13, x_200_14, x_200_15, x_200_18, x_200_19, x_200_20, x_200_21, x_200_24, x_200_25, x_200_26, x_200_27, x_200_30, x_200_31, x_200_32, x_200_35, x_200_36, x_200_37, x_200_40, x_200_41, x_200_42, x_200_45, x_200_46, bk_v, bk_n, nl_I, nl_R, nl_L, nl_0, oo_lt, oo_le, oo_eq, oo_add, oo_sub, oo_tn, oo_ir, nn_leT, nn_leF, nn_ltT, nn_ltF, nn_eqT, nn_eqF, bv_0, bv_1, ko_b, ko_1, ko_0, true_and, and_true, if_true, if_false, not_true_eq_false, not_false_eq_true, oo_02, decide_eq_true_eq, decide_eq_false_iff_not, ite_not, Nat.reduceAdd, Nat.reduceLT, Nat.reduceSub, Nat.reduceLeDiff, reduceIte, Bool.true_eq_false, Bool.false_eq_true, reduceCtorEq, eq_self, decide_true, decide_false, bv_t, bv_f, and_self, t_si, t_sl, t_sr, t_sI, t_sR, n_si, n_sl, n_sr, n_sI, n_sR, r_si, r_sl, r_sI, hM, hT, hS, hB, hR]
  · obtain ⟨w1, f1, r1, c1, q1⟩ := m_refuse h hV (d := d + 5) (j := 1) (by omega)
    refine ⟨w1, f1, r1, c1.trans hc, fun Q => ?_⟩
    have hq := RM_MQ h hV
    have hMM := hq
    obtain ⟨hM, hT, hS, ⟨hn, hk4⟩, hW1, hW2, hW3⟩ := hMM
    unfold sh_M at hM
    unfold MT_ at hT
    unfold MS_ at hS
    have hB := h.2.2.1.2
    unfold PK_ at hB
    have hR := h.2.2.2
    have hy := oo_yes ht (by omega)
    simp (disch := first | omega | decide | exact ko_b _ | assumption | (simp only [t_si, t_sl, t_sr, t_sI, t_sR, n_si, n_sl, n_sr, n_sI, n_sR, r_si, r_sl, r_sI]; first | done | omega)) only [x_200_e, x_200_b, x_200_0, x_200_1, x_200_2, x_200_5, x_200_6, x_200_7, x_200_10, x_200_13, x_200_14, x_200_15, x_200_18, x_200_19, x_200_20, x_200_21, x_200_24, x_200_25, x_200_26, x_200_27, x_200_30, x_200_31, x_200_32, x_200_35, x_200_36, x_200_37, x_200_40, x_200_41, x_200_42, x_200_45, x_200_46, bk_v, bk_n, nl_I, nl_R, nl_L, nl_0, oo_lt, oo_le, oo_eq, oo_add, oo_sub, oo_tn, oo_ir, nn_leT, nn_leF, nn_ltT, nn_ltF, nn_eqT, nn_eqF, bv_0, bv_1, ko_b, ko_1, ko_0, true_and, and_true, if_true, if_false, not_true_eq_false, not_false_eq_true, oo_02, decide_eq_true_eq, decide_eq_false_iff_not, ite_not, Nat.reduceAdd, Nat.reduceLT, Nat.reduceSub, Nat.reduceLeDiff, reduceIte, Bool.true_eq_false, Bool.false_eq_true, reduceCtorEq, eq_self, decide_true, decide_false, bv_t, bv_f, and_self, t_si, t_sl, t_sr, t_sI, t_sR, n_si, n_sl, n_sr, n_sI, n_sR, r_si, r_sl, r_sI, hM, hT, hS, hB, hR, m_isT h hV, hy, m_lv hq, hf, o_i_n, q1]
theorem m_take_y (h9 : RM_ w S) (hV : WS_ S) {d : Nat} {y : Int32} (hx : no_in y (tm_n (sm_T S))) : MR_ (d + 6) 200 [v_R (some 1440), v_I y] w (v_I (Int32.ofNat 0)) 1 := by
  refine mr_go (ls := [some (v_R (some 1440)), some (v_I y), none]) (fun Q => ?_) (fun w0 hf hc => mr_f (fun Q => ?_))
  · have h := h9
    have hq := RM_MQ h hV
    have hMM := hq
    obtain ⟨hM, hT, hS, ⟨hn, hk4⟩, hW1, hW2, hW3⟩ := hMM
    unfold sh_M at hM
    unfold MT_ at hT
    unfold MS_ at hS
    have hB := h.2.2.1.2
    unfold PK_ at hB
    have hR := h.2.2.2
    simp (disch := first | omega | decide | exact ko_b _ | assumption | (simp only [t_si, t_sl, t_sr, t_sI, t_sR, n_si, n_sl, n_sr, n_sI, n_sR, r_si, r_sl, r_sI]; first | done | omega)) only [x_200_e, x_200_b, x_200_0, x_200_1, x_200_2, x_200_6, x_200_7, x_200_10, x_200_13, x_200_14, x_200_15, x_200_18, x_200_19, x_200_20, x_200_21, x_200_24, x_200_25, x_200_26, x_200_27, x_200_30, x_200_31, x_200_32, x_200_35, x_200_36, x_200_37, x_200_40, x_200_41, x_200_42, x_200_45, x_200_46, bk_v, bk_n, nl_I, nl_R, nl_L, nl_0, oo_lt, oo_le, oo_eq, oo_add, oo_sub, oo_tn, oo_ir, nn_leT, nn_leF, nn_ltT, nn_ltF, nn_eqT, nn_eqF, bv_0, bv_1, ko_b, ko_1, ko_0, true_and, and_true, if_true, if_false, not_true_eq_false, not_false_eq_true, oo_02, decide_eq_true_eq, decide_eq_false_iff_not, ite_not, Nat.reduceAdd, Nat.reduceLT, Nat.reduceSub, Nat.reduceLeDiff, reduceIte, Bool.true_eq_false, Bool.false_eq_true, reduceCtorEq, eq_self, decide_true, decide_false, bv_t, bv_f, and_self, t_si, t_sl, t_sr, t_sI, t_sR, n_si, n_sl, n_sr, n_sI, n_sR, r_si, r_sl, r_sI, hM, hT, hS, hB, hR]
  · have h := RM_fr h9 hV hf
    have hq := RM_MQ h hV
    have hMM := hq
    obtain ⟨hM, hT, hS, ⟨hn, hk4⟩, hW1, hW2, hW3⟩ := hMM
    unfold sh_M at hM
    unfold MT_ at hT
    unfold MS_ at hS
    have hB := h.2.2.1.2
    unfold PK_ at hB
    have hR := h.2.2.2
    have hy := decide_eq_false (oo_no (by omega) hx)
    have hM0 := hM.1
    simp (disch := first | omega | decide | exact ko_b _ | assumption | (simp only [t_si, t_sl, t_sr, t_sI, t_sR, n_si, n_sl, n_sr, n_sI, n_sR, r_si, r_sl, r_sI]; first | done | omega)) only [x_200_e, x_200_b, x_200_0, x_200_1, x_200_2, x_200_5, x_200_6, x_200_7, x_200_10, x_200_13, x_200_14, x_200_15, x_200_18, x_200_19, x_200_20, x_200_21, x_200_24, x_200_25, x_200_26, x_200_27, x_200_30, x_200_31, x_200_32, x_200_35, x_200_36, x_200_37, x_200_40, x_200_41, x_200_42, x_200_45, x_200_46, bk_v, bk_n, nl_I, nl_R, nl_L, nl_0, oo_lt, oo_le, oo_eq, oo_add, oo_sub, oo_tn, oo_ir, nn_leT, nn_leF, nn_ltT, nn_ltF, nn_eqT, nn_eqF, bv_0, bv_1, ko_b, ko_1, ko_0, true_and, and_true, if_true, if_false, not_true_eq_false, not_false_eq_true, oo_02, decide_eq_true_eq, decide_eq_false_iff_not, ite_not, Nat.reduceAdd, Nat.reduceLT, Nat.reduceSub, Nat.reduceLeDiff, reduceIte, Bool.true_eq_false, Bool.false_eq_true, reduceCtorEq, eq_self, decide_true, decide_false, bv_t, bv_f, and_self, t_si, t_sl, t_sr, t_sI, t_sR, n_si, n_sl, n_sr, n_sI, n_sR, r_si, r_sl, r_sI, hM, hT, hS, hB, hR, m_isT h hV, hy, m_fail hM0]
theorem m_change (h9 : RM_ w S) (hV : WS_ S) {d a b : Nat} (ha : a < xm_L (bm_X (sm_B S))) (hb : b < xm_L (bm_X (sm_B S))) (hab : a ≠ b) : MA_ (d + 6) 202 [v_R (some 1440), v_I (Int32.ofNat a), v_I (Int32.ofNat b)] w (v_I (b_v true)) 0 (s_set S (b_set (b_keep (sm_B S)) (x_swp (bm_X (sm_B S)) a b))) := by
  refine ma_go (ls := [some (v_R (some 1440)), some (v_I (Int32.ofNat a)), some (v_I (Int32.ofNat b))]) h9 (fun Q => ?_) (fun w0 h hc => ?_)
  · have h := h9
    have hq := RM_MQ h hV
    have hMM := hq
    obtain ⟨hM, hT, hS, ⟨hn, hk4⟩, hW1, hW2, hW3⟩ := hMM
    unfold sh_M at hM
    unfold MT_ at hT
    unfold MS_ at hS
    have hB := h.2.2.1.2
    unfold PK_ at hB
    have hR := h.2.2.2
    simp (disch := first | omega | decide | exact ko_b _ | assumption | (simp only [t_si, t_sl, t_sr, t_sI, t_sR, n_si, n_sl, n_sr, n_sI, n_sR, r_si, r_sl, r_sI]; first | done | omega)) only [x_202_e, x_202_b, x_202_0, x_202_1, x_202_2, x_202_6, x_202_7, x_202_10, x_202_13, x_202_14, x_202_15, x_202_18, x_202_21, x_202_22, x_202_23, x_202_26, x_202_27, x_202_28, x_202_29, x_202_32, x_202_33, x_202_36, x_202_37, x_202_38, x_202_39, x_202_40, x_202_41, x_202_42, x_202_43, x_202_44, x_202_45, x_202_48, x_202_49, x_202_50, x_202_51, x_202_54, x_202_55, bk_v, bk_n, nl_I, nl_R, nl_L, nl_0, oo_lt, oo_le, oo_eq, oo_add, oo_sub, oo_tn, oo_ir, nn_leT, nn_leF, nn_ltT, nn_ltF, nn_eqT, nn_eqF, bv_0, bv_1, ko_b, ko_1, ko_0, true_and, and_true, if_true, if_false, not_true_eq_false, not_false_eq_true, oo_02, decide_eq_true_eq, decide_eq_false_iff_not, ite_not, Nat.reduceAdd, Nat.reduceLT, Nat.reduceSub, Nat.reduceLeDiff, reduceIte, Bool.true_eq_false, Bool.false_eq_true, reduceCtorEq, eq_self, decide_true, decide_false, bv_t, bv_f, and_self, t_si, t_sl, t_sr, t_sI, t_sR, n_si, n_sl, n_sr, n_sI, n_sR, r_si, r_sl, r_sI, hM, hT, hS, hB, hR]
  · obtain ⟨w1, f1, r1, c1, q1⟩ := m_keep h hV (d := d + 4)
    have hV1 := WS_set hV (WB_keep hV.2.2.2.1)
    have hn10 := hV.1.1
    have hL10 := hV.2.2.2.1.1.1
    have f2 : Fr_ p_st w1 (s_i (s_i w1 1453 a (w_i w1 1453 b)) 1453 b (w_i w1 1453 a)) := fr_si (fr_si (fr_rf _ _) (by unfold p_st; omega)) (by unfold p_st; omega)
    refine ⟨_, fr_tr f1 (fr_mo f2 (fun a k => p_st_pb)), RM_X r1 f2 (MS_exch r1.2.2.1.1 ha hb), ?_, fun Q => ?_⟩
    · rw [f2.2.2.2.2.2 _ _ (by unfold p_st; omega), c1]; exact hc
    · have hq := RM_MQ h hV
      have hMM := hq
      obtain ⟨hM, hT, hS, ⟨hn, hk4⟩, hW1, hW2, hW3⟩ := hMM
      unfold sh_M at hM
      unfold MT_ at hT
      unfold MS_ at hS
      have hB := h.2.2.1.2
      unfold PK_ at hB
      have hR := h.2.2.2
      have hy := oo_yes ha (by omega)
      have hz := oo_yes hb (by omega)
      have t1 : w_t w1 1440 = 25 := by rw [f1.1]; exact hM.1
      have ex := fun Q => m_exch (Q := Q) (d := d + 5) r1.1 (a := a) (b := b) (by omega) (by omega)
      simp (disch := first | omega | decide | exact ko_b _ | assumption | (simp only [t_si, t_sl, t_sr, t_sI, t_sR, n_si, n_sl, n_sr, n_sI, n_sR, r_si, r_sl, r_sI]; first | done | omega)) only [x_202_e, x_202_b, x_202_0, x_202_1, x_202_2, x_202_5, x_202_6, x_202_7, x_202_10, x_202_13, x_202_14, x_202_15, x_202_18, x_202_21, x_202_22, x_202_23, x_202_26, x_202_27, x_202_28, x_202_29, x_202_32, x_202_33, x_202_36, x_202_37, x_202_38, x_202_39, x_202_40, x_202_41, x_202_42, x_202_43, x_202_44, x_202_45, x_202_48, x_202_49, x_202_50, x_202_51, x_202_54, x_202_55, bk_v, bk_n, nl_I, nl_R, nl_L, nl_0, oo_lt, oo_le, oo_eq, oo_add, oo_sub, oo_tn, oo_ir, nn_leT, nn_leF, nn_ltT, nn_ltF, nn_eqT, nn_eqF, bv_0, bv_1, ko_b, ko_1, ko_0, true_and, and_true, if_true, if_false, not_true_eq_false, not_false_eq_true, oo_02, decide_eq_true_eq, decide_eq_false_iff_not, ite_not, Nat.reduceAdd, Nat.reduceLT, Nat.reduceSub, Nat.reduceLeDiff, reduceIte, Bool.true_eq_false, Bool.false_eq_true, reduceCtorEq, eq_self, decide_true, decide_false, bv_t, bv_f, and_self, t_si, t_sl, t_sr, t_sI, t_sR, n_si, n_sl, n_sr, n_sI, n_sR, r_si, r_sl, r_sI, hM, hT, hS, hB, hR, m_isL h hV, hy, hz, q1, ex]
theorem m_change_no (h9 : RM_ w S) (hV : WS_ S) {d a : Nat} (ha : a < xm_L (bm_X (sm_B S))) : MA_ (d + 6) 202 [v_R (some 1440), v_I (Int32.ofNat a), v_I (Int32.ofNat a)] w (v_I (b_v false)) 0 (s_set S (b_ref (sm_B S) 1)) := by
  refine ma_go (ls := [some (v_R (some 1440)), some (v_I (Int32.ofNat a)), some (v_I (Int32.ofNat a))]) h9 (fun Q => ?_) (fun w0 h hc => ?_)
  · have h := h9
    have hq := RM_MQ h hV
    have hMM := hq
    obtain ⟨hM, hT, hS, ⟨hn, hk4⟩, hW1, hW2, hW3⟩ := hMM
    unfold sh_M at hM
    unfold MT_ at hT
    unfold MS_ at hS
    have hB := h.2.2.1.2
    unfold PK_ at hB
    have hR := h.2.2.2
    simp (disch := first | omega | decide | exact ko_b _ | assumption | (simp only [t_si, t_sl, t_sr, t_sI, t_sR, n_si, n_sl, n_sr, n_sI, n_sR, r_si, r_sl, r_sI]; first | done | omega)) only [x_202_e, x_202_b, x_202_0, x_202_1, x_202_2, x_202_6, x_202_7, x_202_10, x_202_13, x_202_14, x_202_15, x_202_18, x_202_21, x_202_22, x_202_23, x_202_26, x_202_27, x_202_28, x_202_29, x_202_32, x_202_33, x_202_36, x_202_37, x_202_38, x_202_39, x_202_40, x_202_41, x_202_42, x_202_43, x_202_44, x_202_45, x_202_48, x_202_49, x_202_50, x_202_51, x_202_54, x_202_55, bk_v, bk_n, nl_I, nl_R, nl_L, nl_0, oo_lt, oo_le, oo_eq, oo_add, oo_sub, oo_tn, oo_ir, nn_leT, nn_leF, nn_ltT, nn_ltF, nn_eqT, nn_eqF, bv_0, bv_1, ko_b, ko_1, ko_0, true_and, and_true, if_true, if_false, not_true_eq_false, not_false_eq_true, oo_02, decide_eq_true_eq, decide_eq_false_iff_not, ite_not, Nat.reduceAdd, Nat.reduceLT, Nat.reduceSub, Nat.reduceLeDiff, reduceIte, Bool.true_eq_false, Bool.false_eq_true, reduceCtorEq, eq_self, decide_true, decide_false, bv_t, bv_f, and_self, t_si, t_sl, t_sr, t_sI, t_sR, n_si, n_sl, n_sr, n_sI, n_sR, r_si, r_sl, r_sI, hM, hT, hS, hB, hR]
  · obtain ⟨w1, f1, r1, c1, q1⟩ := m_refuse h hV (d := d + 5) (j := 1) (by omega)
    have e : w1 = s_i w0 1451 1 (w_i w0 1451 1 + Int32.ofNat 1) := by
      have a1 := q1 (fun _ w2 => w2 = s_i w0 1451 1 (w_i w0 1451 1 + Int32.ofNat 1))
      have a2 : cl (d + 5) 197 [v_R (some 1440), v_I (Int32.ofNat 1)] w0 (fun _ w2 => w2 = s_i w0 1451 1 (w_i w0 1451 1 + Int32.ofNat 1)) := by
        have hq := RM_MQ h hV
        have hMM := hq
        obtain ⟨hM, hT, hS, ⟨hn, hk4⟩, hW1, hW2, hW3⟩ := hMM
        unfold sh_M at hM
        unfold MT_ at hT
        unfold MS_ at hS
        have hB := h.2.2.1.2
        unfold PK_ at hB
        have hR := h.2.2.2
        simp (disch := first | omega | decide | exact ko_b _ | assumption | (simp only [t_si, t_sl, t_sr, t_sI, t_sR, n_si, n_sl, n_sr, n_sI, n_sR, r_si, r_sl, r_sI]; first | done | omega)) only [x_197_e, x_197_b, x_197_0, x_197_1, x_197_4, x_197_5, x_197_6, x_197_7, x_197_8, x_197_9, x_197_10, x_197_11, bk_v, bk_n, nl_I, nl_R, nl_L, nl_0, oo_lt, oo_le, oo_eq, oo_add, oo_sub, oo_tn, oo_ir, nn_leT, nn_leF, nn_ltT, nn_ltF, nn_eqT, nn_eqF, bv_0, bv_1, ko_b, ko_1, ko_0, true_and, and_true, if_true, if_false, not_true_eq_false, not_false_eq_true, oo_02, decide_eq_true_eq, decide_eq_false_iff_not, ite_not, Nat.reduceAdd, Nat.reduceLT, Nat.reduceSub, Nat.reduceLeDiff, reduceIte, Bool.true_eq_false, Bool.false_eq_true, reduceCtorEq, eq_self, decide_true, decide_false, bv_t, bv_f, and_self, t_si, t_sl, t_sr, t_sI, t_sR, n_si, n_sl, n_sr, n_sI, n_sR, r_si, r_sl, r_sI, hM, hT, hS, hB, hR]
      rw [a1] at a2
      exact a2
    subst e
    refine ⟨_, f1, r1, c1.trans hc, fun Q => ?_⟩
    have hq := RM_MQ h hV
    have hMM := hq
    obtain ⟨hM, hT, hS, ⟨hn, hk4⟩, hW1, hW2, hW3⟩ := hMM
    unfold sh_M at hM
    unfold MT_ at hT
    unfold MS_ at hS
    have hB := h.2.2.1.2
    unfold PK_ at hB
    have hR := h.2.2.2
    have hy := oo_yes ha (by omega)
    simp (disch := first | omega | decide | exact ko_b _ | assumption | (simp only [t_si, t_sl, t_sr, t_sI, t_sR, n_si, n_sl, n_sr, n_sI, n_sR, r_si, r_sl, r_sI]; first | done | omega)) only [x_202_e, x_202_b, x_202_0, x_202_1, x_202_2, x_202_5, x_202_6, x_202_7, x_202_10, x_202_13, x_202_14, x_202_15, x_202_18, x_202_21, x_202_22, x_202_23, x_202_26, x_202_27, x_202_28, x_202_29, x_202_32, x_202_33, x_202_36, x_202_37, x_202_38, x_202_39, x_202_40, x_202_41, x_202_42, x_202_43, x_202_44, x_202_45, x_202_48, x_202_49, x_202_50, x_202_51, x_202_54, x_202_55, bk_v, bk_n, nl_I, nl_R, nl_L, nl_0, oo_lt, oo_le, oo_eq, oo_add, oo_sub, oo_tn, oo_ir, nn_leT, nn_leF, nn_ltT, nn_ltF, nn_eqT, nn_eqF, bv_0, bv_1, ko_b, ko_1, ko_0, true_and, and_true, if_true, if_false, not_true_eq_false, not_false_eq_true, oo_02, decide_eq_true_eq, decide_eq_false_iff_not, ite_not, Nat.reduceAdd, Nat.reduceLT, Nat.reduceSub, Nat.reduceLeDiff, reduceIte, Bool.true_eq_false, Bool.false_eq_true, reduceCtorEq, eq_self, decide_true, decide_false, bv_t, bv_f, and_self, t_si, t_sl, t_sr, t_sI, t_sR, n_si, n_sl, n_sr, n_sI, n_sR, r_si, r_sl, r_sI, hM, hT, hS, hB, hR, m_isL h hV, hy]
theorem m_change_x (h9 : RM_ w S) (hV : WS_ S) {d : Nat} {x y : Int32} (hx : no_in x (xm_L (bm_X (sm_B S))) ∨ no_in y (xm_L (bm_X (sm_B S)))) : MR_ (d + 6) 202 [v_R (some 1440), v_I x, v_I y] w (v_I (b_v false)) 1 := by
  refine mr_go (ls := [some (v_R (some 1440)), some (v_I x), some (v_I y)]) (fun Q => ?_) (fun w0 hf hc => mr_f (fun Q => ?_))
  · have h := h9
    have hq := RM_MQ h hV
    have hMM := hq
    obtain ⟨hM, hT, hS, ⟨hn, hk4⟩, hW1, hW2, hW3⟩ := hMM
    unfold sh_M at hM
    unfold MT_ at hT
    unfold MS_ at hS
    have hB := h.2.2.1.2
    unfold PK_ at hB
    have hR := h.2.2.2
    simp (disch := first | omega | decide | exact ko_b _ | assumption | (simp only [t_si, t_sl, t_sr, t_sI, t_sR, n_si, n_sl, n_sr, n_sI, n_sR, r_si, r_sl, r_sI]; first | done | omega)) only [x_202_e, x_202_b, x_202_0, x_202_1, x_202_2, x_202_6, x_202_7, x_202_10, x_202_13, x_202_14, x_202_15, x_202_18, x_202_21, x_202_22, x_202_23, x_202_26, x_202_27, x_202_28, x_202_29, x_202_32, x_202_33, x_202_36, x_202_37, x_202_38, x_202_39, x_202_40, x_202_41, x_202_42, x_202_43, x_202_44, x_202_45, x_202_48, x_202_49, x_202_50, x_202_51, x_202_54, x_202_55, bk_v, bk_n, nl_I, nl_R, nl_L, nl_0, oo_lt, oo_le, oo_eq, oo_add, oo_sub, oo_tn, oo_ir, nn_leT, nn_leF, nn_ltT, nn_ltF, nn_eqT, nn_eqF, bv_0, bv_1, ko_b, ko_1, ko_0, true_and, and_true, if_true, if_false, not_true_eq_false, not_false_eq_true, oo_02, decide_eq_true_eq, decide_eq_false_iff_not, ite_not, Nat.reduceAdd, Nat.reduceLT, Nat.reduceSub, Nat.reduceLeDiff, reduceIte, Bool.true_eq_false, Bool.false_eq_true, reduceCtorEq, eq_self, decide_true, decide_false, bv_t, bv_f, and_self, t_si, t_sl, t_sr, t_sI, t_sR, n_si, n_sl, n_sr, n_sI, n_sR, r_si, r_sl, r_sI, hM, hT, hS, hB, hR]
  · have h := RM_fr h9 hV hf
    have hq := RM_MQ h hV
    have hMM := hq
    obtain ⟨hM, hT, hS, ⟨hn, hk4⟩, hW1, hW2, hW3⟩ := hMM
    unfold sh_M at hM
    unfold MT_ at hT
    unfold MS_ at hS
    have hB := h.2.2.1.2
    unfold PK_ at hB
    have hR := h.2.2.2
    have hM0 := hM.1
    by_cases c : no_in x (xm_L (bm_X (sm_B S)))
    · have hy := decide_eq_false (oo_no (by omega) c)
      simp (disch := first | omega | decide | exact ko_b _ | assumption | (simp only [t_si, t_sl, t_sr, t_sI, t_sR, n_si, n_sl, n_sr, n_sI, n_sR, r_si, r_sl, r_sI]; first | done | omega)) only [x_202_e, x_202_b, x_202_0, x_202_1, x_202_2, x_202_5, x_202_6, x_202_7, x_202_10, x_202_13, x_202_14, x_202_15, x_202_18, x_202_21, x_202_22, x_202_23, x_202_26, x_202_27, x_202_28, x_202_29, x_202_32, x_202_33, x_202_36, x_202_37, x_202_38, x_202_39, x_202_40, x_202_41, x_202_42, x_202_43, x_202_44, x_202_45, x_202_48, x_202_49, x_202_50, x_202_51, x_202_54, x_202_55, bk_v, bk_n, nl_I, nl_R, nl_L, nl_0, oo_lt, oo_le, oo_eq, oo_add, oo_sub, oo_tn, oo_ir, nn_leT, nn_leF, nn_ltT, nn_ltF, nn_eqT, nn_eqF, bv_0, bv_1, ko_b, ko_1, ko_0, true_and, and_true, if_true, if_false, not_true_eq_false, not_false_eq_true, oo_02, decide_eq_true_eq, decide_eq_false_iff_not, ite_not, Nat.reduceAdd, Nat.reduceLT, Nat.reduceSub, Nat.reduceLeDiff, reduceIte, Bool.true_eq_false, Bool.false_eq_true, reduceCtorEq, eq_self, decide_true, decide_false, bv_t, bv_f, and_self, t_si, t_sl, t_sr, t_sI, t_sR, n_si, n_sl, n_sr, n_sI, n_sR, r_si, r_sl, r_sI, hM, hT, hS, hB, hR, m_isL h hV, hy, m_failb hM0]
    · have hz := decide_eq_false (oo_no (by omega) (hx.resolve_left c))
      rcases oo_3 x (xm_L (bm_X (sm_B S))) (by omega) with ⟨k, k1, rfl⟩ | k1
      · have hy := oo_yes k1 (by omega)
        have hz := of_decide_eq_false hz
        rw [oo_sub (by omega)] at hz
        simp (disch := first | omega | decide | exact ko_b _ | assumption | (simp only [t_si, t_sl, t_sr, t_sI, t_sR, n_si, n_sl, n_sr, n_sI, n_sR, r_si, r_sl, r_sI]; first | done | omega)) only [x_202_e, x_202_b, x_202_0, x_202_1, x_202_2, x_202_5, x_202_6, x_202_7, x_202_10, x_202_13, x_202_14, x_202_15, x_202_18, x_202_21, x_202_22, x_202_23, x_202_26, x_202_27, x_202_28, x_202_29, x_202_32, x_202_33, x_202_36, x_202_37, x_202_38, x_202_39, x_202_40, x_202_41, x_202_42, x_202_43, x_202_44, x_202_45, x_202_48, x_202_49, x_202_50, x_202_51, x_202_54, x_202_55, bk_v, bk_n, nl_I, nl_R, nl_L, nl_0, oo_lt, oo_le, oo_eq, oo_add, oo_sub, oo_tn, oo_ir, nn_leT, nn_leF, nn_ltT, nn_ltF, nn_eqT, nn_eqF, bv_0, bv_1, ko_b, ko_1, ko_0, true_and, and_true, if_true, if_false, not_true_eq_false, not_false_eq_true, oo_02, decide_eq_true_eq, decide_eq_false_iff_not, ite_not, Nat.reduceAdd, Nat.reduceLT, Nat.reduceSub, Nat.reduceLeDiff, reduceIte, Bool.true_eq_false, Bool.false_eq_true, reduceCtorEq, eq_self, decide_true, decide_false, bv_t, bv_f, and_self, t_si, t_sl, t_sr, t_sI, t_sR, n_si, n_sl, n_sr, n_sI, n_sR, r_si, r_sl, r_sI, hM, hT, hS, hB, hR, m_isL h hV, hy, hz, m_failb hM0]
      · exact absurd k1 c
theorem m_wed (h9 : RM_ w S) (hV : WS_ S) {d t : Nat} {x : Int32} (ht : t < tm_n (sm_T S)) (hx : Int32.ofInt (-9) ≤ x ∧ x ≤ Int32.ofNat 9) : MA_ (d + 6) 205 [v_R (some 1440), v_I (Int32.ofNat t), v_I x] w (v_I (xm_w (bm_X (sm_B S)) t)) 0 (s_set S (b_set (b_keep (sm_B S)) (x_wed (bm_X (sm_B S)) t x))) := by
  refine ma_go (ls := [some (v_R (some 1440)), some (v_I (Int32.ofNat t)), some (v_I x), none]) h9 (fun Q => ?_) (fun w0 h hc => ?_)
  · have h := h9
    have hq := RM_MQ h hV
    have hMM := hq
    obtain ⟨hM, hT, hS, ⟨hn, hk4⟩, hW1, hW2, hW3⟩ := hMM
    unfold sh_M at hM
    unfold MT_ at hT
    unfold MS_ at hS
    have hB := h.2.2.1.2
    unfold PK_ at hB
    have hR := h.2.2.2
    simp (disch := first | omega | decide | exact ko_b _ | assumption | (simp only [t_si, t_sl, t_sr, t_sI, t_sR, n_si, n_sl, n_sr, n_sI, n_sR, r_si, r_sl, r_sI]; first | done | omega)) only [x_205_e, x_205_b, x_205_0, x_205_1, x_205_2, x_205_6, x_205_7, x_205_10, x_205_13, x_205_14, x_205_15, x_205_18, x_205_19, x_205_20, x_205_21, x_205_24, x_205_27, x_205_30, x_205_33, x_205_34, x_205_37, x_205_38, x_205_39, x_205_42, x_205_43, x_205_46, x_205_47, x_205_48, x_205_49, x_205_50, x_205_53, x_205_54, x_205_55, x_205_56, x_205_57, bk_v, bk_n, nl_I, nl_R, nl_L, nl_0, oo_lt, oo_le, oo_eq, oo_add, oo_sub, oo_tn, oo_ir, nn_leT, nn_leF, nn_ltT, nn_ltF, nn_eqT, nn_eqF, bv_0, bv_1, ko_b, ko_1, ko_0, true_and, and_true, if_true, if_false, not_true_eq_false, not_false_eq_true, oo_02, decide_eq_true_eq, decide_eq_false_iff_not, ite_not, Nat.reduceAdd, Nat.reduceLT, Nat.reduceSub, Nat.reduceLeDiff, reduceIte, Bool.true_eq_false, Bool.false_eq_true, reduceCtorEq, eq_self, decide_true, decide_false, bv_t, bv_f, and_self, t_si, t_sl, t_sr, t_sI, t_sR, n_si, n_sl, n_sr, n_sI, n_sR, r_si, r_sl, r_sI, hM, hT, hS, hB, hR]
  · obtain ⟨w1, f1, r1, c1, q1⟩ := m_keep h hV (d := d + 4)
    have f2 : Fr_ p_st w1 (s_i w1 1455 t x) := fr_si (fr_rf _ _) (by unfold p_st; omega)
    have g0 := r1.2.2.1.1
    refine ⟨_, fr_tr f1 (fr_mo f2 (fun a k => p_st_pb)), RM_X r1 f2 ?_, ?_, fun Q => ?_⟩
    · unfold MS_ at g0 ⊢
      obtain ⟨g1, g2, g3, g4, g5, g6, g7⟩ := g0
      simp only [i_si, Nat.reduceEqDiff, false_and, if_false, true_and]
      refine ⟨g1, g2, g3, g4, g5, fun k hk => ?_, g7⟩
      show _ = if k = t then x else xm_w (bm_X (sm_B S)) k
      by_cases e : k = t
      · rw [if_pos e, if_pos e]
      · rw [if_neg e, if_neg e]; exact g6 k hk
    · rw [f2.2.2.2.2.2 _ _ (by unfold p_st; omega), c1]; exact hc
    · have g6 := g0.2.2.2.2.2.1 t ht
      have s1 := r1.1
      unfold sh_M at s1
      have hq := RM_MQ h hV
      have hMM := hq
      obtain ⟨hM, hT, hS, ⟨hn, hk4⟩, hW1, hW2, hW3⟩ := hMM
      unfold sh_M at hM
      unfold MT_ at hT
      unfold MS_ at hS
      have hB := h.2.2.1.2
      unfold PK_ at hB
      have hR := h.2.2.2
      have hy := oo_yes ht (by omega)
      simp (disch := first | omega | decide | exact ko_b _ | assumption | (simp only [t_si, t_sl, t_sr, t_sI, t_sR, n_si, n_sl, n_sr, n_sI, n_sR, r_si, r_sl, r_sI]; first | done | omega)) only [x_205_e, x_205_b, x_205_0, x_205_1, x_205_2, x_205_5, x_205_6, x_205_7, x_205_10, x_205_13, x_205_14, x_205_15, x_205_18, x_205_19, x_205_20, x_205_21, x_205_24, x_205_27, x_205_30, x_205_33, x_205_34, x_205_37, bk_v, bk_n, nl_I, nl_R, nl_L, nl_0, oo_lt, oo_le, oo_eq, oo_add, oo_sub, oo_tn, oo_ir, nn_leT, nn_leF, nn_ltT, nn_ltF, nn_eqT, nn_eqF, bv_0, bv_1, ko_b, ko_1, ko_0, true_and, and_true, if_true, if_false, not_true_eq_false, not_false_eq_true, oo_02, decide_eq_true_eq, decide_eq_false_iff_not, ite_not, Nat.reduceAdd, Nat.reduceLT, Nat.reduceSub, Nat.reduceLeDiff, reduceIte, Bool.true_eq_false, Bool.false_eq_true, reduceCtorEq, eq_self, decide_true, decide_false, bv_t, bv_f, and_self, t_si, t_sl, t_sr, t_sI, t_sR, n_si, n_sl, n_sr, n_sI, n_sR, r_si, r_sl, r_sI, hM, hT, hS, hB, hR, m_isT h hV, hy, m_in, l9_m, ll_o, ll_le, hx]
      clear hM hT hS hB hR hq
      have t1 : w_t w0 1440 = 25 := by rw [← f1.1]; exact s1.1
      simp (disch := first | omega | decide | exact ko_b _ | assumption | (simp only [t_si, t_sl, t_sr, t_sI, t_sR, n_si, n_sl, n_sr, n_sI, n_sR, r_si, r_sl, r_sI]; first | done | omega)) only [x_205_e, x_205_b, x_205_38, x_205_39, x_205_42, x_205_43, x_205_46, x_205_47, x_205_48, x_205_49, x_205_50, x_205_53, x_205_54, x_205_55, x_205_56, x_205_57, bk_v, bk_n, nl_I, nl_R, nl_L, nl_0, oo_lt, oo_le, oo_eq, oo_add, oo_sub, oo_tn, oo_ir, nn_leT, nn_leF, nn_ltT, nn_ltF, nn_eqT, nn_eqF, bv_0, bv_1, ko_b, ko_1, ko_0, true_and, and_true, if_true, if_false, not_true_eq_false, not_false_eq_true, oo_02, decide_eq_true_eq, decide_eq_false_iff_not, ite_not, Nat.reduceAdd, Nat.reduceLT, Nat.reduceSub, Nat.reduceLeDiff, reduceIte, Bool.true_eq_false, Bool.false_eq_true, reduceCtorEq, eq_self, decide_true, decide_false, bv_t, bv_f, and_self, t_si, t_sl, t_sr, t_sI, t_sR, n_si, n_sl, n_sr, n_sI, n_sR, r_si, r_sl, r_sI, q1, s1, g6]
      rfl
theorem m_wed_no (h9 : RM_ w S) (hV : WS_ S) {d t : Nat} {x : Int32} (ht : t < tm_n (sm_T S)) (hx : ¬ (Int32.ofInt (-9) ≤ x ∧ x ≤ Int32.ofNat 9)) : MA_ (d + 6) 205 [v_R (some 1440), v_I (Int32.ofNat t), v_I x] w (v_I (Int32.ofInt (-99))) 0 (s_set S (b_ref (sm_B S) 1)) := by
  refine ma_go (ls := [some (v_R (some 1440)), some (v_I (Int32.ofNat t)), some (v_I x), none]) h9 (fun Q => ?_) (fun w0 h hc => ?_)
  · have h := h9
    have hq := RM_MQ h hV
    have hMM := hq
    obtain ⟨hM, hT, hS, ⟨hn, hk4⟩, hW1, hW2, hW3⟩ := hMM
    unfold sh_M at hM
    unfold MT_ at hT
    unfold MS_ at hS
    have hB := h.2.2.1.2
    unfold PK_ at hB
    have hR := h.2.2.2
    simp (disch := first | omega | decide | exact ko_b _ | assumption | (simp only [t_si, t_sl, t_sr, t_sI, t_sR, n_si, n_sl, n_sr, n_sI, n_sR, r_si, r_sl, r_sI]; first | done | omega)) only [x_205_e, x_205_b, x_205_0, x_205_1, x_205_2, x_205_6, x_205_7, x_205_10, x_205_13, x_205_14, x_205_15, x_205_18, x_205_19, x_205_20, x_205_21, x_205_24, x_205_27, x_205_30, x_205_33, x_205_34, x_205_37, x_205_38, x_205_39, x_205_42, x_205_43, x_205_46, x_205_47, x_205_48, x_205_49, x_205_50, x_205_53, x_205_54, x_205_55, x_205_56, x_205_57, bk_v, bk_n, nl_I, nl_R, nl_L, nl_0, oo_lt, oo_le, oo_eq, oo_add, oo_sub, oo_tn, oo_ir, nn_leT, nn_leF, nn_ltT, nn_ltF, nn_eqT, nn_eqF, bv_0, bv_1, ko_b, ko_1, ko_0, true_and, and_true, if_true, if_false, not_true_eq_false, not_false_eq_true, oo_02, decide_eq_true_eq, decide_eq_false_iff_not, ite_not, Nat.reduceAdd, Nat.reduceLT, Nat.reduceSub, Nat.reduceLeDiff, reduceIte, Bool.true_eq_false, Bool.false_eq_true, reduceCtorEq, eq_self, decide_true, decide_false, bv_t, bv_f, and_self, t_si, t_sl, t_sr, t_sI, t_sR, n_si, n_sl, n_sr, n_sI, n_sR, r_si, r_sl, r_sI, hM, hT, hS, hB, hR]
  · obtain ⟨w1, f1, r1, c1, q1⟩ := m_refFar h hV (d := d + 5)
    refine ⟨w1, f1, r1, c1.trans hc, fun Q => ?_⟩
    have hq := RM_MQ h hV
    have hMM := hq
    obtain ⟨hM, hT, hS, ⟨hn, hk4⟩, hW1, hW2, hW3⟩ := hMM
    unfold sh_M at hM
    unfold MT_ at hT
    unfold MS_ at hS
    have hB := h.2.2.1.2
    unfold PK_ at hB
    have hR := h.2.2.2
    have hy := oo_yes ht (by omega)
    simp (disch := first | omega | decide | exact ko_b _ | assumption | (simp only [t_si, t_sl, t_sr, t_sI, t_sR, n_si, n_sl, n_sr, n_sI, n_sR, r_si, r_sl, r_sI]; first | done | omega)) only [x_205_e, x_205_b, x_205_0, x_205_1, x_205_2, x_205_5, x_205_6, x_205_7, x_205_10, x_205_13, x_205_14, x_205_15, x_205_18, x_205_19, x_205_20, x_205_21, x_205_24, x_205_27, x_205_30, x_205_33, x_205_34, x_205_37, x_205_38, x_205_39, x_205_42, x_205_43, x_205_46, x_205_47, x_205_48, x_205_49, x_205_50, x_205_53, x_205_54, x_205_55, x_205_56, x_205_57, bk_v, bk_n, nl_I, nl_R, nl_L, nl_0, oo_lt, oo_le, oo_eq, oo_add, oo_sub, oo_tn, oo_ir, nn_leT, nn_leF, nn_ltT, nn_ltF, nn_eqT, nn_eqF, bv_0, bv_1, ko_b, ko_1, ko_0, true_and, and_true, if_true, if_false, not_true_eq_false, not_false_eq_true, oo_02, decide_eq_true_eq, decide_eq_false_iff_not, ite_not, Nat.reduceAdd, Nat.reduceLT, Nat.reduceSub, Nat.reduceLeDiff, reduceIte, Bool.true_eq_false, Bool.false_eq_true, reduceCtorEq, eq_self, decide_true, decide_false, bv_t, bv_f, and_self, t_si, t_sl, t_sr, t_sI, t_sR, n_si, n_sl, n_sr, n_sI, n_sR, r_si, r_sl, r_sI, hM, hT, hS, hB, hR, m_isT h hV, hy, m_in, l9_m, ll_o, ll_le, hx, q1]
theorem m_wed_y (h9 : RM_ w S) (hV : WS_ S) {d : Nat} {y x : Int32} (hx : no_in y (tm_n (sm_T S))) : MR_ (d + 6) 205 [v_R (some 1440), v_I y, v_I x] w (v_I (Int32.ofNat 0)) 1 := by
  refine mr_go (ls := [some (v_R (some 1440)), some (v_I y), some (v_I x), none]) (fun Q => ?_) (fun w0 hf hc => mr_f (fun Q => ?_))
  · have h := h9
    have hq := RM_MQ h hV
    have hMM := hq
    obtain ⟨hM, hT, hS, ⟨hn, hk4⟩, hW1, hW2, hW3⟩ := hMM
    unfold sh_M at hM
    unfold MT_ at hT
    unfold MS_ at hS
    have hB := h.2.2.1.2
    unfold PK_ at hB
    have hR := h.2.2.2
    simp (disch := first | omega | decide | exact ko_b _ | assumption | (simp only [t_si, t_sl, t_sr, t_sI, t_sR, n_si, n_sl, n_sr, n_sI, n_sR, r_si, r_sl, r_sI]; first | done | omega)) only [x_205_e, x_205_b, x_205_0, x_205_1, x_205_2, x_205_6, x_205_7, x_205_10, x_205_13, x_205_14, x_205_15, x_205_18, x_205_19, x_205_20, x_205_21, x_205_24, x_205_27, x_205_30, x_205_33, x_205_34, x_205_37, x_205_38, x_205_39, x_205_42, x_205_43, x_205_46, x_205_47, x_205_48, x_205_49, x_205_50, x_205_53, x_205_54, x_205_55, x_205_56, x_205_57, bk_v, bk_n, nl_I, nl_R, nl_L, nl_0, oo_lt, oo_le, oo_eq, oo_add, oo_sub, oo_tn, oo_ir, nn_leT, nn_leF, nn_ltT, nn_ltF, nn_eqT, nn_eqF, bv_0, bv_1, ko_b, ko_1, ko_0, true_and, and_true, if_true, if_false, not_true_eq_false, not_false_eq_true, oo_02, decide_eq_true_eq, decide_eq_false_iff_not, ite_not, Nat.reduceAdd, Nat.reduceLT, Nat.reduceSub, Nat.reduceLeDiff, reduceIte, Bool.true_eq_false, Bool.false_eq_true, reduceCtorEq, eq_self, decide_true, decide_false, bv_t, bv_f, and_self, t_si, t_sl, t_sr, t_sI, t_sR, n_si, n_sl, n_sr, n_sI, n_sR, r_si, r_sl, r_sI, hM, hT, hS, hB, hR]
  · have h := RM_fr h9 hV hf
    have hq := RM_MQ h hV
    have hMM := hq
    obtain ⟨hM, hT, hS, ⟨hn, hk4⟩, hW1, hW2, hW3⟩ := hMM
    unfold sh_M at hM
    unfold MT_ at hT
    unfold MS_ at hS
    have hB := h.2.2.1.2
    unfold PK_ at hB
    have hR := h.2.2.2
    have hy := decide_eq_false (oo_no (by omega) hx)
    have hM0 := hM.1
    simp (disch := first | omega | decide | exact ko_b _ | assumption | (simp only [t_si, t_sl, t_sr, t_sI, t_sR, n_si, n_sl, n_sr, n_sI, n_sR, r_si, r_sl, r_sI]; first | done | omega)) only [x_205_e, x_205_b, x_205_0, x_205_1, x_205_2, x_205_5, x_205_6, x_205_7, x_205_10, x_205_13, x_205_14, x_205_15, x_205_18, x_205_19, x_205_20, x_205_21, x_205_24, x_205_27, x_205_30, x_205_33, x_205_34, x_205_37, x_205_38, x_205_39, x_205_42, x_205_43, x_205_46, x_205_47, x_205_48, x_205_49, x_205_50, x_205_53, x_205_54, x_205_55, x_205_56, x_205_57, bk_v, bk_n, nl_I, nl_R, nl_L, nl_0, oo_lt, oo_le, oo_eq, oo_add, oo_sub, oo_tn, oo_ir, nn_leT, nn_leF, nn_ltT, nn_ltF, nn_eqT, nn_eqF, bv_0, bv_1, ko_b, ko_1, ko_0, true_and, and_true, if_true, if_false, not_true_eq_false, not_false_eq_true, oo_02, decide_eq_true_eq, decide_eq_false_iff_not, ite_not, Nat.reduceAdd, Nat.reduceLT, Nat.reduceSub, Nat.reduceLeDiff, reduceIte, Bool.true_eq_false, Bool.false_eq_true, reduceCtorEq, eq_self, decide_true, decide_false, bv_t, bv_f, and_self, t_si, t_sl, t_sr, t_sI, t_sR, n_si, n_sl, n_sr, n_sI, n_sR, r_si, r_sl, r_sI, hM, hT, hS, hB, hR, m_isT h hV, hy, m_fail hM0]
theorem m_saw (h9 : RM_ w S) (hV : WS_ S) {d t : Nat} {x : Int32} (ht : t < tm_n (sm_T S)) (hx : Int32.ofInt (-9) ≤ x ∧ x ≤ Int32.ofNat 9) : MA_ (d + 6) 207 [v_R (some 1440), v_I (Int32.ofNat t), v_I x] w (v_I (xm_l (bm_X (sm_B S)) t)) 0 (s_set S (b_set (b_keep (sm_B S)) (x_lea (bm_X (sm_B S)) t x))) := by
  refine ma_go (ls := [some (v_R (some 1440)), some (v_I (Int32.ofNat t)), some (v_I x), none]) h9 (fun Q => ?_) (fun w0 h hc => ?_)
  · have h := h9
    have hq := RM_MQ h hV
    have hMM := hq
    obtain ⟨hM, hT, hS, ⟨hn, hk4⟩, hW1, hW2, hW3⟩ := hMM
    unfold sh_M at hM
    unfold MT_ at hT
    unfold MS_ at hS
    have hB := h.2.2.1.2
    unfold PK_ at hB
    have hR := h.2.2.2
    simp (disch := first | omega | decide | exact ko_b _ | assumption | (simp only [t_si, t_sl, t_sr, t_sI, t_sR, n_si, n_sl, n_sr, n_sI, n_sR, r_si, r_sl, r_sI]; first | done | omega)) only [x_207_e, x_207_b, x_207_0, x_207_1, x_207_2, x_207_6, x_207_7, x_207_10, x_207_13, x_207_14, x_207_15, x_207_18, x_207_19, x_207_20, x_207_21, x_207_24, x_207_27, x_207_30, x_207_33, x_207_34, x_207_37, x_207_38, x_207_39, x_207_42, x_207_43, x_207_46, x_207_47, x_207_48, x_207_49, x_207_50, x_207_53, x_207_54, x_207_55, x_207_56, x_207_57, bk_v, bk_n, nl_I, nl_R, nl_L, nl_0, oo_lt, oo_le, oo_eq, oo_add, oo_sub, oo_tn, oo_ir, nn_leT, nn_leF, nn_ltT, nn_ltF, nn_eqT, nn_eqF, bv_0, bv_1, ko_b, ko_1, ko_0, true_and, and_true, if_true, if_false, not_true_eq_false, not_false_eq_true, oo_02, decide_eq_true_eq, decide_eq_false_iff_not, ite_not, Nat.reduceAdd, Nat.reduceLT, Nat.reduceSub, Nat.reduceLeDiff, reduceIte, Bool.true_eq_false, Bool.false_eq_true, reduceCtorEq, eq_self, decide_true, decide_false, bv_t, bv_f, and_self, t_si, t_sl, t_sr, t_sI, t_sR, n_si, n_sl, n_sr, n_sI, n_sR, r_si, r_sl, r_sI, hM, hT, hS, hB, hR]
  · obtain ⟨w1, f1, r1, c1, q1⟩ := m_keep h hV (d := d + 4)
    have f2 : Fr_ p_st w1 (s_i w1 1456 t x) := fr_si (fr_rf _ _) (by unfold p_st; omega)
    have g0 := r1.2.2.1.1
    refine ⟨_, fr_tr f1 (fr_mo f2 (fun a k => p_st_pb)), RM_X r1 f2 ?_, ?_, fun Q => ?_⟩
    · unfold MS_ at g0 ⊢
      obtain ⟨g1, g2, g3, g4, g5, g6, g7⟩ := g0
      simp only [i_si, Nat.reduceEqDiff, false_and, if_false, true_and]
      refine ⟨g1, g2, g3, g4, g5, g6, fun k hk => ?_⟩
      show _ = if k = t then x else xm_l (bm_X (sm_B S)) k
      by_cases e : k = t
      · rw [if_pos e, if_pos e]
      · rw [if_neg e, if_neg e]; exact g7 k hk
    · rw [f2.2.2.2.2.2 _ _ (by unfold p_st; omega), c1]; exact hc
    · have g6 := g0.2.2.2.2.2.2 t ht
      have s1 := r1.1
      unfold sh_M at s1
      have hq := RM_MQ h hV
      have hMM := hq
      obtain ⟨hM, hT, hS, ⟨hn, hk4⟩, hW1, hW2, hW3⟩ := hMM
      unfold sh_M at hM
      unfold MT_ at hT
      unfold MS_ at hS
      have hB := h.2.2.1.2
      unfold PK_ at hB
      have hR := h.2.2.2
      have hy := oo_yes ht (by omega)
      simp (disch := first | omega | decide | exact ko_b _ | assumption | (simp only [t_si, t_sl, t_sr, t_sI, t_sR, n_si, n_sl, n_sr, n_sI, n_sR, r_si, r_sl, r_sI]; first | done | omega)) only [x_207_e, x_207_b, x_207_0, x_207_1, x_207_2, x_207_5, x_207_6, x_207_7, x_207_10, x_207_13, x_207_14, x_207_15, x_207_18, x_207_19, x_207_20, x_207_21, x_207_24, x_207_27, x_207_30, x_207_33, x_207_34, x_207_37, bk_v, bk_n, nl_I, nl_R, nl_L, nl_0, oo_lt, oo_le, oo_eq, oo_add, oo_sub, oo_tn, oo_ir, nn_leT, nn_leF, nn_ltT, nn_ltF, nn_eqT, nn_eqF, bv_0, bv_1, ko_b, ko_1, ko_0, true_and, and_true, if_true, if_false, not_true_eq_false, not_false_eq_true, oo_02, decide_eq_true_eq, decide_eq_false_iff_not, ite_not, Nat.reduceAdd, Nat.reduceLT, Nat.reduceSub, Nat.reduceLeDiff, reduceIte, Bool.true_eq_false, Bool.false_eq_true, reduceCtorEq, eq_self, decide_true, decide_false, bv_t, bv_f, and_self, t_si, t_sl, t_sr, t_sI, t_sR, n_si, n_sl, n_sr, n_sI, n_sR, r_si, r_sl, r_sI, hM, hT, hS, hB, hR, m_isT h hV, hy, m_in, l9_m, ll_o, ll_le, hx]
      clear hM hT hS hB hR hq
      have t1 : w_t w0 1440 = 25 := by rw [← f1.1]; exact s1.1
      simp (disch := first | omega | decide | exact ko_b _ | assumption | (simp only [t_si, t_sl, t_sr, t_sI, t_sR, n_si, n_sl, n_sr, n_sI, n_sR, r_si, r_sl, r_sI]; first | done | omega)) only [x_207_e, x_207_b, x_207_38, x_207_39, x_207_42, x_207_43, x_207_46, x_207_47, x_207_48, x_207_49, x_207_50, x_207_53, x_207_54, x_207_55, x_207_56, x_207_57, bk_v, bk_n, nl_I, nl_R, nl_L, nl_0, oo_lt, oo_le, oo_eq, oo_add, oo_sub, oo_tn, oo_ir, nn_leT, nn_leF, nn_ltT, nn_ltF, nn_eqT, nn_eqF, bv_0, bv_1, ko_b, ko_1, ko_0, true_and, and_true, if_true, if_false, not_true_eq_false, not_false_eq_true, oo_02, decide_eq_true_eq, decide_eq_false_iff_not, ite_not, Nat.reduceAdd, Nat.reduceLT, Nat.reduceSub, Nat.reduceLeDiff, reduceIte, Bool.true_eq_false, Bool.false_eq_true, reduceCtorEq, eq_self, decide_true, decide_false, bv_t, bv_f, and_self, t_si, t_sl, t_sr, t_sI, t_sR, n_si, n_sl, n_sr, n_sI, n_sR, r_si, r_sl, r_sI, q1, s1, g6]
      rfl
theorem m_saw_no (h9 : RM_ w S) (hV : WS_ S) {d t : Nat} {x : Int32} (ht : t < tm_n (sm_T S)) (hx : ¬ (Int32.ofInt (-9) ≤ x ∧ x ≤ Int32.ofNat 9)) : MA_ (d + 6) 207 [v_R (some 1440), v_I (Int32.ofNat t), v_I x] w (v_I (Int32.ofInt (-99))) 0 (s_set S (b_ref (sm_B S) 1)) := by
  refine ma_go (ls := [some (v_R (some 1440)), some (v_I (Int32.ofNat t)), some (v_I x), none]) h9 (fun Q => ?_) (fun w0 h hc => ?_)
  · have h := h9
    have hq := RM_MQ h hV
    have hMM := hq
    obtain ⟨hM, hT, hS, ⟨hn, hk4⟩, hW1, hW2, hW3⟩ := hMM
    unfold sh_M at hM
    unfold MT_ at hT
    unfold MS_ at hS
    have hB := h.2.2.1.2
    unfold PK_ at hB
    have hR := h.2.2.2
    simp (disch := first | omega | decide | exact ko_b _ | assumption | (simp only [t_si, t_sl, t_sr, t_sI, t_sR, n_si, n_sl, n_sr, n_sI, n_sR, r_si, r_sl, r_sI]; first | done | omega)) only [x_207_e, x_207_b, x_207_0, x_207_1, x_207_2, x_207_6, x_207_7, x_207_10, x_207_13, x_207_14, x_207_15, x_207_18, x_207_19, x_207_20, x_207_21, x_207_24, x_207_27, x_207_30, x_207_33, x_207_34, x_207_37, x_207_38, x_207_39, x_207_42, x_207_43, x_207_46, x_207_47, x_207_48, x_207_49, x_207_50, x_207_53, x_207_54, x_207_55, x_207_56, x_207_57, bk_v, bk_n, nl_I, nl_R, nl_L, nl_0, oo_lt, oo_le, oo_eq, oo_add, oo_sub, oo_tn, oo_ir, nn_leT, nn_leF, nn_ltT, nn_ltF, nn_eqT, nn_eqF, bv_0, bv_1, ko_b, ko_1, ko_0, true_and, and_true, if_true, if_false, not_true_eq_false, not_false_eq_true, oo_02, decide_eq_true_eq, decide_eq_false_iff_not, ite_not, Nat.reduceAdd, Nat.reduceLT, Nat.reduceSub, Nat.reduceLeDiff, reduceIte, Bool.true_eq_false, Bool.false_eq_true, reduceCtorEq, eq_self, decide_true, decide_false, bv_t, bv_f, and_self, t_si, t_sl, t_sr, t_sI, t_sR, n_si, n_sl, n_sr, n_sI, n_sR, r_si, r_sl, r_sI, hM, hT, hS, hB, hR]
  · obtain ⟨w1, f1, r1, c1, q1⟩ := m_refFar h hV (d := d + 5)
    refine ⟨w1, f1, r1, c1.trans hc, fun Q => ?_⟩
    have hq := RM_MQ h hV
    have hMM := hq
    obtain ⟨hM, hT, hS, ⟨hn, hk4⟩, hW1, hW2, hW3⟩ := hMM
    unfold sh_M at hM
    unfold MT_ at hT
    unfold MS_ at hS
    have hB := h.2.2.1.2
    unfold PK_ at hB
    have hR := h.2.2.2
    have hy := oo_yes ht (by omega)
    simp (disch := first | omega | decide | exact ko_b _ | assumption | (simp only [t_si, t_sl, t_sr, t_sI, t_sR, n_si, n_sl, n_sr, n_sI, n_sR, r_si, r_sl, r_sI]; first | done | omega)) only [x_207_e, x_207_b, x_207_0, x_207_1, x_207_2, x_207_5, x_207_6, x_207_7, x_207_10, x_207_13, x_207_14, x_207_15, x_207_18, x_207_19, x_207_20, x_207_21, x_207_24, x_207_27, x_207_30, x_207_33, x_207_34, x_207_37, x_207_38, x_207_39, x_207_42, x_207_43, x_207_46, x_207_47, x_207_48, x_207_49, x_207_50, x_207_53, x_207_54, x_207_55, x_207_56, x_207_57, bk_v, bk_n, nl_I, nl_R, nl_L, nl_0, oo_lt, oo_le, oo_eq, oo_add, oo_sub, oo_tn, oo_ir, nn_leT, nn_leF, nn_ltT, nn_ltF, nn_eqT, nn_eqF, bv_0, bv_1, ko_b, ko_1, ko_0, true_and, and_true, if_true, if_false, not_true_eq_false, not_false_eq_true, oo_02, decide_eq_true_eq, decide_eq_false_iff_not, ite_not, Nat.reduceAdd, Nat.reduceLT, Nat.reduceSub, Nat.reduceLeDiff, reduceIte, Bool.true_eq_false, Bool.false_eq_true, reduceCtorEq, eq_self, decide_true, decide_false, bv_t, bv_f, and_self, t_si, t_sl, t_sr, t_sI, t_sR, n_si, n_sl, n_sr, n_sI, n_sR, r_si, r_sl, r_sI, hM, hT, hS, hB, hR, m_isT h hV, hy, m_in, l9_m, ll_o, ll_le, hx, q1]
theorem m_saw_y (h9 : RM_ w S) (hV : WS_ S) {d : Nat} {y x : Int32} (hx : no_in y (tm_n (sm_T S))) : MR_ (d + 6) 207 [v_R (some 1440), v_I y, v_I x] w (v_I (Int32.ofNat 0)) 1 := by
  refine mr_go (ls := [some (v_R (some 1440)), some (v_I y), some (v_I x), none]) (fun Q => ?_) (fun w0 hf hc => mr_f (fun Q => ?_))
  · have h := h9
    have hq := RM_MQ h hV
    have hMM := hq
    obtain ⟨hM, hT, hS, ⟨hn, hk4⟩, hW1, hW2, hW3⟩ := hMM
    unfold sh_M at hM
    unfold MT_ at hT
    unfold MS_ at hS
    have hB := h.2.2.1.2
    unfold PK_ at hB
    have hR := h.2.2.2
    simp (disch := first | omega | decide | exact ko_b _ | assumption | (simp only [t_si, t_sl, t_sr, t_sI, t_sR, n_si, n_sl, n_sr, n_sI, n_sR, r_si, r_sl, r_sI]; first | done | omega)) only [x_207_e, x_207_b, x_207_0, x_207_1, x_207_2, x_207_6, x_207_7, x_207_10, x_207_13, x_207_14, x_207_15, x_207_18, x_207_19, x_207_20, x_207_21, x_207_24, x_207_27, x_207_30, x_207_33, x_207_34, x_207_37, x_207_38, x_207_39, x_207_42, x_207_43, x_207_46, x_207_47, x_207_48, x_207_49, x_207_50, x_207_53, x_207_54, x_207_55, x_207_56, x_207_57, bk_v, bk_n, nl_I, nl_R, nl_L, nl_0, oo_lt, oo_le, oo_eq, oo_add, oo_sub, oo_tn, oo_ir, nn_leT, nn_leF, nn_ltT, nn_ltF, nn_eqT, nn_eqF, bv_0, bv_1, ko_b, ko_1, ko_0, true_and, and_true, if_true, if_false, not_true_eq_false, not_false_eq_true, oo_02, decide_eq_true_eq, decide_eq_false_iff_not, ite_not, Nat.reduceAdd, Nat.reduceLT, Nat.reduceSub, Nat.reduceLeDiff, reduceIte, Bool.true_eq_false, Bool.false_eq_true, reduceCtorEq, eq_self, decide_true, decide_false, bv_t, bv_f, and_self, t_si, t_sl, t_sr, t_sI, t_sR, n_si, n_sl, n_sr, n_sI, n_sR, r_si, r_sl, r_sI, hM, hT, hS, hB, hR]
  · have h := RM_fr h9 hV hf
    have hq := RM_MQ h hV
    have hMM := hq
    obtain ⟨hM, hT, hS, ⟨hn, hk4⟩, hW1, hW2, hW3⟩ := hMM
    unfold sh_M at hM
    unfold MT_ at hT
    unfold MS_ at hS
    have hB := h.2.2.1.2
    unfold PK_ at hB
    have hR := h.2.2.2
    have hy := decide_eq_false (oo_no (by omega) hx)
    have hM0 := hM.1
    simp (disch := first | omega | decide | exact ko_b _ | assumption | (simp only [t_si, t_sl, t_sr, t_sI, t_sR, n_si, n_sl, n_sr, n_sI, n_sR, r_si, r_sl, r_sI]; first | done | omega)) only [x_207_e, x_207_b, x_207_0, x_207_1, x_207_2, x_207_5, x_207_6, x_207_7, x_207_10, x_207_13, x_207_14, x_207_15, x_207_18, x_207_19, x_207_20, x_207_21, x_207_24, x_207_27, x_207_30, x_207_33, x_207_34, x_207_37, x_207_38, x_207_39, x_207_42, x_207_43, x_207_46, x_207_47, x_207_48, x_207_49, x_207_50, x_207_53, x_207_54, x_207_55, x_207_56, x_207_57, bk_v, bk_n, nl_I, nl_R, nl_L, nl_0, oo_lt, oo_le, oo_eq, oo_add, oo_sub, oo_tn, oo_ir, nn_leT, nn_leF, nn_ltT, nn_ltF, nn_eqT, nn_eqF, bv_0, bv_1, ko_b, ko_1, ko_0, true_and, and_true, if_true, if_false, not_true_eq_false, not_false_eq_true, oo_02, decide_eq_true_eq, decide_eq_false_iff_not, ite_not, Nat.reduceAdd, Nat.reduceLT, Nat.reduceSub, Nat.reduceLeDiff, reduceIte, Bool.true_eq_false, Bool.false_eq_true, reduceCtorEq, eq_self, decide_true, decide_false, bv_t, bv_f, and_self, t_si, t_sl, t_sr, t_sI, t_sR, n_si, n_sl, n_sr, n_sI, n_sR, r_si, r_sl, r_sI, hM, hT, hS, hB, hR, m_isT h hV, hy, m_fail hM0]
theorem m_years (h9 : RM_ w S) (hV : WS_ S) {d : Nat} {x : Int32} (hx : Int32.ofNat 1 ≤ x ∧ x ≤ Int32.ofNat 30) (hy : xm_y (bm_X (sm_B S)) + x ≤ Int32.ofNat 999) : MA_ (d + 6) 212 [v_R (some 1440), v_I x] w (v_I (xm_y (bm_X (sm_B S)) + x)) 0 (s_set S (b_set (b_keep (sm_B S)) (x_yrs (bm_X (sm_B S)) (xm_y (bm_X (sm_B S)) + x)))) := by
  refine ma_go (ls := [some (v_R (some 1440)), some (v_I x)]) h9 (fun Q => ?_) (fun w0 h hc => ?_)
  · have h := h9
    have hq := RM_MQ h hV
    have hMM := hq
    obtain ⟨hM, hT, hS, ⟨hn, hk4⟩, hW1, hW2, hW3⟩ := hMM
    unfold sh_M at hM
    unfold MT_ at hT
    unfold MS_ at hS
    have hB := h.2.2.1.2
    unfold PK_ at hB
    have hR := h.2.2.2
    simp (disch := first | omega | decide | exact ko_b _ | assumption | (simp only [t_si, t_sl, t_sr, t_sI, t_sR, n_si, n_sl, n_sr, n_sI, n_sR, r_si, r_sl, r_sI]; first | done | omega)) only [x_212_e, x_212_b, x_212_0, x_212_1, x_212_2, x_212_6, x_212_7, x_212_8, x_212_11, x_212_14, x_212_17, x_212_18, x_212_21, x_212_22, x_212_23, x_212_26, x_212_29, x_212_30, x_212_31, x_212_34, x_212_35, x_212_36, x_212_39, x_212_40, x_212_41, x_212_44, x_212_45, x_212_46, x_212_49, x_212_50, x_212_53, bk_v, bk_n, nl_I, nl_R, nl_L, nl_0, oo_lt, oo_le, oo_eq, oo_add, oo_sub, oo_tn, oo_ir, nn_leT, nn_leF, nn_ltT, nn_ltF, nn_eqT, nn_eqF, bv_0, bv_1, ko_b, ko_1, ko_0, true_and, and_true, if_true, if_false, not_true_eq_false, not_false_eq_true, oo_02, decide_eq_true_eq, decide_eq_false_iff_not, ite_not, Nat.reduceAdd, Nat.reduceLT, Nat.reduceSub, Nat.reduceLeDiff, reduceIte, Bool.true_eq_false, Bool.false_eq_true, reduceCtorEq, eq_self, decide_true, decide_false, bv_t, bv_f, and_self, t_si, t_sl, t_sr, t_sI, t_sR, n_si, n_sl, n_sr, n_sI, n_sR, r_si, r_sl, r_sI, hM, hT, hS, hB, hR]
  · obtain ⟨w1, f1, r1, c1, q1⟩ := m_keep h hV (d := d + 4)
    have f2 : Fr_ p_st w1 (s_i w1 1440 29 (xm_y (bm_X (sm_B S)) + x)) := fr_si (fr_rf _ _) (by unfold p_st; omega)
    have g0 := r1.2.2.1.1
    refine ⟨_, fr_tr f1 (fr_mo f2 (fun a k => p_st_pb)), RM_X r1 f2 ?_, ?_, fun Q => ?_⟩
    · unfold MS_ at g0 ⊢
      obtain ⟨g1, g2, g3, g4, g5, g6, g7⟩ := g0
      simp only [i_si, Nat.reduceEqDiff, false_and, and_false, if_false, true_and, if_true, and_self]
      exact ⟨g1, rfl, g3, g4, g5, g6, g7⟩
    · rw [f2.2.2.2.2.2 _ _ (by unfold p_st; omega), c1]; exact hc
    · have g6 : w_i w1 1440 29 = xm_y (bm_X (sm_B S)) := g0.2.1
      have s1 := r1.1
      unfold sh_M at s1
      have hq := RM_MQ h hV
      have hMM := hq
      obtain ⟨hM, hT, hS, ⟨hn, hk4⟩, hW1, hW2, hW3⟩ := hMM
      unfold sh_M at hM
      unfold MT_ at hT
      unfold MS_ at hS
      have hB := h.2.2.1.2
      unfold PK_ at hB
      have hR := h.2.2.2
      simp (disch := first | omega | decide | exact ko_b _ | assumption | (simp only [t_si, t_sl, t_sr, t_sI, t_sR, n_si, n_sl, n_sr, n_sI, n_sR, r_si, r_sl, r_sI]; first | done | omega)) only [x_212_e, x_212_b, x_212_0, x_212_1, x_212_2, x_212_5, x_212_6, x_212_7, x_212_8, x_212_11, x_212_14, x_212_17, x_212_18, x_212_21, x_212_22, x_212_23, x_212_26, x_212_29, x_212_30, x_212_31, x_212_34, bk_v, bk_n, nl_I, nl_R, nl_L, nl_0, oo_lt, oo_le, oo_eq, oo_add, oo_sub, oo_tn, oo_ir, nn_leT, nn_leF, nn_ltT, nn_ltF, nn_eqT, nn_eqF, bv_0, bv_1, ko_b, ko_1, ko_0, true_and, and_true, if_true, if_false, not_true_eq_false, not_false_eq_true, oo_02, decide_eq_true_eq, decide_eq_false_iff_not, ite_not, Nat.reduceAdd, Nat.reduceLT, Nat.reduceSub, Nat.reduceLeDiff, reduceIte, Bool.true_eq_false, Bool.false_eq_true, reduceCtorEq, eq_self, decide_true, decide_false, bv_t, bv_f, and_self, t_si, t_sl, t_sr, t_sI, t_sR, n_si, n_sl, n_sr, n_sI, n_sR, r_si, r_sl, r_sI, hM, hT, hS, hB, hR, m_in, ll_o, ll_le, hx, hy]
      clear hM hT hS hB hR hq
      have t1 : w_t w0 1440 = 25 := by rw [← f1.1]; exact s1.1
      simp (disch := first | omega | decide | exact ko_b _ | assumption | (simp only [t_si, t_sl, t_sr, t_sI, t_sR, n_si, n_sl, n_sr, n_sI, n_sR, r_si, r_sl, r_sI]; first | done | omega)) only [x_212_e, x_212_b, x_212_35, x_212_36, x_212_39, x_212_40, x_212_41, x_212_44, x_212_45, x_212_46, x_212_49, x_212_50, x_212_53, bk_v, bk_n, nl_I, nl_R, nl_L, nl_0, oo_lt, oo_le, oo_eq, oo_add, oo_sub, oo_tn, oo_ir, nn_leT, nn_leF, nn_ltT, nn_ltF, nn_eqT, nn_eqF, bv_0, bv_1, ko_b, ko_1, ko_0, true_and, and_true, if_true, if_false, not_true_eq_false, not_false_eq_true, oo_02, decide_eq_true_eq, decide_eq_false_iff_not, ite_not, Nat.reduceAdd, Nat.reduceLT, Nat.reduceSub, Nat.reduceLeDiff, reduceIte, Bool.true_eq_false, Bool.false_eq_true, reduceCtorEq, eq_self, decide_true, decide_false, bv_t, bv_f, and_self, t_si, t_sl, t_sr, t_sI, t_sR, n_si, n_sl, n_sr, n_sI, n_sR, r_si, r_sl, r_sI, q1, s1, g6, i_si]
theorem m_years_no (h9 : RM_ w S) (hV : WS_ S) {d : Nat} {x : Int32} (hx : ¬ (Int32.ofNat 1 ≤ x ∧ x ≤ Int32.ofNat 30) ∨ ¬ xm_y (bm_X (sm_B S)) + x ≤ Int32.ofNat 999) : MA_ (d + 6) 212 [v_R (some 1440), v_I x] w (v_I (Int32.ofInt (-1))) 0 (s_set S (b_ref (sm_B S) 1)) := by
  refine ma_go (ls := [some (v_R (some 1440)), some (v_I x)]) h9 (fun Q => ?_) (fun w0 h hc => ?_)
  · have h := h9
    have hq := RM_MQ h hV
    have hMM := hq
    obtain ⟨hM, hT, hS, ⟨hn, hk4⟩, hW1, hW2, hW3⟩ := hMM
    unfold sh_M at hM
    unfold MT_ at hT
    unfold MS_ at hS
    have hB := h.2.2.1.2
    unfold PK_ at hB
    have hR := h.2.2.2
    simp (disch := first | omega | decide | exact ko_b _ | assumption | (simp only [t_si, t_sl, t_sr, t_sI, t_sR, n_si, n_sl, n_sr, n_sI, n_sR, r_si, r_sl, r_sI]; first | done | omega)) only [x_212_e, x_212_b, x_212_0, x_212_1, x_212_2, x_212_6, x_212_7, x_212_8, x_212_11, x_212_14, x_212_17, x_212_18, x_212_21, x_212_22, x_212_23, x_212_26, x_212_29, x_212_30, x_212_31, x_212_34, x_212_35, x_212_36, x_212_39, x_212_40, x_212_41, x_212_44, x_212_45, x_212_46, x_212_49, x_212_50, x_212_53, bk_v, bk_n, nl_I, nl_R, nl_L, nl_0, oo_lt, oo_le, oo_eq, oo_add, oo_sub, oo_tn, oo_ir, nn_leT, nn_leF, nn_ltT, nn_ltF, nn_eqT, nn_eqF, bv_0, bv_1, ko_b, ko_1, ko_0, true_and, and_true, if_true, if_false, not_true_eq_false, not_false_eq_true, oo_02, decide_eq_true_eq, decide_eq_false_iff_not, ite_not, Nat.reduceAdd, Nat.reduceLT, Nat.reduceSub, Nat.reduceLeDiff, reduceIte, Bool.true_eq_false, Bool.false_eq_true, reduceCtorEq, eq_self, decide_true, decide_false, bv_t, bv_f, and_self, t_si, t_sl, t_sr, t_sI, t_sR, n_si, n_sl, n_sr, n_sI, n_sR, r_si, r_sl, r_sI, hM, hT, hS, hB, hR]
  · obtain ⟨w1, f1, r1, c1, q1⟩ := m_refuse h hV (d := d + 5) (j := 1) (by omega)
    refine ⟨w1, f1, r1, c1.trans hc, fun Q => ?_⟩
    have hq := RM_MQ h hV
    have hMM := hq
    obtain ⟨hM, hT, hS, ⟨hn, hk4⟩, hW1, hW2, hW3⟩ := hMM
    unfold sh_M at hM
    unfold MT_ at hT
    unfold MS_ at hS
    have hB := h.2.2.1.2
    unfold PK_ at hB
    have hR := h.2.2.2
    by_cases c : Int32.ofNat 1 ≤ x ∧ x ≤ Int32.ofNat 30
    · have c2 := hx.resolve_left (fun z => z c)
      simp (disch := first | omega | decide | exact ko_b _ | assumption | (simp only [t_si, t_sl, t_sr, t_sI, t_sR, n_si, n_sl, n_sr, n_sI, n_sR, r_si, r_sl, r_sI]; first | done | omega)) only [x_212_e, x_212_b, x_212_0, x_212_1, x_212_2, x_212_5, x_212_6, x_212_7, x_212_8, x_212_11, x_212_14, x_212_17, x_212_18, x_212_21, x_212_22, x_212_23, x_212_26, x_212_29, x_212_30, x_212_31, x_212_34, bk_v, bk_n, nl_I, nl_R, nl_L, nl_0, oo_lt, oo_le, oo_eq, oo_add, oo_sub, oo_tn, oo_ir, nn_leT, nn_leF, nn_ltT, nn_ltF, nn_eqT, nn_eqF, bv_0, bv_1, ko_b, ko_1, ko_0, true_and, and_true, if_true, if_false, not_true_eq_false, not_false_eq_true, oo_02, decide_eq_true_eq, decide_eq_false_iff_not, ite_not, Nat.reduceAdd, Nat.reduceLT, Nat.reduceSub, Nat.reduceLeDiff, reduceIte, Bool.true_eq_false, Bool.false_eq_true, reduceCtorEq, eq_self, decide_true, decide_false, bv_t, bv_f, and_self, t_si, t_sl, t_sr, t_sI, t_sR, n_si, n_sl, n_sr, n_sI, n_sR, r_si, r_sl, r_sI, hM, hT, hS, hB, hR, m_in, ll_o, ll_le, c, c2, q1]
    · simp (disch := first | omega | decide | exact ko_b _ | assumption | (simp only [t_si, t_sl, t_sr, t_sI, t_sR, n_si, n_sl, n_sr, n_sI, n_sR, r_si, r_sl, r_sI]; first | done | omega)) only [x_212_e, x_212_b, x_212_0, x_212_1, x_212_2, x_212_5, x_212_6, x_212_7, x_212_8, x_212_11, x_212_14, x_212_17, x_212_18, x_212_21, x_212_22, x_212_23, x_212_26, x_212_29, x_212_30, x_212_31, x_212_34, bk_v, bk_n, nl_I, nl_R, nl_L, nl_0, oo_lt, oo_le, oo_eq, oo_add, oo_sub, oo_tn, oo_ir, nn_leT, nn_leF, nn_ltT, nn_ltF, nn_eqT, nn_eqF, bv_0, bv_1, ko_b, ko_1, ko_0, true_and, and_true, if_true, if_false, not_true_eq_false, not_false_eq_true, oo_02, decide_eq_true_eq, decide_eq_false_iff_not, ite_not, Nat.reduceAdd, Nat.reduceLT, Nat.reduceSub, Nat.reduceLeDiff, reduceIte, Bool.true_eq_false, Bool.false_eq_true, reduceCtorEq, eq_self, decide_true, decide_false, bv_t, bv_f, and_self, t_si, t_sl, t_sr, t_sI, t_sR, n_si, n_sl, n_sr, n_sI, n_sR, r_si, r_sl, r_sI, hM, hT, hS, hB, hR, m_in, ll_o, ll_le, c, q1]
theorem m_undo_no (h9 : RM_ w S) (hV : WS_ S) {d : Nat} (ha : bm_a (sm_B S) = 0) : MR_ (d + 6) 213 [v_R (some 1440)] w (v_I (Int32.ofInt (-1))) 0 := by
  refine mr_go (ls := [some (v_R (some 1440))]) (fun Q => ?_) (fun w0 hf hc => mr_0 hc (fun Q => ?_))
  · have h := h9
    have hq := RM_MQ h hV
    have hMM := hq
    obtain ⟨hM, hT, hS, ⟨hn, hk4⟩, hW1, hW2, hW3⟩ := hMM
    unfold sh_M at hM
    unfold MT_ at hT
    unfold MS_ at hS
    have hB := h.2.2.1.2
    unfold PK_ at hB
    have hR := h.2.2.2
    simp (disch := first | omega | decide | exact ko_b _ | assumption | (simp only [t_si, t_sl, t_sr, t_sI, t_sR, n_si, n_sl, n_sr, n_sI, n_sR, r_si, r_sl, r_sI]; first | done | omega)) only [x_213_e, x_213_b, x_213_0, x_213_1, x_213_2, x_213_6, x_213_9, x_213_12, x_213_13, x_213_14, x_213_15, x_213_16, x_213_19, x_213_20, x_213_21, x_213_24, x_213_25, x_213_26, x_213_29, x_213_31, x_213_32, x_213_35, x_213_36, x_213_39, x_213_40, x_213_43, bk_v, bk_n, nl_I, nl_R, nl_L, nl_0, oo_lt, oo_le, oo_eq, oo_add, oo_sub, oo_tn, oo_ir, nn_leT, nn_leF, nn_ltT, nn_ltF, nn_eqT, nn_eqF, bv_0, bv_1, ko_b, ko_1, ko_0, true_and, and_true, if_true, if_false, not_true_eq_false, not_false_eq_true, oo_02, decide_eq_true_eq, decide_eq_false_iff_not, ite_not, Nat.reduceAdd, Nat.reduceLT, Nat.reduceSub, Nat.reduceLeDiff, reduceIte, Bool.true_eq_false, Bool.false_eq_true, reduceCtorEq, eq_self, decide_true, decide_false, bv_t, bv_f, and_self, t_si, t_sl, t_sr, t_sI, t_sR, n_si, n_sl, n_sr, n_sI, n_sR, r_si, r_sl, r_sI, hM, hT, hS, hB, hR]
  · have h := RM_fr h9 hV hf
    have hq := RM_MQ h hV
    have hMM := hq
    obtain ⟨hM, hT, hS, ⟨hn, hk4⟩, hW1, hW2, hW3⟩ := hMM
    unfold sh_M at hM
    unfold MT_ at hT
    unfold MS_ at hS
    have hB := h.2.2.1.2
    unfold PK_ at hB
    have hR := h.2.2.2
    simp (disch := first | omega | decide | exact ko_b _ | assumption | (simp only [t_si, t_sl, t_sr, t_sI, t_sR, n_si, n_sl, n_sr, n_sI, n_sR, r_si, r_sl, r_sI]; first | done | omega)) only [x_213_e, x_213_b, x_213_0, x_213_1, x_213_2, x_213_5, x_213_6, x_213_9, x_213_12, x_213_13, x_213_14, x_213_15, x_213_16, x_213_19, x_213_20, x_213_21, x_213_24, x_213_25, x_213_26, x_213_29, x_213_31, x_213_32, x_213_35, x_213_36, x_213_39, x_213_40, x_213_43, bk_v, bk_n, nl_I, nl_R, nl_L, nl_0, oo_lt, oo_le, oo_eq, oo_add, oo_sub, oo_tn, oo_ir, nn_leT, nn_leF, nn_ltT, nn_ltF, nn_eqT, nn_eqF, bv_0, bv_1, ko_b, ko_1, ko_0, true_and, and_true, if_true, if_false, not_true_eq_false, not_false_eq_true, oo_02, decide_eq_true_eq, decide_eq_false_iff_not, ite_not, Nat.reduceAdd, Nat.reduceLT, Nat.reduceSub, Nat.reduceLeDiff, reduceIte, Bool.true_eq_false, Bool.false_eq_true, reduceCtorEq, eq_self, decide_true, decide_false, bv_t, bv_f, and_self, t_si, t_sl, t_sr, t_sI, t_sR, n_si, n_sl, n_sr, n_sI, n_sR, r_si, r_sl, r_sI, hM, hT, hS, hB, hR, ha]
theorem m_undo (h9 : RM_ w S) (hV : WS_ S) {d : Nat} (ha : bm_a (sm_B S) ≠ 0) : MA_ (d + 6) 213 [v_R (some 1440)] w (v_I (Int32.ofNat (bm_a (sm_B S) - 1))) 0 (s_set S (b_undo (sm_B S))) := by
  refine ma_go (ls := [some (v_R (some 1440))]) h9 (fun Q => ?_) (fun w0 h hc => ?_)
  · have h := h9
    have hq := RM_MQ h hV
    have hMM := hq
    obtain ⟨hM, hT, hS, ⟨hn, hk4⟩, hW1, hW2, hW3⟩ := hMM
    unfold sh_M at hM
    unfold MT_ at hT
    unfold MS_ at hS
    have hB := h.2.2.1.2
    unfold PK_ at hB
    have hR := h.2.2.2
    simp (disch := first | omega | decide | exact ko_b _ | assumption | (simp only [t_si, t_sl, t_sr, t_sI, t_sR, n_si, n_sl, n_sr, n_sI, n_sR, r_si, r_sl, r_sI]; first | done | omega)) only [x_213_e, x_213_b, x_213_0, x_213_1, x_213_2, x_213_6, x_213_9, x_213_12, x_213_13, x_213_14, x_213_15, x_213_16, x_213_19, x_213_20, x_213_21, x_213_24, x_213_25, x_213_26, x_213_29, x_213_31, x_213_32, x_213_35, x_213_36, x_213_39, x_213_40, x_213_43, bk_v, bk_n, nl_I, nl_R, nl_L, nl_0, oo_lt, oo_le, oo_eq, oo_add, oo_sub, oo_tn, oo_ir, nn_leT, nn_leF, nn_ltT, nn_ltF, nn_eqT, nn_eqF, bv_0, bv_1, ko_b, ko_1, ko_0, true_and, and_true, if_true, if_false, not_true_eq_false, not_false_eq_true, oo_02, decide_eq_true_eq, decide_eq_false_iff_not, ite_not, Nat.reduceAdd, Nat.reduceLT, Nat.reduceSub, Nat.reduceLeDiff, reduceIte, Bool.true_eq_false, Bool.false_eq_true, reduceCtorEq, eq_self, decide_true, decide_false, bv_t, bv_f, and_self, t_si, t_sl, t_sr, t_sI, t_sR, n_si, n_sl, n_sr, n_sI, n_sR, r_si, r_sl, r_sI, hM, hT, hS, hB, hR]
  · have ha40 := hV.2.2.2.1.2.2.1
    have f1 : Fr_ pb_ w0 (s_i w0 1440 31 (Int32.ofNat (bm_a (sm_B S) - 1))) := fr_si (fr_rf _ _) (by unfold pb_; omega)
    have hs := sh_fr h.1 f1
    have hs9 := hs
    unfold sh_M at hs
    obtain ⟨w2, f2, r2, q2⟩ := m_unpack (d := d + 5) hs9 (A := 1457) (f := 43 * (bm_a (sm_B S) - 1)) (by simp only [hs]) (by simp only [hs]; omega) (by simp only [hs]; omega) (by omega)
    have f3 := fr_tr f1 (fr_mo f2 (fun a k => p_st_pb))
    have hk := h.2.2.1.2.2.1 (bm_a (sm_B S) - 1) (by omega)
    have hXk := hV.2.2.2.1.2.2.2.1 (bm_a (sm_B S) - 1) (by omega)
    have hn10 := hV.1.1
    have hL10 : xm_L (bm_h (sm_B S) (bm_a (sm_B S) - 1)) ≤ 10 := Nat.le_trans hXk.1 hn10
    have g6 : ∀ a k, (a ≠ 1440 ∨ k < 28 ∨ 31 < k) → (a < 1453 ∨ 1456 < a) → w_i w2 a k = w_i w0 a k := fun a k z y => by
      rw [f2.2.2.2.2.2 a k (by unfold p_st; omega), i_si, if_neg (by omega)]
    refine ⟨w2, f3, RM_B h f3 ?_, ?_, fun Q => ?_⟩
    · obtain ⟨-, g2, g3, g4, g5, g9, g7⟩ := h.2.2.1
      have e31 : w_i w2 1440 31 = Int32.ofNat (bm_a (sm_B S) - 1) := by rw [f2.2.2.2.2.2 _ _ (by unfold p_st; omega), i_si, if_pos ⟨rfl, rfl⟩]
      refine ⟨RR_MS r2 (PK_tr hk hL10 hn10 (fun i hi => by rw [i_si, if_neg (by omega)])) hL10 hn10, e31, fun k hk2 => ?_, ?_, fun k hk2 => ?_, fun k hk2 => ?_, fun k hk2 => ?_⟩
      · have hk2 : k < bm_a (sm_B S) - 1 := hk2
        exact PK_tr (g3 k (by omega)) (Nat.le_trans (hV.2.2.2.1.2.2.2.1 k (by omega)).1 hn10) hn10 (fun i hi => g6 _ _ (by omega) (by omega))
      · rw [g6 _ _ (by omega) (by omega)]; exact g4
      · rw [g6 _ _ (by omega) (by omega)]; exact g5 k hk2
      · rw [g6 _ _ (by omega) (by omega)]; exact g9 k hk2
      · rw [g6 _ _ (by omega) (by omega)]; exact g7 k hk2
    · rw [g6 _ _ (by omega) (by omega)]; exact hc
    · have t2 : w_t w2 1440 = 25 := by rw [f3.1]; exact h.1.1
      have e31 : w_i w2 1440 31 = Int32.ofNat (bm_a (sm_B S) - 1) := by rw [f2.2.2.2.2.2 _ _ (by unfold p_st; omega), i_si, if_pos ⟨rfl, rfl⟩]
      clear hs
      have hq := RM_MQ h hV
      have hMM := hq
      obtain ⟨hM, hT, hS, ⟨hn, hk4⟩, hW1, hW2, hW3⟩ := hMM
      unfold sh_M at hM
      unfold MT_ at hT
      unfold MS_ at hS
      have hB := h.2.2.1.2
      unfold PK_ at hB
      have hR := h.2.2.2
      simp (disch := first | omega | decide | exact ko_b _ | assumption | (simp only [t_si, t_sl, t_sr, t_sI, t_sR, n_si, n_sl, n_sr, n_sI, n_sR, r_si, r_sl, r_sI]; first | done | omega)) only [x_213_e, x_213_b, x_213_0, x_213_1, x_213_2, x_213_5, x_213_6, x_213_9, x_213_12, x_213_13, x_213_14, x_213_15, x_213_16, x_213_19, x_213_20, x_213_21, x_213_24, x_213_25, x_213_26, x_213_29, x_213_31, x_213_32, x_213_35, x_213_36, x_213_39, x_213_40, x_213_43, bk_v, bk_n, nl_I, nl_R, nl_L, nl_0, oo_lt, oo_le, oo_eq, oo_add, oo_sub, oo_tn, oo_ir, nn_leT, nn_leF, nn_ltT, nn_ltF, nn_eqT, nn_eqF, bv_0, bv_1, ko_b, ko_1, ko_0, true_and, and_true, if_true, if_false, not_true_eq_false, not_false_eq_true, oo_02, decide_eq_true_eq, decide_eq_false_iff_not, ite_not, Nat.reduceAdd, Nat.reduceLT, Nat.reduceSub, Nat.reduceLeDiff, reduceIte, Bool.true_eq_false, Bool.false_eq_true, reduceCtorEq, eq_self, decide_true, decide_false, bv_t, bv_f, and_self, t_si, t_sl, t_sr, t_sI, t_sR, n_si, n_sl, n_sr, n_sI, n_sR, r_si, r_sl, r_sI, hM, hT, hS, hB, hR, oo_mul, q2, i_si, e31, and_self, true_and]
end
