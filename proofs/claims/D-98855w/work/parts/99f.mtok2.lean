/-! THE MODEL's tokens: a step, faults, words, marks -/
set_option maxRecDepth 100000
theorem tk_c0 {t : Tp} {b : Nat} (h : t.2 ≤ b) : tk_k t b = 0 ∧ tk_e t b = b := by
  have k : tk_k t b = 0 := by unfold tk_k; rw [if_pos h]
  exact ⟨k, by unfold tk_e; rw [if_pos k]⟩
theorem tk_c1 {t : Tp} {b : Nat} (h : b < t.2) (c : ct_l (t.1 b) = true) : tk_k t b = 1 ∧ tk_e t b = cl_e' ct_l t b := by
  have h2 : ¬ t.2 ≤ b := by omega
  have k : tk_k t b = 1 := by unfold tk_k; rw [if_neg h2, if_pos c]
  have k2 : ¬ tk_k t b = 0 := by omega
  exact ⟨k, by unfold tk_e; rw [if_neg k2, if_pos k]⟩
theorem tk_c2 {t : Tp} {b : Nat} (h : b < t.2) (c1 : ct_l (t.1 b) = false) (c : ct_d (t.1 b) = true) : tk_k t b = 2 ∧ tk_e t b = cl_e' ct_d t b := by
  have h2 : ¬ t.2 ≤ b := by omega
  have k : tk_k t b = 2 := by unfold tk_k; rw [if_neg h2, c1, if_neg Bool.false_ne_true, if_pos c]
  have k2 : ¬ tk_k t b = 0 := by omega
  have k3 : ¬ tk_k t b = 1 := by omega
  exact ⟨k, by unfold tk_e; rw [if_neg k2, if_neg k3, if_pos k]⟩
theorem tk_c3 {t : Tp} {b : Nat} (h : b < t.2) (c1 : ct_l (t.1 b) = false) (c2 : ct_d (t.1 b) = false) : tk_k t b = (if ct_s (t.1 b) then 3 else 4) ∧ tk_e t b = b + 1 := by
  have h2 : ¬ t.2 ≤ b := by omega
  have k : tk_k t b = (if ct_s (t.1 b) then 3 else 4) := by unfold tk_k; rw [if_neg h2, c1, if_neg Bool.false_ne_true, c2, if_neg Bool.false_ne_true]
  have kk : tk_k t b = 3 ∨ tk_k t b = 4 := by rw [k]; split <;> omega
  have k2 : ¬ tk_k t b = 0 := by omega
  have k3 : ¬ tk_k t b = 1 := by omega
  have k4 : ¬ tk_k t b = 2 := by omega
  exact ⟨k, by unfold tk_e; rw [if_neg k2, if_neg k3, if_neg k4]⟩
theorem tk_k5 {t : Tp} {b : Nat} : tk_k t b < 5 := by
  unfold tk_k
  repeat' split
  all_goals omega
theorem tk_ebd {t : Tp} {b : Nat} (h : b ≤ t.2) : b ≤ tk_e t b ∧ tk_e t b ≤ t.2 := by
  by_cases k : tk_k t b = 0
  · unfold tk_e; rw [if_pos k]; omega
  · have := tk_lt k; omega
section
variable {w : Wd} {t : Tp}
/-- what the reading of tokens changes -/
def pk_ (a k : Nat) : Prop := a = 1440 ∧ (k = 14 ∨ (16 ≤ k ∧ k ≤ 21))
def Mr_ (w : Wd) (t : Tp) (b : Nat) : Prop := b ≤ t.2 ∧ w_i w 1440 20 = Int32.ofNat 0 ∧ w_i w 1440 14 = Int32.ofNat (tk_e t b) ∧ w_i w 1440 18 = Int32.ofNat b ∧ w_i w 1440 19 = Int32.ofNat (tk_e t b) ∧ w_i w 1440 16 = Int32.ofNat (tk_k t b) ∧ (tk_k t b = 2 → w_i w 1440 17 = Int32.ofNat (mvd_ t b (tk_e t b - b)))
def Mf_ (w : Wd) (t : Tp) (e : Nat × Nat) : Prop := (1 ≤ e.1 ∧ e.1 ≤ 4 ∧ e.2 ≤ t.2) ∧ w_i w 1440 20 = Int32.ofNat e.1 ∧ w_i w 1440 21 = Int32.ofNat e.2
theorem Mf_n {e : Nat × Nat} (h : Mf_ w t e) : ¬ w_i w 1440 20 = Int32.ofNat 0 := by
  have := h.1
  rw [h.2.1, oo_eq (by omega) (by omega)]; omega
theorem MTp_si {k : Nat} {x : Int32} (h : MTp_ w t) (hk : k ≠ 15) : MTp_ (s_i w 1440 k x) t := by
  obtain ⟨h1, h2, h3, h4, h5, h6, h7, h8⟩ := h
  exact ⟨h1, h2, h3, h4, h5, fun j hj => by rw [i_si, if_neg (by omega)]; exact h6 j hj, h7, by rw [i_si, if_neg (by omega)]; exact h8⟩
theorem m_step {D p : Nat} (hD : 1 ≤ D) (h : MTp_ w t) (h20 : w_i w 1440 20 = Int32.ofNat 0) (hi : w_i w 1440 14 = Int32.ofNat p) (hp : p ≤ t.2) : ∃ w1, (Fr_ pk_ w w1 ∧ MTp_ w1 t ∧ Mr_ w1 t (sk_ t p)) ∧ ∀ Q, cl D 154 [v_R (some 1440)] w Q = Q (Sum.inl none) w1 := by
  obtain ⟨d, rfl⟩ : ∃ d, D = d + 1 := ⟨D - 1, by omega⟩
  obtain ⟨w1, ⟨f1, g1, i1⟩, q1⟩ := m_sk (d := d) (t.2 - p) p w h (by omega) hi none
  have i1 : w_i w1 1440 14 = Int32.ofNat (sk_ t p) := i1
  have hb : sk_ t p ≤ t.2 := ce_le.2 hp
  generalize sk_ t p = b at i1 hb ⊢
  have hN := h.2.2.2.2.1
  have j20 : w_i w1 1440 20 = Int32.ofNat 0 := (f1.2.2.2.2.2 1440 20 (by unfold p14_; omega)).trans h20
  have F1 : Fr_ pk_ w w1 := fr_mo f1 (fun a k z => ⟨z.1, Or.inl z.2⟩)
  have g2 := MTp_si (k := 18) (x := Int32.ofNat b) g1 (by omega)
  have F2 : Fr_ pk_ w (s_i w1 1440 18 (Int32.ofNat b)) := fr_si F1 ⟨rfl, Or.inr (by omega)⟩
  have t1 := g1.1
  have hB := fun d Q => m_byte (d := d) (p := b) (Q := Q) g2 (by omega)
  have h7 := h.2.2.2.2.2.2.1
  by_cases hz : t.2 ≤ b
  · obtain ⟨k0, e0⟩ := tk_c0 hz
    have eb : by_i t b = Int32.ofInt (-1) := by unfold by_i; rw [if_neg (by omega)]
    refine ⟨s_i (s_i (s_i w1 1440 18 (Int32.ofNat b)) 1440 16 (Int32.ofNat 0)) 1440 19 (Int32.ofNat b), ⟨fr_si (fr_si F2 ⟨rfl, Or.inr (by omega)⟩) ⟨rfl, Or.inr (by omega)⟩, MTp_si (MTp_si g2 (by omega)) (by omega), ?_⟩, fun Q => ?_⟩
    · refine ⟨hb, ?_, ?_, ?_, ?_, ?_, fun z => by omega⟩ <;> simp only [k0, e0, i_si, Nat.reduceEqDiff, and_false, and_true, if_false, if_true, j20, i1, eq_self]
    · rw [x_154_e, q1]
      simp (disch := first | omega | decide | exact ko_b _ | assumption | (simp only [t_si, t_sl, t_sr, t_sI, t_sR, n_si, n_sl, n_sr, n_sI, n_sR, r_si, r_sl, r_sI]; first | done | omega)) only [x_154_e, x_154_b, x_154_39, x_154_40, x_154_41, x_154_44, x_154_47, x_154_48, x_154_49, x_154_52, x_154_55, x_154_56, x_154_57, x_154_58, x_154_61, x_154_62, x_154_63, x_154_66, x_154_e, x_154_b, x_154_212, x_154_213, x_154_214, x_154_217, x_154_220, bk_v, bk_n, nl_I, nl_R, nl_L, nl_0, oo_lt, oo_le, oo_eq, oo_add, oo_sub, oo_tn, oo_ir, nn_leT, nn_leF, nn_ltT, nn_ltF, nn_eqT, nn_eqF, bv_0, bv_1, ko_b, ko_1, ko_0, true_and, and_true, if_true, if_false, not_true_eq_false, not_false_eq_true, oo_02, decide_eq_true_eq, decide_eq_false_iff_not, ite_not, Nat.reduceAdd, Nat.reduceLT, Nat.reduceSub, Nat.reduceLeDiff, reduceIte, Bool.true_eq_false, Bool.false_eq_true, reduceCtorEq, eq_self, decide_true, decide_false, bv_t, bv_f, and_self, t_si, t_sl, t_sr, t_sI, t_sR, n_si, n_sl, n_sr, n_sI, n_sR, r_si, r_sl, r_sI, i1, hB, eb, i_si, Nat.reduceEqDiff, and_false]
  · have hlt : b < t.2 := by omega
    have en : ¬ by_i t b = Int32.ofInt (-1) := by
      have := h7 b
      unfold by_i
      rw [if_pos hlt]
      intro z
      have z1 := congrArg Int32.toInt z
      rw [oo_in (by omega)] at z1
      have e : (Int32.ofInt (-1)).toInt = -1 := by decide
      omega
    have hl := fun d Q => m_isl (w := s_i w1 1440 18 (Int32.ofNat b)) (d := d) (p := b) (Q := Q) h7
    have hd := fun d Q => m_isd (w := s_i w1 1440 18 (Int32.ofNat b)) (d := d) (p := b) (Q := Q) h7
    by_cases cL : ct_l (t.1 b) = true
    · obtain ⟨k1, e1⟩ := tk_c1 hlt cL
      obtain ⟨w3, ⟨f3, g3, i3⟩, q3⟩ := m_wd (d := d) (t.2 - b) b (s_i w1 1440 18 (Int32.ofNat b)) g2 (by omega) (by rw [i_si, if_neg (by omega)]; exact i1) (some (v_I (by_i t b)))
      have i3 : w_i w3 1440 14 = Int32.ofNat (tk_e t b) := by rw [e1]; exact i3
      have F3 : Fr_ pk_ w w3 := fr_tr F2 (fr_mo f3 (fun a k z => ⟨z.1, Or.inl z.2⟩))
      have j18 : w_i w3 1440 18 = Int32.ofNat b := (f3.2.2.2.2.2 1440 18 (by unfold p14_; omega)).trans (by rw [i_si, if_pos ⟨rfl, rfl⟩])
      have j21 : w_i w3 1440 20 = Int32.ofNat 0 := (f3.2.2.2.2.2 1440 20 (by unfold p14_; omega)).trans (by rw [i_si, if_neg (by omega)]; exact j20)
      have t3 := g3.1
      have cc : (decide (b < t.2) && ct_l (t.1 b)) = true := by rw [decide_eq_true hlt, cL]; rfl
      rw [cc] at hl
      refine ⟨s_i (s_i w3 1440 16 (Int32.ofNat 1)) 1440 19 (Int32.ofNat (tk_e t b)), ⟨fr_si (fr_si F3 ⟨rfl, Or.inr (by omega)⟩) ⟨rfl, Or.inr (by omega)⟩, MTp_si (MTp_si g3 (by omega)) (by omega), ?_⟩, fun Q => ?_⟩
      · refine ⟨hb, ?_, ?_, ?_, ?_, ?_, fun z => by omega⟩ <;> simp only [k1, i_si, Nat.reduceEqDiff, and_false, and_true, if_false, if_true, j21, j18, i3, eq_self]
      · rw [x_154_e, q1]
        simp (disch := first | omega | decide | exact ko_b _ | assumption | (simp only [t_si, t_sl, t_sr, t_sI, t_sR, n_si, n_sl, n_sr, n_sI, n_sR, r_si, r_sl, r_sI]; first | done | omega)) only [x_154_e, x_154_b, x_154_39, x_154_40, x_154_41, x_154_44, x_154_47, x_154_48, x_154_49, x_154_52, x_154_55, x_154_56, x_154_57, x_154_58, x_154_61, x_154_62, x_154_63, x_154_66, x_154_69, x_154_70, x_154_73, bk_v, bk_n, nl_I, nl_R, nl_L, nl_0, oo_lt, oo_le, oo_eq, oo_add, oo_sub, oo_tn, oo_ir, nn_leT, nn_leF, nn_ltT, nn_ltF, nn_eqT, nn_eqF, bv_0, bv_1, ko_b, ko_1, ko_0, true_and, and_true, if_true, if_false, not_true_eq_false, not_false_eq_true, oo_02, decide_eq_true_eq, decide_eq_false_iff_not, ite_not, Nat.reduceAdd, Nat.reduceLT, Nat.reduceSub, Nat.reduceLeDiff, reduceIte, Bool.true_eq_false, Bool.false_eq_true, reduceCtorEq, eq_self, decide_true, decide_false, bv_t, bv_f, and_self, t_si, t_sl, t_sr, t_sI, t_sR, n_si, n_sl, n_sr, n_sI, n_sR, r_si, r_sl, r_sI, i1, hB, en, hl, i_si, Nat.reduceEqDiff, and_false]
        rw [q3]
        simp (disch := first | omega | decide | exact ko_b _ | assumption | (simp only [t_si, t_sl, t_sr, t_sI, t_sR, n_si, n_sl, n_sr, n_sI, n_sR, r_si, r_sl, r_sI]; first | done | omega)) only [x_154_e, x_154_b, x_154_103, x_154_104, x_154_105, x_154_108, x_154_e, x_154_b, x_154_212, x_154_213, x_154_214, x_154_217, x_154_220, bk_v, bk_n, nl_I, nl_R, nl_L, nl_0, oo_lt, oo_le, oo_eq, oo_add, oo_sub, oo_tn, oo_ir, nn_leT, nn_leF, nn_ltT, nn_ltF, nn_eqT, nn_eqF, bv_0, bv_1, ko_b, ko_1, ko_0, true_and, and_true, if_true, if_false, not_true_eq_false, not_false_eq_true, oo_02, decide_eq_true_eq, decide_eq_false_iff_not, ite_not, Nat.reduceAdd, Nat.reduceLT, Nat.reduceSub, Nat.reduceLeDiff, reduceIte, Bool.true_eq_false, Bool.false_eq_true, reduceCtorEq, eq_self, decide_true, decide_false, bv_t, bv_f, and_self, t_si, t_sl, t_sr, t_sI, t_sR, n_si, n_sl, n_sr, n_sI, n_sR, r_si, r_sl, r_sI, i3, i_si, Nat.reduceEqDiff, and_false]
    · have cL := Bool.eq_false_iff.mpr cL
      have cc : (decide (b < t.2) && ct_l (t.1 b)) = false := by rw [cL, Bool.and_false]
      rw [cc] at hl
      by_cases cD : ct_d (t.1 b) = true
      · obtain ⟨k1, e1⟩ := tk_c2 hlt cL cD
        have g3 := MTp_si (k := 17) (x := Int32.ofNat 0) g2 (by omega)
        have F3 : Fr_ pk_ w (s_i (s_i w1 1440 18 (Int32.ofNat b)) 1440 17 (Int32.ofNat 0)) := fr_si F2 ⟨rfl, Or.inr (by omega)⟩
        obtain ⟨w3, ⟨f4, g4, i4, v4⟩, q3⟩ := m_dg (d := d) (b := b) (t.2 - b) 0 _ g3 (by omega) (by rw [i_si, if_neg (by omega), i_si, if_neg (by omega)]; exact i1) (by rw [i_si, if_pos ⟨rfl, rfl⟩]; rfl) (some (v_I (by_i t b)))
        have i4 : w_i w3 1440 14 = Int32.ofNat (tk_e t b) := by rw [e1]; exact i4
        have v4 : w_i w3 1440 17 = Int32.ofNat (mvd_ t b (tk_e t b - b)) := by rw [e1]; exact v4
        have F4 : Fr_ pk_ w w3 := fr_tr F3 (fr_mo f4 (fun a k z => by unfold p17_ at z; unfold pk_; omega))
        have j18 : w_i w3 1440 18 = Int32.ofNat b := (f4.2.2.2.2.2 1440 18 (by unfold p17_; omega)).trans (by rw [i_si, if_neg (by omega), i_si, if_pos ⟨rfl, rfl⟩])
        have j21 : w_i w3 1440 20 = Int32.ofNat 0 := (f4.2.2.2.2.2 1440 20 (by unfold p17_; omega)).trans (by rw [i_si, if_neg (by omega), i_si, if_neg (by omega)]; exact j20)
        have t3 := g4.1
        have cd : (decide (b < t.2) && ct_d (t.1 b)) = true := by rw [decide_eq_true hlt, cD]; rfl
        rw [cd] at hd
        refine ⟨s_i (s_i w3 1440 16 (Int32.ofNat 2)) 1440 19 (Int32.ofNat (tk_e t b)), ⟨fr_si (fr_si F4 ⟨rfl, Or.inr (by omega)⟩) ⟨rfl, Or.inr (by omega)⟩, MTp_si (MTp_si g4 (by omega)) (by omega), ?_⟩, fun Q => ?_⟩
        · refine ⟨hb, ?_, ?_, ?_, ?_, ?_, fun z => ?_⟩ <;> simp only [k1, i_si, Nat.reduceEqDiff, and_false, and_true, if_false, if_true, j21, j18, i4, v4, eq_self]
        · rw [x_154_e, q1]
          simp (disch := first | omega | decide | exact ko_b _ | assumption | (simp only [t_si, t_sl, t_sr, t_sI, t_sR, n_si, n_sl, n_sr, n_sI, n_sR, r_si, r_sl, r_sI]; first | done | omega)) only [x_154_e, x_154_b, x_154_39, x_154_40, x_154_41, x_154_44, x_154_47, x_154_48, x_154_49, x_154_52, x_154_55, x_154_56, x_154_57, x_154_58, x_154_61, x_154_62, x_154_63, x_154_66, x_154_69, x_154_70, x_154_73, x_154_e, x_154_b, x_154_111, x_154_112, x_154_115, x_154_118, x_154_119, x_154_120, bk_v, bk_n, nl_I, nl_R, nl_L, nl_0, oo_lt, oo_le, oo_eq, oo_add, oo_sub, oo_tn, oo_ir, nn_leT, nn_leF, nn_ltT, nn_ltF, nn_eqT, nn_eqF, bv_0, bv_1, ko_b, ko_1, ko_0, true_and, and_true, if_true, if_false, not_true_eq_false, not_false_eq_true, oo_02, decide_eq_true_eq, decide_eq_false_iff_not, ite_not, Nat.reduceAdd, Nat.reduceLT, Nat.reduceSub, Nat.reduceLeDiff, reduceIte, Bool.true_eq_false, Bool.false_eq_true, reduceCtorEq, eq_self, decide_true, decide_false, bv_t, bv_f, and_self, t_si, t_sl, t_sr, t_sI, t_sR, n_si, n_sl, n_sr, n_sI, n_sR, r_si, r_sl, r_sI, i1, hB, en, hl, hd, i_si, Nat.reduceEqDiff, and_false]
          rw [q3]
          simp (disch := first | omega | decide | exact ko_b _ | assumption | (simp only [t_si, t_sl, t_sr, t_sI, t_sR, n_si, n_sl, n_sr, n_sI, n_sR, r_si, r_sl, r_sI]; first | done | omega)) only [x_154_e, x_154_b, x_154_178, x_154_179, x_154_180, x_154_183, x_154_e, x_154_b, x_154_212, x_154_213, x_154_214, x_154_217, x_154_220, bk_v, bk_n, nl_I, nl_R, nl_L, nl_0, oo_lt, oo_le, oo_eq, oo_add, oo_sub, oo_tn, oo_ir, nn_leT, nn_leF, nn_ltT, nn_ltF, nn_eqT, nn_eqF, bv_0, bv_1, ko_b, ko_1, ko_0, true_and, and_true, if_true, if_false, not_true_eq_false, not_false_eq_true, oo_02, decide_eq_true_eq, decide_eq_false_iff_not, ite_not, Nat.reduceAdd, Nat.reduceLT, Nat.reduceSub, Nat.reduceLeDiff, reduceIte, Bool.true_eq_false, Bool.false_eq_true, reduceCtorEq, eq_self, decide_true, decide_false, bv_t, bv_f, and_self, t_si, t_sl, t_sr, t_sI, t_sR, n_si, n_sl, n_sr, n_sI, n_sR, r_si, r_sl, r_sI, i4, i_si, Nat.reduceEqDiff, and_false]
      · have cD := Bool.eq_false_iff.mpr cD
        have cd : (decide (b < t.2) && ct_d (t.1 b)) = false := by rw [cD, Bool.and_false]
        rw [cd] at hd
        obtain ⟨k1, e1⟩ := tk_c3 hlt cL cD
        have hs := fun d Q => m_iss (w := s_i (s_i w1 1440 18 (Int32.ofNat b)) 1440 14 (Int32.ofNat (b + 1))) (d := d) (p := b) (Q := Q) h7 hlt
        refine ⟨s_i (s_i (s_i (s_i w1 1440 18 (Int32.ofNat b)) 1440 14 (Int32.ofNat (b + 1))) 1440 16 (Int32.ofNat (tk_k t b))) 1440 19 (Int32.ofNat (tk_e t b)), ⟨fr_si (fr_si (fr_si F2 ⟨rfl, Or.inl rfl⟩) ⟨rfl, Or.inr (by omega)⟩) ⟨rfl, Or.inr (by omega)⟩, MTp_si (MTp_si (MTp_si g2 (by omega)) (by omega)) (by omega), ?_⟩, fun Q => ?_⟩
        · have kn : tk_k t b ≠ 2 := by rw [k1]; split <;> omega
          refine ⟨hb, ?_, ?_, ?_, ?_, ?_, fun z => absurd z kn⟩ <;> simp only [e1, i_si, Nat.reduceEqDiff, and_false, and_true, if_false, if_true, j20, i1, eq_self]
        · rw [x_154_e, q1]
          by_cases cs : ct_s (t.1 b) = true
          · rw [cs, if_pos rfl] at k1
            rw [cs] at hs
            simp (disch := first | omega | decide | exact ko_b _ | assumption | (simp only [t_si, t_sl, t_sr, t_sI, t_sR, n_si, n_sl, n_sr, n_sI, n_sR, r_si, r_sl, r_sI]; first | done | omega)) only [x_154_e, x_154_b, x_154_39, x_154_40, x_154_41, x_154_44, x_154_47, x_154_48, x_154_49, x_154_52, x_154_55, x_154_56, x_154_57, x_154_58, x_154_61, x_154_62, x_154_63, x_154_66, x_154_69, x_154_70, x_154_73, x_154_e, x_154_b, x_154_111, x_154_112, x_154_115, x_154_e, x_154_b, x_154_186, x_154_187, x_154_188, x_154_191, x_154_192, x_154_193, x_154_196, x_154_197, x_154_198, x_154_201, x_154_204, x_154_205, x_154_208, x_154_209, x_154_212, x_154_213, x_154_214, x_154_217, x_154_220, bk_v, bk_n, nl_I, nl_R, nl_L, nl_0, oo_lt, oo_le, oo_eq, oo_add, oo_sub, oo_tn, oo_ir, nn_leT, nn_leF, nn_ltT, nn_ltF, nn_eqT, nn_eqF, bv_0, bv_1, ko_b, ko_1, ko_0, true_and, and_true, if_true, if_false, not_true_eq_false, not_false_eq_true, oo_02, decide_eq_true_eq, decide_eq_false_iff_not, ite_not, Nat.reduceAdd, Nat.reduceLT, Nat.reduceSub, Nat.reduceLeDiff, reduceIte, Bool.true_eq_false, Bool.false_eq_true, reduceCtorEq, eq_self, decide_true, decide_false, bv_t, bv_f, and_self, t_si, t_sl, t_sr, t_sI, t_sR, n_si, n_sl, n_sr, n_sI, n_sR, r_si, r_sl, r_sI, i1, hB, en, hl, hd, hs, k1, e1, i_si, Nat.reduceEqDiff, and_false]
          · have cs := Bool.eq_false_iff.mpr cs
            rw [cs, if_neg Bool.false_ne_true] at k1
            rw [cs] at hs
            simp (disch := first | omega | decide | exact ko_b _ | assumption | (simp only [t_si, t_sl, t_sr, t_sI, t_sR, n_si, n_sl, n_sr, n_sI, n_sR, r_si, r_sl, r_sI]; first | done | omega)) only [x_154_e, x_154_b, x_154_39, x_154_40, x_154_41, x_154_44, x_154_47, x_154_48, x_154_49, x_154_52, x_154_55, x_154_56, x_154_57, x_154_58, x_154_61, x_154_62, x_154_63, x_154_66, x_154_69, x_154_70, x_154_73, x_154_e, x_154_b, x_154_111, x_154_112, x_154_115, x_154_e, x_154_b, x_154_186, x_154_187, x_154_188, x_154_191, x_154_192, x_154_193, x_154_196, x_154_197, x_154_198, x_154_201, x_154_204, x_154_205, x_154_208, x_154_209, x_154_212, x_154_213, x_154_214, x_154_217, x_154_220, bk_v, bk_n, nl_I, nl_R, nl_L, nl_0, oo_lt, oo_le, oo_eq, oo_add, oo_sub, oo_tn, oo_ir, nn_leT, nn_leF, nn_ltT, nn_ltF, nn_eqT, nn_eqF, bv_0, bv_1, ko_b, ko_1, ko_0, true_and, and_true, if_true, if_false, not_true_eq_false, not_false_eq_true, oo_02, decide_eq_true_eq, decide_eq_false_iff_not, ite_not, Nat.reduceAdd, Nat.reduceLT, Nat.reduceSub, Nat.reduceLeDiff, reduceIte, Bool.true_eq_false, Bool.false_eq_true, reduceCtorEq, eq_self, decide_true, decide_false, bv_t, bv_f, and_self, t_si, t_sl, t_sr, t_sI, t_sR, n_si, n_sl, n_sr, n_sI, n_sR, r_si, r_sl, r_sI, i1, hB, en, hl, hd, hs, k1, e1, i_si, Nat.reduceEqDiff, and_false]
/-! faults -/
def wr_ (w : Wd) (c b : Nat) : Wd := s_i (s_i w 1440 20 (Int32.ofNat c)) 1440 21 (Int32.ofNat b)
theorem m_wr {d b c : Nat} {Q : Q_} (hM : w_t w 1440 = 25) (hr : Mr_ w t b) : cl d 162 [v_R (some 1440), v_I (Int32.ofNat c)] w Q = Q (Sum.inl none) (wr_ w c b) := by
  obtain ⟨-, h1, -, h2, -⟩ := hr
  unfold wr_
  simp (disch := first | omega | decide | exact ko_b _ | assumption | (simp only [t_si, t_sl, t_sr, t_sI, t_sR, n_si, n_sl, n_sr, n_sI, n_sR, r_si, r_sl, r_sI]; first | done | omega)) only [x_162_e, x_162_b, x_162_0, x_162_1, x_162_4, x_162_7, x_162_8, x_162_9, x_162_10, x_162_13, x_162_14, x_162_15, x_162_18, x_162_21, bk_v, bk_n, nl_I, nl_R, nl_L, nl_0, oo_lt, oo_le, oo_eq, oo_add, oo_sub, oo_tn, oo_ir, nn_leT, nn_leF, nn_ltT, nn_ltF, nn_eqT, nn_eqF, bv_0, bv_1, ko_b, ko_1, ko_0, true_and, and_true, if_true, if_false, not_true_eq_false, not_false_eq_true, oo_02, decide_eq_true_eq, decide_eq_false_iff_not, ite_not, Nat.reduceAdd, Nat.reduceLT, Nat.reduceSub, Nat.reduceLeDiff, reduceIte, Bool.true_eq_false, Bool.false_eq_true, reduceCtorEq, eq_self, decide_true, decide_false, bv_t, bv_f, and_self, t_si, t_sl, t_sr, t_sI, t_sR, n_si, n_sl, n_sr, n_sI, n_sR, r_si, r_sl, r_sI, h1, h2, i_si, Nat.reduceEqDiff, and_false]
theorem wr_f {b c : Nat} (hM : MTp_ w t) (hr : Mr_ w t b) (hc : 1 ≤ c ∧ c ≤ 4) : Fr_ pk_ w (wr_ w c b) ∧ MTp_ (wr_ w c b) t ∧ Mf_ (wr_ w c b) t (c, b) := by
  refine ⟨fr_si (fr_si (fr_rf _ _) ⟨rfl, Or.inr (by omega)⟩) ⟨rfl, Or.inr (by omega)⟩, MTp_si (MTp_si hM (by omega)) (by omega), ⟨⟨hc.1, hc.2, hr.1⟩, ?_, ?_⟩⟩
  · unfold wr_; rw [i_si, if_neg (by omega), i_si, if_pos ⟨rfl, rfl⟩]
  · unfold wr_; rw [i_si, if_pos ⟨rfl, rfl⟩]
theorem m_wrf {d : Nat} {e : Nat × Nat} {x : Int32} {Q : Q_} (hM : w_t w 1440 = 25) (hf : Mf_ w t e) : cl d 162 [v_R (some 1440), v_I x] w Q = Q (Sum.inl none) w := by
  have hn := Mf_n hf
  simp (disch := first | omega | decide | exact ko_b _ | assumption | (simp only [t_si, t_sl, t_sr, t_sI, t_sR, n_si, n_sl, n_sr, n_sI, n_sR, r_si, r_sl, r_sI]; first | done | omega)) only [x_162_e, x_162_b, x_162_0, x_162_1, x_162_4, x_162_7, x_162_8, x_162_9, x_162_10, x_162_13, x_162_14, x_162_15, x_162_18, x_162_21, bk_v, bk_n, nl_I, nl_R, nl_L, nl_0, oo_lt, oo_le, oo_eq, oo_add, oo_sub, oo_tn, oo_ir, nn_leT, nn_leF, nn_ltT, nn_ltF, nn_eqT, nn_eqF, bv_0, bv_1, ko_b, ko_1, ko_0, true_and, and_true, if_true, if_false, not_true_eq_false, not_false_eq_true, oo_02, decide_eq_true_eq, decide_eq_false_iff_not, ite_not, Nat.reduceAdd, Nat.reduceLT, Nat.reduceSub, Nat.reduceLeDiff, reduceIte, Bool.true_eq_false, Bool.false_eq_true, reduceCtorEq, eq_self, decide_true, decide_false, bv_t, bv_f, and_self, t_si, t_sl, t_sr, t_sI, t_sR, n_si, n_sl, n_sr, n_sI, n_sR, r_si, r_sl, r_sI, hn]
/-! strings that are constant -/
def Sc_ (w : Wd) (q p : Nat) (s : List Nat) : Prop := w_t w q = 18 ∧ w_r w q 0 = some p ∧ w_i w q 1 = Int32.ofNat 0 ∧ w_t w p = 9 ∧ w_n w p = s.length ∧ ∀ k, k < s.length → w_i w p k = Int32.ofNat (s.getD k 0)
def As_ (s : List Nat) : Prop := s.length < 100 ∧ ∀ k, k < s.length → s.getD k 0 < 128
theorem sr_0 (x : Int32) : x >>> (Int32.ofNat 0 &&& 31) = x := by
  have e : Int32.ofNat 0 &&& 31 = 0 := by decide
  rw [e]
  exact Int32.shiftRight_zero
theorem ko_4 : k_o 4 (Int32.ofNat 0) = true := by decide
theorem ch_26 : ∀ c : Fin 128, ((Int32.ofNat c.val &&& Int32.ofNat 255).toUInt32 % 65536).toInt32 = Int32.ofNat c.val ∧ k_o 5 (Int32.ofNat c.val) = true := by decide +kernel
variable {q p : Nat} {s : List Nat}
theorem st_len {d : Nat} {Q : Q_} (hs : Sc_ w q p s) : cl (d + 1) 338 [v_R (some q)] w Q = Q (Sum.inl (some (v_I (Int32.ofNat s.length)))) w := by
  obtain ⟨h1, h2, h3, h4, h5, h6⟩ := hs
  have k4 := ko_4
  simp (disch := first | omega | decide | exact ko_b _ | assumption | (simp only [t_si, t_sl, t_sr, t_sI, t_sR, n_si, n_sl, n_sr, n_sI, n_sR, r_si, r_sl, r_sI]; first | done | omega)) only [x_338_e, x_338_b, x_338_0, x_338_1, x_338_4, x_338_5, x_338_6, x_338_9, x_338_10, x_339_e, x_339_b, x_339_0, x_339_3, x_339_6, x_339_7, x_339_10, x_339_13, x_339_14, bk_v, bk_n, nl_I, nl_R, nl_L, nl_0, oo_lt, oo_le, oo_eq, oo_add, oo_sub, oo_tn, oo_ir, nn_leT, nn_leF, nn_ltT, nn_ltF, nn_eqT, nn_eqF, bv_0, bv_1, ko_b, ko_1, ko_0, true_and, and_true, if_true, if_false, not_true_eq_false, not_false_eq_true, oo_02, decide_eq_true_eq, decide_eq_false_iff_not, ite_not, Nat.reduceAdd, Nat.reduceLT, Nat.reduceSub, Nat.reduceLeDiff, reduceIte, Bool.true_eq_false, Bool.false_eq_true, reduceCtorEq, eq_self, decide_true, decide_false, bv_t, bv_f, and_self, t_si, t_sl, t_sr, t_sI, t_sR, n_si, n_sl, n_sr, n_sI, n_sR, r_si, r_sl, r_sI, h2, h3, h5, sr_0]
theorem st_ch {d k : Nat} {Q : Q_} (hs : Sc_ w q p s) (ha : As_ s) (hk : k < s.length) : cl (d + 3) 348 [v_R (some q), v_I (Int32.ofNat k)] w Q = Q (Sum.inl (some (v_I (Int32.ofNat (s.getD k 0))))) w := by
  obtain ⟨h1, h2, h3, h4, h5, h6⟩ := hs
  obtain ⟨c1, c2⟩ := ch_26 ⟨s.getD k 0, ha.2 k hk⟩
  have c1 : ((Int32.ofNat (s.getD k 0) &&& Int32.ofNat 255).toUInt32 % 65536).toInt32 = Int32.ofNat (s.getD k 0) := c1
  have c2 : k_o 5 (Int32.ofNat (s.getD k 0)) = true := c2
  have h9 := h6 k hk
  have hL := ha.1
  simp (disch := first | omega | decide | exact ko_b _ | assumption | (simp only [t_si, t_sl, t_sr, t_sI, t_sR, n_si, n_sl, n_sr, n_sI, n_sR, r_si, r_sl, r_sI]; first | done | omega)) only [x_348_e, x_348_b, x_348_0, x_348_1, x_348_4, x_348_7, x_348_8, x_348_11, x_348_12, x_348_15, x_348_16, x_348_17, x_348_20, x_348_24, x_349_e, x_349_b, x_349_0, x_349_3, x_349_6, x_349_7, x_349_10, x_349_13, x_349_14, x_349_17, x_349_18, x_300_e, x_300_b, x_300_0, x_300_1, x_300_2, x_300_3, x_300_6, x_300_7, x_300_8, x_300_9, x_300_12, x_300_13, x_300_14, x_344_e, x_344_b, x_344_0, x_344_1, x_344_2, x_344_5, x_344_8, x_344_9, x_296_e, x_296_b, x_296_0, x_296_1, x_296_4, x_296_5, x_296_6, x_296_9, x_296_10, x_296_11, x_296_16, x_296_17, bk_v, bk_n, nl_I, nl_R, nl_L, nl_0, oo_lt, oo_le, oo_eq, oo_add, oo_sub, oo_tn, oo_ir, nn_leT, nn_leF, nn_ltT, nn_ltF, nn_eqT, nn_eqF, bv_0, bv_1, ko_b, ko_1, ko_0, true_and, and_true, if_true, if_false, not_true_eq_false, not_false_eq_true, oo_02, decide_eq_true_eq, decide_eq_false_iff_not, ite_not, Nat.reduceAdd, Nat.reduceLT, Nat.reduceSub, Nat.reduceLeDiff, reduceIte, Bool.true_eq_false, Bool.false_eq_true, reduceCtorEq, eq_self, decide_true, decide_false, bv_t, bv_f, and_self, t_si, t_sl, t_sr, t_sI, t_sR, n_si, n_sl, n_sr, n_sI, n_sR, r_si, r_sl, r_sI, h2, h3, h5, h9, c1]
/-! words -/
theorem m_isx {d : Nat} {Q : Q_} {a3 : Int32} : wp d 160 39 [some (v_R (some 1440)), some (v_R (some q)), some (v_I (Int32.ofNat 0)), some (v_I a3)] [] w Q = Q (Sum.inl (some (v_I (b_v false)))) w := by
  simp (disch := first | omega | decide | exact ko_b _ | assumption | (simp only [t_si, t_sl, t_sr, t_sI, t_sR, n_si, n_sl, n_sr, n_sI, n_sR, r_si, r_sl, r_sI]; first | done | omega)) only [x_160_e, x_160_b, x_160_39, x_160_40, x_160_e, x_160_b, x_160_82, x_160_83, bk_v, bk_n, nl_I, nl_R, nl_L, nl_0, oo_lt, oo_le, oo_eq, oo_add, oo_sub, oo_tn, oo_ir, nn_leT, nn_leF, nn_ltT, nn_ltF, nn_eqT, nn_eqF, bv_0, bv_1, ko_b, ko_1, ko_0, true_and, and_true, if_true, if_false, not_true_eq_false, not_false_eq_true, oo_02, decide_eq_true_eq, decide_eq_false_iff_not, ite_not, Nat.reduceAdd, Nat.reduceLT, Nat.reduceSub, Nat.reduceLeDiff, reduceIte, Bool.true_eq_false, Bool.false_eq_true, reduceCtorEq, eq_self, decide_true, decide_false, bv_t, bv_f, and_self, t_si, t_sl, t_sr, t_sI, t_sR, n_si, n_sl, n_sr, n_sI, n_sR, r_si, r_sl, r_sI]
theorem m_isl3 {d b : Nat} {Q : Q_} (hs : Sc_ w q p s) (ha : As_ s) (h : MTp_ w t) (hb : b + s.length ≤ t.2) (h18 : w_i w 1440 18 = Int32.ofNat b) : ∀ f k, k + f = s.length → wp (d + 4) 160 39 [some (v_R (some 1440)), some (v_R (some q)), some (v_I (Int32.ofNat 1)), some (v_I (Int32.ofNat k))] [] w Q = Q (Sum.inl (some (v_I (b_v (decide (∀ j, j < s.length → k ≤ j → t.1 (b + j) = s.getD j 0)))))) w := by
  have hn := fun d Q => st_len (d := d) (Q := Q) hs
  have h0 := h.1
  have h2 := h.2.1
  have h3 := h.2.2.1
  have h4 := h.2.2.2.1
  have h5 := h.2.2.2.2.1
  have h7 := h.2.2.2.2.2.2.1
  have hq := hs.1
  have hL := ha.1
  intro f
  induction f with
  | zero =>
    intro k hk
    have e : decide (∀ j, j < s.length → k ≤ j → t.1 (b + j) = s.getD j 0) = true := decide_eq_true (fun j h1 h2 => by omega)
    rw [e, x_160_39]
    simp (disch := first | omega | decide | exact ko_b _ | assumption | (simp only [t_si, t_sl, t_sr, t_sI, t_sR, n_si, n_sl, n_sr, n_sI, n_sR, r_si, r_sl, r_sI]; first | done | omega)) only [x_160_e, x_160_b, x_160_40, x_160_43, x_160_44, x_160_45, x_160_48, x_160_e, x_160_b, x_160_82, x_160_83, bk_v, bk_n, nl_I, nl_R, nl_L, nl_0, oo_lt, oo_le, oo_eq, oo_add, oo_sub, oo_tn, oo_ir, nn_leT, nn_leF, nn_ltT, nn_ltF, nn_eqT, nn_eqF, bv_0, bv_1, ko_b, ko_1, ko_0, true_and, and_true, if_true, if_false, not_true_eq_false, not_false_eq_true, oo_02, decide_eq_true_eq, decide_eq_false_iff_not, ite_not, Nat.reduceAdd, Nat.reduceLT, Nat.reduceSub, Nat.reduceLeDiff, reduceIte, Bool.true_eq_false, Bool.false_eq_true, reduceCtorEq, eq_self, decide_true, decide_false, bv_t, bv_f, and_self, t_si, t_sl, t_sr, t_sI, t_sR, n_si, n_sl, n_sr, n_sI, n_sR, r_si, r_sl, r_sI, hn]
  | succ f ih =>
    intro k hk
    have hk1 : k < s.length := by omega
    have hc := fun d Q => st_ch (d := d) (Q := Q) hs ha hk1
    have hi : w_i w 1452 (b + k) = Int32.ofNat (t.1 (b + k)) := h.2.2.2.2.2.1 (b + k) (by omega)
    have h8 := h7 (b + k)
    have h9 := ha.2 k hk1
    by_cases e : s.getD k 0 = t.1 (b + k)
    · have e2 : decide (∀ j, j < s.length → k ≤ j → t.1 (b + j) = s.getD j 0) = decide (∀ j, j < s.length → k + 1 ≤ j → t.1 (b + j) = s.getD j 0) := by
        refine decide_eq_decide.mpr ⟨fun z j h1 h2 => z j h1 (by omega), fun z j h1 h2 => ?_⟩
        by_cases ej : j = k
        · rw [ej]; exact e.symm
        · exact z j h1 (by omega)
      rw [e2, ← ih (k + 1) (by omega), x_160_39]
      simp (disch := first | omega | decide | exact ko_b _ | assumption | (simp only [t_si, t_sl, t_sr, t_sI, t_sR, n_si, n_sl, n_sr, n_sI, n_sR, r_si, r_sl, r_sI]; first | done | omega)) only [x_160_e, x_160_b, x_160_40, x_160_43, x_160_44, x_160_45, x_160_48, x_160_51, x_160_52, x_160_53, x_160_56, x_160_57, x_160_60, x_160_61, x_160_64, x_160_65, x_160_66, x_160_67, x_160_70, x_160_71, x_160_74, x_160_75, x_160_76, x_160_79, bk_v, bk_n, nl_I, nl_R, nl_L, nl_0, oo_lt, oo_le, oo_eq, oo_add, oo_sub, oo_tn, oo_ir, nn_leT, nn_leF, nn_ltT, nn_ltF, nn_eqT, nn_eqF, bv_0, bv_1, ko_b, ko_1, ko_0, true_and, and_true, if_true, if_false, not_true_eq_false, not_false_eq_true, oo_02, decide_eq_true_eq, decide_eq_false_iff_not, ite_not, Nat.reduceAdd, Nat.reduceLT, Nat.reduceSub, Nat.reduceLeDiff, reduceIte, Bool.true_eq_false, Bool.false_eq_true, reduceCtorEq, eq_self, decide_true, decide_false, bv_t, bv_f, and_self, t_si, t_sl, t_sr, t_sI, t_sR, n_si, n_sl, n_sr, n_sI, n_sR, r_si, r_sl, r_sI, hn, hc, h18, h2, h4, hi, e]
    · have e2 : decide (∀ j, j < s.length → k ≤ j → t.1 (b + j) = s.getD j 0) = false := decide_eq_false (fun z => e (z k hk1 (Nat.le_refl _)).symm)
      have e3 : ¬ Int32.ofNat (s.getD k 0) = Int32.ofNat (t.1 (b + k)) := by rw [oo_eq (by omega) (by omega)]; exact e
      rw [e2, ← m_isx (w := w) (Q := Q) (d := d + 4) (q := q) (a3 := Int32.ofNat (k + 1)), x_160_39]
      simp (disch := first | omega | decide | exact ko_b _ | assumption | (simp only [t_si, t_sl, t_sr, t_sI, t_sR, n_si, n_sl, n_sr, n_sI, n_sR, r_si, r_sl, r_sI]; first | done | omega)) only [x_160_e, x_160_b, x_160_40, x_160_43, x_160_44, x_160_45, x_160_48, x_160_51, x_160_52, x_160_53, x_160_56, x_160_57, x_160_60, x_160_61, x_160_64, x_160_65, x_160_66, x_160_67, x_160_70, x_160_71, x_160_74, x_160_75, x_160_76, x_160_79, bk_v, bk_n, nl_I, nl_R, nl_L, nl_0, oo_lt, oo_le, oo_eq, oo_add, oo_sub, oo_tn, oo_ir, nn_leT, nn_leF, nn_ltT, nn_ltF, nn_eqT, nn_eqF, bv_0, bv_1, ko_b, ko_1, ko_0, true_and, and_true, if_true, if_false, not_true_eq_false, not_false_eq_true, oo_02, decide_eq_true_eq, decide_eq_false_iff_not, ite_not, Nat.reduceAdd, Nat.reduceLT, Nat.reduceSub, Nat.reduceLeDiff, reduceIte, Bool.true_eq_false, Bool.false_eq_true, reduceCtorEq, eq_self, decide_true, decide_false, bv_t, bv_f, and_self, t_si, t_sl, t_sr, t_sI, t_sR, n_si, n_sl, n_sr, n_sI, n_sR, r_si, r_sl, r_sI, hn, hc, h18, h2, h4, hi, e3]
theorem m_isw {D b : Nat} {Q : Q_} (hD : 4 ≤ D) (hs : Sc_ w q p s) (ha : As_ s) (h : MTp_ w t) (hr : Mr_ w t b) : cl D 160 [v_R (some 1440), v_R (some q)] w Q = Q (Sum.inl (some (v_I (b_v (is_w t b s))))) w := by
  obtain ⟨d, rfl⟩ : ∃ d, D = d + 4 := ⟨D - 4, by omega⟩
  obtain ⟨hb, r1, r2, r3, r4, r5, -⟩ := hr
  have hn := fun d Q => st_len (d := d) (Q := Q) hs
  have h0 := h.1
  have h5 := h.2.2.2.2.1
  have hq := hs.1
  have hL := ha.1
  have hk5 := tk_k5 (t := t) (b := b)
  obtain ⟨e1, e2⟩ := tk_ebd hb
  unfold is_w
  by_cases k1 : tk_k t b = 1
  · by_cases k2 : s.length = tk_e t b - b
    · have e3 : decide (∀ k, k < s.length → t.1 (b + k) = s.getD k 0) = decide (∀ j, j < s.length → 0 ≤ j → t.1 (b + j) = s.getD j 0) := decide_eq_decide.mpr ⟨fun z j h2 _ => z j h2, fun z j h2 => z j h2 (Nat.zero_le _)⟩
      rw [decide_eq_true k1, decide_eq_true k2.symm, Bool.true_and, Bool.true_and, e3, ← m_isl3 (Q := Q) (d := d) hs ha h (by omega) r3 s.length 0 (by omega)]
      simp (disch := first | omega | decide | exact ko_b _ | assumption | (simp only [t_si, t_sl, t_sr, t_sI, t_sR, n_si, n_sl, n_sr, n_sI, n_sR, r_si, r_sl, r_sI]; first | done | omega)) only [x_160_e, x_160_b, x_160_0, x_160_1, x_160_4, x_160_7, x_160_8, x_160_11, x_160_12, x_160_15, x_160_16, x_160_19, x_160_20, x_160_23, x_160_24, x_160_27, x_160_28, x_160_31, x_160_32, x_160_35, x_160_36, x_160_37, x_160_38, bk_v, bk_n, nl_I, nl_R, nl_L, nl_0, oo_lt, oo_le, oo_eq, oo_add, oo_sub, oo_tn, oo_ir, nn_leT, nn_leF, nn_ltT, nn_ltF, nn_eqT, nn_eqF, bv_0, bv_1, ko_b, ko_1, ko_0, true_and, and_true, if_true, if_false, not_true_eq_false, not_false_eq_true, oo_02, decide_eq_true_eq, decide_eq_false_iff_not, ite_not, Nat.reduceAdd, Nat.reduceLT, Nat.reduceSub, Nat.reduceLeDiff, reduceIte, Bool.true_eq_false, Bool.false_eq_true, reduceCtorEq, eq_self, decide_true, decide_false, bv_t, bv_f, and_self, t_si, t_sl, t_sr, t_sI, t_sR, n_si, n_sl, n_sr, n_sI, n_sR, r_si, r_sl, r_sI, r1, r3, r4, r5, k1, hn, k2]
    · rw [decide_eq_false (show ¬ tk_e t b - b = s.length from fun z => k2 z.symm), Bool.and_false, Bool.false_and, ← m_isx (w := w) (Q := Q) (d := d + 4) (q := q) (a3 := Int32.ofNat 0)]
      simp (disch := first | omega | decide | exact ko_b _ | assumption | (simp only [t_si, t_sl, t_sr, t_sI, t_sR, n_si, n_sl, n_sr, n_sI, n_sR, r_si, r_sl, r_sI]; first | done | omega)) only [x_160_e, x_160_b, x_160_0, x_160_1, x_160_4, x_160_7, x_160_8, x_160_11, x_160_12, x_160_15, x_160_16, x_160_19, x_160_20, x_160_23, x_160_24, x_160_27, x_160_28, x_160_31, x_160_32, x_160_35, x_160_36, x_160_37, x_160_38, bk_v, bk_n, nl_I, nl_R, nl_L, nl_0, oo_lt, oo_le, oo_eq, oo_add, oo_sub, oo_tn, oo_ir, nn_leT, nn_leF, nn_ltT, nn_ltF, nn_eqT, nn_eqF, bv_0, bv_1, ko_b, ko_1, ko_0, true_and, and_true, if_true, if_false, not_true_eq_false, not_false_eq_true, oo_02, decide_eq_true_eq, decide_eq_false_iff_not, ite_not, Nat.reduceAdd, Nat.reduceLT, Nat.reduceSub, Nat.reduceLeDiff, reduceIte, Bool.true_eq_false, Bool.false_eq_true, reduceCtorEq, eq_self, decide_true, decide_false, bv_t, bv_f, and_self, t_si, t_sl, t_sr, t_sI, t_sR, n_si, n_sl, n_sr, n_sI, n_sR, r_si, r_sl, r_sI, r1, r3, r4, r5, k1, hn, k2]
  · rw [decide_eq_false k1, Bool.false_and, Bool.false_and, ← m_isx (w := w) (Q := Q) (d := d + 4) (q := q) (a3 := Int32.ofNat 0)]
    simp (disch := first | omega | decide | exact ko_b _ | assumption | (simp only [t_si, t_sl, t_sr, t_sI, t_sR, n_si, n_sl, n_sr, n_sI, n_sR, r_si, r_sl, r_sI]; first | done | omega)) only [x_160_e, x_160_b, x_160_0, x_160_1, x_160_4, x_160_7, x_160_8, x_160_11, x_160_12, x_160_15, x_160_16, x_160_19, x_160_20, x_160_23, x_160_24, x_160_27, x_160_28, x_160_31, x_160_32, x_160_35, x_160_36, x_160_37, x_160_38, bk_v, bk_n, nl_I, nl_R, nl_L, nl_0, oo_lt, oo_le, oo_eq, oo_add, oo_sub, oo_tn, oo_ir, nn_leT, nn_leF, nn_ltT, nn_ltF, nn_eqT, nn_eqF, bv_0, bv_1, ko_b, ko_1, ko_0, true_and, and_true, if_true, if_false, not_true_eq_false, not_false_eq_true, oo_02, decide_eq_true_eq, decide_eq_false_iff_not, ite_not, Nat.reduceAdd, Nat.reduceLT, Nat.reduceSub, Nat.reduceLeDiff, reduceIte, Bool.true_eq_false, Bool.false_eq_true, reduceCtorEq, eq_self, decide_true, decide_false, bv_t, bv_f, and_self, t_si, t_sl, t_sr, t_sI, t_sR, n_si, n_sl, n_sr, n_sI, n_sR, r_si, r_sl, r_sI, r1, r3, r4, r5, k1, hn]
theorem m_iswf {D : Nat} {e : Nat × Nat} {Q : Q_} (hM : w_t w 1440 = 25) (hf : Mf_ w t e) : cl D 160 [v_R (some 1440), v_R (some q)] w Q = Q (Sum.inl (some (v_I (b_v false)))) w := by
  have hn := Mf_n hf
  rw [← m_isx (w := w) (Q := Q) (d := D) (q := q) (a3 := Int32.ofNat 0)]
  simp (disch := first | omega | decide | exact ko_b _ | assumption | (simp only [t_si, t_sl, t_sr, t_sI, t_sR, n_si, n_sl, n_sr, n_sI, n_sR, r_si, r_sl, r_sI]; first | done | omega)) only [x_160_e, x_160_b, x_160_0, x_160_1, x_160_4, x_160_7, x_160_8, x_160_11, x_160_12, x_160_15, x_160_16, x_160_19, x_160_20, x_160_23, x_160_24, x_160_27, x_160_28, x_160_31, x_160_32, x_160_35, x_160_36, x_160_37, x_160_38, bk_v, bk_n, nl_I, nl_R, nl_L, nl_0, oo_lt, oo_le, oo_eq, oo_add, oo_sub, oo_tn, oo_ir, nn_leT, nn_leF, nn_ltT, nn_ltF, nn_eqT, nn_eqF, bv_0, bv_1, ko_b, ko_1, ko_0, true_and, and_true, if_true, if_false, not_true_eq_false, not_false_eq_true, oo_02, decide_eq_true_eq, decide_eq_false_iff_not, ite_not, Nat.reduceAdd, Nat.reduceLT, Nat.reduceSub, Nat.reduceLeDiff, reduceIte, Bool.true_eq_false, Bool.false_eq_true, reduceCtorEq, eq_self, decide_true, decide_false, bv_t, bv_f, and_self, t_si, t_sl, t_sr, t_sI, t_sR, n_si, n_sl, n_sr, n_sI, n_sR, r_si, r_sl, r_sI, hn]
/-! marks -/
theorem m_isk {D b c : Nat} {Q : Q_} (h : MTp_ w t) (hr : Mr_ w t b) (hc : c < 128) : cl D 165 [v_R (some 1440), v_I (Int32.ofNat c)] w Q = Q (Sum.inl (some (v_I (b_v (is_s t b c))))) w := by
  obtain ⟨hb, r1, r2, r3, r4, r5, -⟩ := hr
  have h0 := h.1
  have h2 := h.2.1
  have h3 := h.2.2.1
  have h4 := h.2.2.2.1
  have h5 := h.2.2.2.2.1
  have h8 := h.2.2.2.2.2.2.1 b
  have hk5 := tk_k5 (t := t) (b := b)
  unfold is_s
  by_cases k1 : tk_k t b = 3
  · have hlt := (tk_lt (t := t) (b := b) (by omega)).1
    have hi : w_i w 1452 b = Int32.ofNat (t.1 b) := h.2.2.2.2.2.1 b (by omega)
    by_cases k2 : t.1 b = c
    · rw [decide_eq_true k1, decide_eq_true k2]
      simp (disch := first | omega | decide | exact ko_b _ | assumption | (simp only [t_si, t_sl, t_sr, t_sI, t_sR, n_si, n_sl, n_sr, n_sI, n_sR, r_si, r_sl, r_sI]; first | done | omega)) only [x_165_e, x_165_b, x_165_0, x_165_1, x_165_4, x_165_7, x_165_8, x_165_11, x_165_12, x_165_15, x_165_16, x_165_19, x_165_20, x_165_23, x_165_24, x_165_25, x_165_28, x_165_29, x_165_32, x_165_33, bk_v, bk_n, nl_I, nl_R, nl_L, nl_0, oo_lt, oo_le, oo_eq, oo_add, oo_sub, oo_tn, oo_ir, nn_leT, nn_leF, nn_ltT, nn_ltF, nn_eqT, nn_eqF, bv_0, bv_1, ko_b, ko_1, ko_0, true_and, and_true, if_true, if_false, not_true_eq_false, not_false_eq_true, oo_02, decide_eq_true_eq, decide_eq_false_iff_not, ite_not, Nat.reduceAdd, Nat.reduceLT, Nat.reduceSub, Nat.reduceLeDiff, reduceIte, Bool.true_eq_false, Bool.false_eq_true, reduceCtorEq, eq_self, decide_true, decide_false, bv_t, bv_f, and_self, t_si, t_sl, t_sr, t_sI, t_sR, n_si, n_sl, n_sr, n_sI, n_sR, r_si, r_sl, r_sI, r1, r3, r5, h2, h4, hi, k1, k2, Bool.and_true]
    · rw [decide_eq_true k1, decide_eq_false k2]
      simp (disch := first | omega | decide | exact ko_b _ | assumption | (simp only [t_si, t_sl, t_sr, t_sI, t_sR, n_si, n_sl, n_sr, n_sI, n_sR, r_si, r_sl, r_sI]; first | done | omega)) only [x_165_e, x_165_b, x_165_0, x_165_1, x_165_4, x_165_7, x_165_8, x_165_11, x_165_12, x_165_15, x_165_16, x_165_19, x_165_20, x_165_23, x_165_24, x_165_25, x_165_28, x_165_29, x_165_32, x_165_33, bk_v, bk_n, nl_I, nl_R, nl_L, nl_0, oo_lt, oo_le, oo_eq, oo_add, oo_sub, oo_tn, oo_ir, nn_leT, nn_leF, nn_ltT, nn_ltF, nn_eqT, nn_eqF, bv_0, bv_1, ko_b, ko_1, ko_0, true_and, and_true, if_true, if_false, not_true_eq_false, not_false_eq_true, oo_02, decide_eq_true_eq, decide_eq_false_iff_not, ite_not, Nat.reduceAdd, Nat.reduceLT, Nat.reduceSub, Nat.reduceLeDiff, reduceIte, Bool.true_eq_false, Bool.false_eq_true, reduceCtorEq, eq_self, decide_true, decide_false, bv_t, bv_f, and_self, t_si, t_sl, t_sr, t_sI, t_sR, n_si, n_sl, n_sr, n_sI, n_sR, r_si, r_sl, r_sI, r1, r3, r5, h2, h4, hi, k1, k2, Bool.and_false]
  · rw [decide_eq_false k1]
    simp (disch := first | omega | decide | exact ko_b _ | assumption | (simp only [t_si, t_sl, t_sr, t_sI, t_sR, n_si, n_sl, n_sr, n_sI, n_sR, r_si, r_sl, r_sI]; first | done | omega)) only [x_165_e, x_165_b, x_165_0, x_165_1, x_165_4, x_165_7, x_165_8, x_165_11, x_165_12, x_165_15, x_165_16, x_165_19, x_165_20, x_165_23, x_165_24, x_165_25, x_165_28, x_165_29, x_165_32, x_165_33, bk_v, bk_n, nl_I, nl_R, nl_L, nl_0, oo_lt, oo_le, oo_eq, oo_add, oo_sub, oo_tn, oo_ir, nn_leT, nn_leF, nn_ltT, nn_ltF, nn_eqT, nn_eqF, bv_0, bv_1, ko_b, ko_1, ko_0, true_and, and_true, if_true, if_false, not_true_eq_false, not_false_eq_true, oo_02, decide_eq_true_eq, decide_eq_false_iff_not, ite_not, Nat.reduceAdd, Nat.reduceLT, Nat.reduceSub, Nat.reduceLeDiff, reduceIte, Bool.true_eq_false, Bool.false_eq_true, reduceCtorEq, eq_self, decide_true, decide_false, bv_t, bv_f, and_self, t_si, t_sl, t_sr, t_sI, t_sR, n_si, n_sl, n_sr, n_sI, n_sR, r_si, r_sl, r_sI, r1, r5, k1, Bool.false_and]
theorem m_iskf {D : Nat} {e : Nat × Nat} {x : Int32} {Q : Q_} (hM : w_t w 1440 = 25) (hf : Mf_ w t e) : cl D 165 [v_R (some 1440), v_I x] w Q = Q (Sum.inl (some (v_I (b_v false)))) w := by
  have hn := Mf_n hf
  simp (disch := first | omega | decide | exact ko_b _ | assumption | (simp only [t_si, t_sl, t_sr, t_sI, t_sR, n_si, n_sl, n_sr, n_sI, n_sR, r_si, r_sl, r_sI]; first | done | omega)) only [x_165_e, x_165_b, x_165_0, x_165_1, x_165_4, x_165_7, x_165_8, x_165_11, x_165_12, x_165_15, x_165_16, x_165_19, x_165_20, x_165_23, x_165_24, x_165_25, x_165_28, x_165_29, x_165_32, x_165_33, bk_v, bk_n, nl_I, nl_R, nl_L, nl_0, oo_lt, oo_le, oo_eq, oo_add, oo_sub, oo_tn, oo_ir, nn_leT, nn_leF, nn_ltT, nn_ltF, nn_eqT, nn_eqF, bv_0, bv_1, ko_b, ko_1, ko_0, true_and, and_true, if_true, if_false, not_true_eq_false, not_false_eq_true, oo_02, decide_eq_true_eq, decide_eq_false_iff_not, ite_not, Nat.reduceAdd, Nat.reduceLT, Nat.reduceSub, Nat.reduceLeDiff, reduceIte, Bool.true_eq_false, Bool.false_eq_true, reduceCtorEq, eq_self, decide_true, decide_false, bv_t, bv_f, and_self, t_si, t_sl, t_sr, t_sI, t_sR, n_si, n_sl, n_sr, n_sI, n_sR, r_si, r_sl, r_sI, hn]
def Mo_ (w : Wd) (t : Tp) (r : (Nat × Nat) ⊕ Nat) : Prop := match r with
  | Sum.inl e => Mf_ w t e
  | Sum.inr b => Mr_ w t b
theorem m_mark {D b c : Nat} (hD : 2 ≤ D) (h : MTp_ w t) (hr : Mr_ w t b) (hc : c < 128) : ∃ w1, (Fr_ pk_ w w1 ∧ MTp_ w1 t ∧ Mo_ w1 t (nd_ t c b)) ∧ ∀ Q, cl D 172 [v_R (some 1440), v_I (Int32.ofNat c)] w Q = Q (Sum.inl none) w1 := by
  obtain ⟨d, rfl⟩ : ∃ d, D = d + 2 := ⟨D - 2, by omega⟩
  have h0 := h.1
  have r1 := hr.2.1
  have hk := fun D Q => m_isk (D := D) (Q := Q) h hr hc
  unfold nd_
  by_cases c1 : is_s t b c = true
  · obtain ⟨w1, ⟨f1, g1, p1⟩, q1⟩ := m_step (D := d + 1) (by omega) h r1 hr.2.2.1 (tk_ebd hr.1).2
    rw [if_pos c1]
    rw [c1] at hk
    refine ⟨w1, ⟨f1, g1, p1⟩, fun Q => ?_⟩
    simp (disch := first | omega | decide | exact ko_b _ | assumption | (simp only [t_si, t_sl, t_sr, t_sI, t_sR, n_si, n_sl, n_sr, n_sI, n_sR, r_si, r_sl, r_sI]; first | done | omega)) only [x_172_e, x_172_b, x_172_0, x_172_1, x_172_4, x_172_7, x_172_8, x_172_9, x_172_12, x_172_15, x_172_16, x_172_17, x_172_20, x_172_21, x_172_24, x_172_27, x_172_28, x_172_31, bk_v, bk_n, nl_I, nl_R, nl_L, nl_0, oo_lt, oo_le, oo_eq, oo_add, oo_sub, oo_tn, oo_ir, nn_leT, nn_leF, nn_ltT, nn_ltF, nn_eqT, nn_eqF, bv_0, bv_1, ko_b, ko_1, ko_0, true_and, and_true, if_true, if_false, not_true_eq_false, not_false_eq_true, oo_02, decide_eq_true_eq, decide_eq_false_iff_not, ite_not, Nat.reduceAdd, Nat.reduceLT, Nat.reduceSub, Nat.reduceLeDiff, reduceIte, Bool.true_eq_false, Bool.false_eq_true, reduceCtorEq, eq_self, decide_true, decide_false, bv_t, bv_f, and_self, t_si, t_sl, t_sr, t_sI, t_sR, n_si, n_sl, n_sr, n_sI, n_sR, r_si, r_sl, r_sI, r1, hk, q1]
  · rw [if_neg c1]
    rw [Bool.eq_false_iff.mpr c1] at hk
    obtain ⟨f1, g1, p1⟩ := wr_f h hr (c := 1) (by omega)
    have hw := fun d Q => m_wr (d := d) (c := 1) (Q := Q) h0 hr
    have hn := Mf_n p1
    have t1 := g1.1
    refine ⟨wr_ w 1 b, ⟨f1, g1, p1⟩, fun Q => ?_⟩
    simp (disch := first | omega | decide | exact ko_b _ | assumption | (simp only [t_si, t_sl, t_sr, t_sI, t_sR, n_si, n_sl, n_sr, n_sI, n_sR, r_si, r_sl, r_sI]; first | done | omega)) only [x_172_e, x_172_b, x_172_0, x_172_1, x_172_4, x_172_7, x_172_8, x_172_9, x_172_12, x_172_15, x_172_16, x_172_17, x_172_20, x_172_21, x_172_24, x_172_27, x_172_28, x_172_31, bk_v, bk_n, nl_I, nl_R, nl_L, nl_0, oo_lt, oo_le, oo_eq, oo_add, oo_sub, oo_tn, oo_ir, nn_leT, nn_leF, nn_ltT, nn_ltF, nn_eqT, nn_eqF, bv_0, bv_1, ko_b, ko_1, ko_0, true_and, and_true, if_true, if_false, not_true_eq_false, not_false_eq_true, oo_02, decide_eq_true_eq, decide_eq_false_iff_not, ite_not, Nat.reduceAdd, Nat.reduceLT, Nat.reduceSub, Nat.reduceLeDiff, reduceIte, Bool.true_eq_false, Bool.false_eq_true, reduceCtorEq, eq_self, decide_true, decide_false, bv_t, bv_f, and_self, t_si, t_sl, t_sr, t_sI, t_sR, n_si, n_sl, n_sr, n_sI, n_sR, r_si, r_sl, r_sI, r1, hk, hw, hn]
theorem m_markf {D : Nat} {e : Nat × Nat} {x : Int32} {Q : Q_} (hM : w_t w 1440 = 25) (hf : Mf_ w t e) : cl D 172 [v_R (some 1440), v_I x] w Q = Q (Sum.inl none) w := by
  have hn := Mf_n hf
  simp (disch := first | omega | decide | exact ko_b _ | assumption | (simp only [t_si, t_sl, t_sr, t_sI, t_sR, n_si, n_sl, n_sr, n_sI, n_sR, r_si, r_sl, r_sI]; first | done | omega)) only [x_172_e, x_172_b, x_172_0, x_172_1, x_172_4, x_172_7, x_172_8, x_172_9, x_172_12, x_172_15, x_172_16, x_172_17, x_172_20, x_172_21, x_172_24, x_172_27, x_172_28, x_172_31, bk_v, bk_n, nl_I, nl_R, nl_L, nl_0, oo_lt, oo_le, oo_eq, oo_add, oo_sub, oo_tn, oo_ir, nn_leT, nn_leF, nn_ltT, nn_ltF, nn_eqT, nn_eqF, bv_0, bv_1, ko_b, ko_1, ko_0, true_and, and_true, if_true, if_false, not_true_eq_false, not_false_eq_true, oo_02, decide_eq_true_eq, decide_eq_false_iff_not, ite_not, Nat.reduceAdd, Nat.reduceLT, Nat.reduceSub, Nat.reduceLeDiff, reduceIte, Bool.true_eq_false, Bool.false_eq_true, reduceCtorEq, eq_self, decide_true, decide_false, bv_t, bv_f, and_self, t_si, t_sl, t_sr, t_sI, t_sR, n_si, n_sl, n_sr, n_sI, n_sR, r_si, r_sl, r_sI, hn]
end
