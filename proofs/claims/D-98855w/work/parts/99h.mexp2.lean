/-! THE MODEL's expressions -/
set_option maxRecDepth 100000
section
variable {t : Tp}
def MX_ (w : Wd) (t : Tp) (pre : List Int32) (r : Rs_) : Prop := match r with
  | Sum.inl e => Mf_ w t e
  | Sum.inr q => Mr_ w t q.2 ∧ Mc_ w (pre ++ q.1)
/-- a reading by the model, from b on -/
def MEx_ (t : Tp) (K mid ar : Nat) (f : Nat → Rs_) : Prop := ∀ (D : Nat) (w : Wd) (b : Nat) (c : List Int32), K ≤ D → Me_ w t → Mr_ w t b → Mc_ w c → c.length ≤ b → ∃ w1, (Fr_ pcl_ w w1 ∧ MX_ w1 t c (f b)) ∧ ∀ Q, cl D mid [v_R (some 1440), v_I (Int32.ofNat ar)] w Q = Q (Sum.inl none) w1
/-- after a fault it does nothing -/
def MN_ (t : Tp) (K mid ar : Nat) : Prop := ∀ (D : Nat) (w : Wd) (e : Nat × Nat), K ≤ D → w_t w 1440 = 25 → Mf_ w t e → ∀ Q, cl D mid [v_R (some 1440), v_I (Int32.ofNat ar)] w Q = Q (Sum.inl none) w
theorem Me_N {w : Wd} (h : Me_ w t) : t.2 ≤ 600 := h.1.2.2.2.2.1
theorem m_part {K a k : Nat} {f : Nat → Rs_} (hK : 8 ≤ K) (hX : MEx_ t K 164 (a + 1) f) (hN : MN_ t K 164 (a + 1)) (hg : ∀ b, RG_ k t b (f b)) : MEx_ t (K + 1) 170 a (pt_ t f) := by
  intro D w b c hD he hr hc hl
  obtain ⟨d, rfl⟩ : ∃ d, D = d + 9 := ⟨D - 9, by omega⟩
  have hT := he.1
  have h0 := hT.1
  have hN6 := Me_N he
  have hq := hr
  obtain ⟨hb, r1, r2, r3, r4, r5, r6⟩ := hq
  have hk5 := tk_k5 (t := t) (b := b)
  unfold pt_
  by_cases k2 : tk_k t b = 2
  · rw [if_pos k2]
    obtain ⟨w1, v, ⟨f1, g1, p1⟩, q1⟩ := m_num (D := d + 8) (lo := 0) (hi := 9999) (by omega) hT hr (by omega) (by omega)
    have t1 := g1.1
    cases hx : nm_ t 0 9999 b with
    | inl e =>
      rw [hx] at p1
      have hy := fun d x Q => m_layf (d := d) (x := x) (Q := Q) t1 p1
      refine ⟨w1, ⟨fr_mo f1 (fun _ _ z => pk_l z), p1⟩, fun Q => ?_⟩
      simp (disch := first | omega | decide | exact ko_b _ | assumption | (simp only [t_si, t_sl, t_sr, t_sI, t_sR, n_si, n_sl, n_sr, n_sI, n_sR, r_si, r_sl, r_sI]; first | done | omega)) only [x_170_e, x_170_b, x_170_0, x_170_1, x_170_4, x_170_7, x_170_8, x_170_9, x_170_12, x_170_13, x_170_16, x_170_17, x_170_18, x_170_19, x_170_22, x_170_25, x_170_28, bk_v, bk_n, nl_I, nl_R, nl_L, nl_0, oo_lt, oo_le, oo_eq, oo_add, oo_sub, oo_tn, oo_ir, nn_leT, nn_leF, nn_ltT, nn_ltF, nn_eqT, nn_eqF, bv_0, bv_1, ko_b, ko_1, ko_0, true_and, and_true, if_true, if_false, not_true_eq_false, not_false_eq_true, oo_02, decide_eq_true_eq, decide_eq_false_iff_not, ite_not, Nat.reduceAdd, Nat.reduceLT, Nat.reduceSub, Nat.reduceLeDiff, reduceIte, Bool.true_eq_false, Bool.false_eq_true, reduceCtorEq, eq_self, decide_true, decide_false, bv_t, bv_f, and_self, t_si, t_sl, t_sr, t_sI, t_sR, n_si, n_sl, n_sr, n_sI, n_sR, r_si, r_sl, r_sI, r1, r5, k2, q1, hy]
    | inr r =>
      rw [hx] at p1
      obtain ⟨p1, rfl⟩ := p1
      have c1 := Mc_k hc f1
      have hbt := (tk_lt (t := t) (b := b) (by omega)).1
      obtain ⟨f2, p2, c2⟩ := ly_f (x := Int32.ofNat r.1) p1 c1
      have hy := fun d Q => m_lay (d := d) (x := Int32.ofNat r.1) (Q := Q) (Me_k he f1) p1.2.1 c1 (by omega)
      refine ⟨_, ⟨fr_tr (fr_mo f1 (fun _ _ z => pk_l z)) f2, p2, c2⟩, fun Q => ?_⟩
      simp (disch := first | omega | decide | exact ko_b _ | assumption | (simp only [t_si, t_sl, t_sr, t_sI, t_sR, n_si, n_sl, n_sr, n_sI, n_sR, r_si, r_sl, r_sI]; first | done | omega)) only [x_170_e, x_170_b, x_170_0, x_170_1, x_170_4, x_170_7, x_170_8, x_170_9, x_170_12, x_170_13, x_170_16, x_170_17, x_170_18, x_170_19, x_170_22, x_170_25, x_170_28, bk_v, bk_n, nl_I, nl_R, nl_L, nl_0, oo_lt, oo_le, oo_eq, oo_add, oo_sub, oo_tn, oo_ir, nn_leT, nn_leF, nn_ltT, nn_ltF, nn_eqT, nn_eqF, bv_0, bv_1, ko_b, ko_1, ko_0, true_and, and_true, if_true, if_false, not_true_eq_false, not_false_eq_true, oo_02, decide_eq_true_eq, decide_eq_false_iff_not, ite_not, Nat.reduceAdd, Nat.reduceLT, Nat.reduceSub, Nat.reduceLeDiff, reduceIte, Bool.true_eq_false, Bool.false_eq_true, reduceCtorEq, eq_self, decide_true, decide_false, bv_t, bv_f, and_self, t_si, t_sl, t_sr, t_sI, t_sR, n_si, n_sl, n_sr, n_sI, n_sR, r_si, r_sl, r_sI, r1, r5, k2, q1, hy]
  · rw [if_neg k2]
    obtain ⟨w1, ⟨f1, g1, p1⟩, q1⟩ := m_mark (D := d + 8) (c := 40) (by omega) hT hr (by omega)
    have t1 := g1.1
    by_cases s4 : is_s t b 40 = true
    · rw [if_pos s4]
      have k3 := (is_s_k s4).1
      have hbt := tk_gt (t := t) (b := b) (by omega)
      unfold nd_ at p1
      rw [if_pos s4] at p1
      have p1 : Mr_ w1 t (tk_n t b) := p1
      have e1 := Me_k he f1
      have c1 := Mc_k hc f1
      obtain ⟨w2, ⟨f2, p2⟩, q2⟩ := hX (d + 8) w1 (tk_n t b) c (by omega) e1 p1 c1 (by omega)
      have e2 := Me_l e1 f2
      have t2 := e2.1.1
      have F2 : Fr_ pcl_ w w2 := fr_tr (fr_mo f1 (fun _ _ z => pk_l z)) f2
      cases hx : f (tk_n t b) with
      | inl e =>
        rw [hx] at p2
        have hy := fun D x Q => m_markf (D := D) (x := x) (Q := Q) t2 p2
        refine ⟨w2, ⟨F2, p2⟩, fun Q => ?_⟩
        simp (disch := first | omega | decide | exact ko_b _ | assumption | (simp only [t_si, t_sl, t_sr, t_sI, t_sR, n_si, n_sl, n_sr, n_sI, n_sR, r_si, r_sl, r_sI]; first | done | omega)) only [x_170_e, x_170_b, x_170_0, x_170_1, x_170_4, x_170_7, x_170_8, x_170_9, x_170_12, x_170_13, x_170_e, x_170_b, x_170_29, x_170_30, x_170_33, x_170_34, x_170_e, x_170_b, x_170_75, x_170_76, x_170_78, x_170_81, x_170_82, x_170_83, x_170_84, x_170_85, x_170_88, x_170_89, x_170_91, x_170_94, bk_v, bk_n, nl_I, nl_R, nl_L, nl_0, oo_lt, oo_le, oo_eq, oo_add, oo_sub, oo_tn, oo_ir, nn_leT, nn_leF, nn_ltT, nn_ltF, nn_eqT, nn_eqF, bv_0, bv_1, ko_b, ko_1, ko_0, true_and, and_true, if_true, if_false, not_true_eq_false, not_false_eq_true, oo_02, decide_eq_true_eq, decide_eq_false_iff_not, ite_not, Nat.reduceAdd, Nat.reduceLT, Nat.reduceSub, Nat.reduceLeDiff, reduceIte, Bool.true_eq_false, Bool.false_eq_true, reduceCtorEq, eq_self, decide_true, decide_false, bv_t, bv_f, and_self, t_si, t_sl, t_sr, t_sI, t_sR, n_si, n_sl, n_sr, n_sI, n_sR, r_si, r_sl, r_sI, r1, r5, k2, k3, q1, q2, hy]
      | inr r =>
        rw [hx] at p2
        obtain ⟨p2, c2⟩ := p2
        obtain ⟨w3, ⟨f3, g3, p3⟩, q3⟩ := m_mark (D := d + 8) (c := 41) (by omega) e2.1 p2 (by omega)
        have t3 := g3.1
        refine ⟨w3, ⟨fr_tr F2 (fr_mo f3 (fun _ _ z => pk_l z)), ?_⟩, fun Q => ?_⟩
        · simp only
          cases hy : nd_ t 41 r.2 with
          | inl e => rw [hy] at p3; exact p3
          | inr b2 => rw [hy] at p3; exact ⟨p3, Mc_k c2 f3⟩
        · simp (disch := first | omega | decide | exact ko_b _ | assumption | (simp only [t_si, t_sl, t_sr, t_sI, t_sR, n_si, n_sl, n_sr, n_sI, n_sR, r_si, r_sl, r_sI]; first | done | omega)) only [x_170_e, x_170_b, x_170_0, x_170_1, x_170_4, x_170_7, x_170_8, x_170_9, x_170_12, x_170_13, x_170_e, x_170_b, x_170_29, x_170_30, x_170_33, x_170_34, x_170_e, x_170_b, x_170_75, x_170_76, x_170_78, x_170_81, x_170_82, x_170_83, x_170_84, x_170_85, x_170_88, x_170_89, x_170_91, x_170_94, bk_v, bk_n, nl_I, nl_R, nl_L, nl_0, oo_lt, oo_le, oo_eq, oo_add, oo_sub, oo_tn, oo_ir, nn_leT, nn_leF, nn_ltT, nn_ltF, nn_eqT, nn_eqF, bv_0, bv_1, ko_b, ko_1, ko_0, true_and, and_true, if_true, if_false, not_true_eq_false, not_false_eq_true, oo_02, decide_eq_true_eq, decide_eq_false_iff_not, ite_not, Nat.reduceAdd, Nat.reduceLT, Nat.reduceSub, Nat.reduceLeDiff, reduceIte, Bool.true_eq_false, Bool.false_eq_true, reduceCtorEq, eq_self, decide_true, decide_false, bv_t, bv_f, and_self, t_si, t_sl, t_sr, t_sI, t_sR, n_si, n_sl, n_sr, n_sI, n_sR, r_si, r_sl, r_sI, r1, r5, k2, k3, q1, q2, q3]
    · rw [if_neg s4]
      by_cases k1 : tk_k t b = 1
      · rw [if_pos k1]
        have hM := he.2.1
        unfold sh_M at hM
        have hv := fun Q => m_wv (D := d + 8) (Q := Q) (by omega) he hr
        cases hx : vw_ t b with
        | none =>
          rw [hx] at hv
          have hv : ∀ Q, cl (d + 8) 161 [v_R (some 1440), v_R (some 1442)] w Q = Q (Sum.inl (some (v_I (Int32.ofInt (-1))))) w := hv
          obtain ⟨f2, g2, p2⟩ := wr_f hT hr (c := 3) (by omega)
          have hw := fun d Q => m_wr (d := d) (c := 3) (Q := Q) h0 hr
          have t2 := g2.1
          have hn := Mf_n p2
          have hy := fun d x Q => m_layf (d := d) (x := x) (Q := Q) t2 p2
          refine ⟨wr_ w 3 b, ⟨fr_mo f2 (fun _ _ z => pk_l z), p2⟩, fun Q => ?_⟩
          simp (disch := first | omega | decide | exact ko_b _ | assumption | (simp only [t_si, t_sl, t_sr, t_sI, t_sR, n_si, n_sl, n_sr, n_sI, n_sR, r_si, r_sl, r_sI]; first | done | omega)) only [x_170_e, x_170_b, x_170_0, x_170_1, x_170_4, x_170_7, x_170_8, x_170_9, x_170_12, x_170_13, x_170_e, x_170_b, x_170_29, x_170_30, x_170_33, x_170_34, x_170_37, x_170_38, x_170_39, x_170_42, x_170_45, x_170_46, x_170_47, x_170_48, x_170_51, x_170_52, x_170_53, x_170_56, x_170_57, x_170_58, x_170_59, x_170_60, x_170_63, x_170_64, x_170_67, x_170_70, x_170_71, x_170_74, bk_v, bk_n, nl_I, nl_R, nl_L, nl_0, oo_lt, oo_le, oo_eq, oo_add, oo_sub, oo_tn, oo_ir, nn_leT, nn_leF, nn_ltT, nn_ltF, nn_eqT, nn_eqF, bv_0, bv_1, ko_b, ko_1, ko_0, true_and, and_true, if_true, if_false, not_true_eq_false, not_false_eq_true, oo_02, decide_eq_true_eq, decide_eq_false_iff_not, ite_not, Nat.reduceAdd, Nat.reduceLT, Nat.reduceSub, Nat.reduceLeDiff, reduceIte, Bool.true_eq_false, Bool.false_eq_true, reduceCtorEq, eq_self, decide_true, decide_false, bv_t, bv_f, and_self, t_si, t_sl, t_sr, t_sI, t_sR, n_si, n_sl, n_sr, n_sI, n_sR, r_si, r_sl, r_sI, r1, r5, k2, k1, hM, hv, hw, hy, hn]
        | some j =>
          have hj := vw_lt hx
          rw [hx] at hv
          have hv : ∀ Q, cl (d + 8) 161 [v_R (some 1440), v_R (some 1442)] w Q = Q (Sum.inl (some (v_I (Int32.ofNat j)))) w := hv
          have hj1 : ¬ Int32.ofNat j = Int32.ofInt (-1) := fun z => by
            have z1 := congrArg Int32.toInt z
            rw [oo_in (by omega)] at z1
            have e : (Int32.ofInt (-1)).toInt = -1 := by decide
            omega
          have hj2 : Int32.ofInt (-1) - Int32.ofNat j = Int32.ofInt (-1 - ((j : Nat) : Int)) := by
            have g : ∀ j : Fin 6, Int32.ofInt (-1) - Int32.ofNat j.val = Int32.ofInt (-1 - ((j.val : Nat) : Int)) := by decide
            exact g ⟨j, hj⟩
          have hbt := tk_gt (t := t) (b := b) (by omega)
          have hy := fun d Q => m_lay (d := d) (x := Int32.ofInt (-1 - ((j : Nat) : Int))) (Q := Q) he r1 hc (by omega)
          obtain ⟨f2, p2, c2⟩ := ly_f (x := Int32.ofInt (-1 - ((j : Nat) : Int))) hr hc
          have e2 := Me_l he f2
          obtain ⟨w3, ⟨f3, g3, p3⟩, q3⟩ := m_step (D := d + 8) (by omega) e2.1 p2.2.1 p2.2.2.1 (tk_ebd p2.1).2
          have t2 := e2.1.1
          have t3 := g3.1
          have hz := p2.2.1
          refine ⟨w3, ⟨fr_tr f2 (fr_mo f3 (fun _ _ z => pk_l z)), p3, Mc_k c2 f3⟩, fun Q => ?_⟩
          simp (disch := first | omega | decide | exact ko_b _ | assumption | (simp only [t_si, t_sl, t_sr, t_sI, t_sR, n_si, n_sl, n_sr, n_sI, n_sR, r_si, r_sl, r_sI]; first | done | omega)) only [x_170_e, x_170_b, x_170_0, x_170_1, x_170_4, x_170_7, x_170_8, x_170_9, x_170_12, x_170_13, x_170_e, x_170_b, x_170_29, x_170_30, x_170_33, x_170_34, x_170_37, x_170_38, x_170_39, x_170_42, x_170_45, x_170_46, x_170_47, x_170_48, x_170_51, x_170_52, x_170_53, x_170_56, x_170_57, x_170_58, x_170_59, x_170_60, x_170_63, x_170_64, x_170_67, x_170_70, x_170_71, x_170_74, bk_v, bk_n, nl_I, nl_R, nl_L, nl_0, oo_lt, oo_le, oo_eq, oo_add, oo_sub, oo_tn, oo_ir, nn_leT, nn_leF, nn_ltT, nn_ltF, nn_eqT, nn_eqF, bv_0, bv_1, ko_b, ko_1, ko_0, true_and, and_true, if_true, if_false, not_true_eq_false, not_false_eq_true, oo_02, decide_eq_true_eq, decide_eq_false_iff_not, ite_not, Nat.reduceAdd, Nat.reduceLT, Nat.reduceSub, Nat.reduceLeDiff, reduceIte, Bool.true_eq_false, Bool.false_eq_true, reduceCtorEq, eq_self, decide_true, decide_false, bv_t, bv_f, and_self, t_si, t_sl, t_sr, t_sI, t_sR, n_si, n_sl, n_sr, n_sI, n_sR, r_si, r_sl, r_sI, r1, r5, k2, k1, hM, hv, hj1, hj2, hy, hz, q3]
      · rw [if_neg k1]
        unfold nd_ at p1
        rw [if_neg s4] at p1
        have p1 : Mf_ w1 t (1, b) := p1
        have q2 := hN (d + 8) w1 (1, b) (by omega) t1 p1
        have hy := fun D x Q => m_markf (D := D) (x := x) (Q := Q) t1 p1
        refine ⟨w1, ⟨fr_mo f1 (fun _ _ z => pk_l z), p1⟩, fun Q => ?_⟩
        simp (disch := first | omega | decide | exact ko_b _ | assumption | (simp only [t_si, t_sl, t_sr, t_sI, t_sR, n_si, n_sl, n_sr, n_sI, n_sR, r_si, r_sl, r_sI]; first | done | omega)) only [x_170_e, x_170_b, x_170_0, x_170_1, x_170_4, x_170_7, x_170_8, x_170_9, x_170_12, x_170_13, x_170_e, x_170_b, x_170_29, x_170_30, x_170_33, x_170_34, x_170_e, x_170_b, x_170_75, x_170_76, x_170_78, x_170_81, x_170_82, x_170_83, x_170_84, x_170_85, x_170_88, x_170_89, x_170_91, x_170_94, bk_v, bk_n, nl_I, nl_R, nl_L, nl_0, oo_lt, oo_le, oo_eq, oo_add, oo_sub, oo_tn, oo_ir, nn_leT, nn_leF, nn_ltT, nn_ltF, nn_eqT, nn_eqF, bv_0, bv_1, ko_b, ko_1, ko_0, true_and, and_true, if_true, if_false, not_true_eq_false, not_false_eq_true, oo_02, decide_eq_true_eq, decide_eq_false_iff_not, ite_not, Nat.reduceAdd, Nat.reduceLT, Nat.reduceSub, Nat.reduceLeDiff, reduceIte, Bool.true_eq_false, Bool.false_eq_true, reduceCtorEq, eq_self, decide_true, decide_false, bv_t, bv_f, and_self, t_si, t_sl, t_sr, t_sI, t_sR, n_si, n_sl, n_sr, n_sI, n_sR, r_si, r_sl, r_sI, r1, r5, k2, k1, q1, q2, hy]
theorem m_partf {a : Nat} : MN_ t 9 170 a := by
  intro D w e hD h0 hf Q
  have hn := Mf_n hf
  simp (disch := first | omega | decide | exact ko_b _ | assumption | (simp only [t_si, t_sl, t_sr, t_sI, t_sR, n_si, n_sl, n_sr, n_sI, n_sR, r_si, r_sl, r_sI]; first | done | omega)) only [x_170_e, x_170_b, x_170_0, x_170_1, x_170_4, x_170_7, bk_v, bk_n, nl_I, nl_R, nl_L, nl_0, oo_lt, oo_le, oo_eq, oo_add, oo_sub, oo_tn, oo_ir, nn_leT, nn_leF, nn_ltT, nn_ltF, nn_eqT, nn_eqF, bv_0, bv_1, ko_b, ko_1, ko_0, true_and, and_true, if_true, if_false, not_true_eq_false, not_false_eq_true, oo_02, decide_eq_true_eq, decide_eq_false_iff_not, ite_not, Nat.reduceAdd, Nat.reduceLT, Nat.reduceSub, Nat.reduceLeDiff, reduceIte, Bool.true_eq_false, Bool.false_eq_true, reduceCtorEq, eq_self, decide_true, decide_false, bv_t, bv_f, and_self, t_si, t_sl, t_sr, t_sI, t_sR, n_si, n_sl, n_sr, n_sI, n_sR, r_si, r_sl, r_sI, hn]
/-! chains -/
theorem ch_m {k : Nat} {f : Nat → Rs_} {op : Nat → Option Nat} (hg : ∀ b, RG_ k t b (f b)) (ho : ∀ b o, op b = some o → o < 8 ∧ tk_k t b ≠ 0) (H : Option Vl → Wd → Q_ → Prop) (h0 : ∀ a2 w b, Me_ w t → Mr_ w t b → op b = none → ∀ Q, H a2 w Q = Q (Sum.inl none) w) (h1 : ∀ a2 w b c o, Me_ w t → Mr_ w t b → Mc_ w c → c.length ≤ b → op b = some o → ∃ a3 w1, (Fr_ pcl_ w w1 ∧ MX_ w1 t c (match f (tk_n t b) with | Sum.inl e => Sum.inl e | Sum.inr r => Sum.inr (r.1 ++ [sg_n o], r.2))) ∧ ∀ Q, H a2 w Q = H a3 w1 Q) (h2 : ∀ a2 w e, Me_ w t → Mf_ w t e → ∀ Q, H a2 w Q = Q (Sum.inl none) w) : ∀ n a2 w b pre c, t.2 < n + b → Me_ w t → Mr_ w t b → Mc_ w (pre ++ c) → (pre ++ c).length ≤ b → ∃ w1, (Fr_ pcl_ w w1 ∧ MX_ w1 t pre (ch_ t f op n c b)) ∧ ∀ Q, H a2 w Q = Q (Sum.inl none) w1 := by
  intro n
  induction n with
  | zero => intro a2 w b pre c hn he hr hc hl; have := hr.1; omega
  | succ n ih =>
    intro a2 w b pre c hn he hr hc hl
    unfold ch_
    cases hop : op b with
    | none => exact ⟨w, ⟨fr_rf _ _, hr, hc⟩, h0 a2 w b he hr hop⟩
    | some o =>
      obtain ⟨o8, hk⟩ := ho b o hop
      have hbt := tk_gt hk
      obtain ⟨a3, w1, ⟨f1, m1⟩, q1⟩ := h1 a2 w b (pre ++ c) o he hr hc hl hop
      have e1 := Me_l he f1
      cases hx : f (tk_n t b) with
      | inl e =>
        rw [hx] at m1
        exact ⟨w1, ⟨f1, m1⟩, fun Q => (q1 Q).trans (h2 a3 w1 e e1 m1 Q)⟩
      | inr r =>
        rw [hx] at m1
        obtain ⟨m1, c1⟩ := m1
        obtain ⟨-, g2, g3, g4⟩ := hg _ r.1 r.2 hx
        have c1 : Mc_ w1 (pre ++ (c ++ (r.1 ++ [sg_n o]))) := by rw [← List.append_assoc]; exact c1
        obtain ⟨w2, ⟨f2, m2⟩, q2⟩ := ih a3 w1 r.2 pre (c ++ (r.1 ++ [sg_n o])) (by omega) e1 m1 c1 (by simp only [List.length_append, List.length_singleton] at hl ⊢; omega)
        exact ⟨w2, ⟨fr_tr f1 f2, m2⟩, fun Q => (q1 Q).trans (q2 Q)⟩
/-- a step, what is below, what is laid -/
theorem st_sub {K a k mid d b o : Nat} {f : Nat → Rs_} {w : Wd} {c : List Int32} (hX : MEx_ t K mid a f) (hg : ∀ b, RG_ k t b (f b)) (hd : K ≤ d) (h1 : 1 ≤ d) (he : Me_ w t) (hr : Mr_ w t b) (hk : tk_k t b ≠ 0) (hc : Mc_ w c) (hl : c.length ≤ b) : ∃ w1 w2 w3, (Fr_ pcl_ w w3 ∧ MX_ w3 t c (match f (tk_n t b) with | Sum.inl e => Sum.inl e | Sum.inr r => Sum.inr (r.1 ++ [sg_n o], r.2))) ∧ (w_t w1 1440 = 25 ∧ w_t w2 1440 = 25 ∧ w_t w3 1440 = 25) ∧ (∀ Q, cl d 154 [v_R (some 1440)] w Q = Q (Sum.inl none) w1) ∧ (∀ Q, cl d mid [v_R (some 1440), v_I (Int32.ofNat a)] w1 Q = Q (Sum.inl none) w2) ∧ ∀ Q, cl d 171 [v_R (some 1440), v_I (sg_n o)] w2 Q = Q (Sum.inl none) w3 := by
  have hbt := tk_gt hk
  have hN6 := Me_N he
  obtain ⟨w1, ⟨f1, g1, p1⟩, q1⟩ := m_step (D := d) h1 he.1 hr.2.1 hr.2.2.1 (tk_ebd hr.1).2
  have p1 : Mr_ w1 t (tk_n t b) := p1
  have e1 := Me_k he f1
  obtain ⟨w2, ⟨f2, p2⟩, q2⟩ := hX d w1 (tk_n t b) c hd e1 p1 (Mc_k hc f1) (by omega)
  have e2 := Me_l e1 f2
  have F2 : Fr_ pcl_ w w2 := fr_tr (fr_mo f1 (fun _ _ z => pk_l z)) f2
  cases hx : f (tk_n t b) with
  | inl e =>
    rw [hx] at p2
    exact ⟨w1, w2, w2, ⟨F2, p2⟩, ⟨g1.1, e2.1.1, e2.1.1⟩, q1, q2, fun Q => m_layf e2.1.1 p2⟩
  | inr r =>
    rw [hx] at p2
    obtain ⟨p2, c2⟩ := p2
    obtain ⟨-, g2, g3, g4⟩ := hg _ r.1 r.2 hx
    obtain ⟨f3, p3, c3⟩ := ly_f (x := sg_n o) p2 c2
    have c3 : Mc_ (ly_ w2 (c ++ r.1).length (sg_n o)) (c ++ (r.1 ++ [sg_n o])) := by rw [← List.append_assoc]; exact c3
    have e3 := Me_l e2 f3
    exact ⟨w1, w2, _, ⟨fr_tr F2 f3, p3, c3⟩, ⟨g1.1, e2.1.1, e3.1.1⟩, q1, q2, fun Q => m_lay e2 p2.2.1 c2 (by rw [List.length_append]; omega)⟩
/-- a method: below, then the chain -/
theorem lv_m {K a k sub d : Nat} {f : Nat → Rs_} {op : Nat → Option Nat} {w : Wd} {b : Nat} {c : List Int32} {a2 : Option Vl} (H : Option Vl → Wd → Q_ → Prop) (hX : MEx_ t K sub a f) (hd : K ≤ d) (he : Me_ w t) (hr : Mr_ w t b) (hc : Mc_ w c) (hl : c.length ≤ b) (hg : ∀ b, RG_ k t b (f b)) (h2 : ∀ a2 w e, Me_ w t → Mf_ w t e → ∀ Q, H a2 w Q = Q (Sum.inl none) w) (hL : ∀ n a2 w b pre c, t.2 < n + b → Me_ w t → Mr_ w t b → Mc_ w (pre ++ c) → (pre ++ c).length ≤ b → ∃ w1, (Fr_ pcl_ w w1 ∧ MX_ w1 t pre (ch_ t f op n c b)) ∧ ∀ Q, H a2 w Q = Q (Sum.inl none) w1) {Q1 : Q_ → Prop} (hQ : ∀ w1, w_t w1 1440 = 25 → (∀ Q, cl d sub [v_R (some 1440), v_I (Int32.ofNat a)] w Q = Q (Sum.inl none) w1) → ∀ Q, Q1 Q = H a2 w1 Q) : ∃ w1, (Fr_ pcl_ w w1 ∧ MX_ w1 t c (lv_c t f op b)) ∧ ∀ Q, Q1 Q = Q (Sum.inl none) w1 := by
  obtain ⟨w1, ⟨f1, p1⟩, q1⟩ := hX d w b c hd he hr hc hl
  have e1 := Me_l he f1
  have q2 := hQ w1 e1.1.1 q1
  unfold lv_c
  cases hx : f b with
  | inl e =>
    rw [hx] at p1
    exact ⟨w1, ⟨f1, p1⟩, fun Q => (q2 Q).trans (h2 a2 w1 e e1 p1 Q)⟩
  | inr r =>
    rw [hx] at p1
    obtain ⟨p1, c1⟩ := p1
    obtain ⟨-, g2, g3, g4⟩ := hg _ r.1 r.2 hx
    obtain ⟨w2, ⟨f2, p2⟩, q3⟩ := hL (t.2 + 1) a2 w1 r.2 c r.1 (by omega) e1 p1 c1 (by rw [List.length_append]; omega)
    exact ⟨w2, ⟨fr_tr f1 f2, p2⟩, fun Q => (q2 Q).trans (q3 Q)⟩
theorem m_prod {K a k : Nat} {f : Nat → Rs_} (hK : 8 ≤ K) (hX : MEx_ t K 170 a f) (hN : MN_ t K 170 a) (hg : ∀ b, RG_ k t b (f b)) : MEx_ t (K + 1) 169 a (lv_c t f (op_m t)) := by
  intro D w b c hD he hr hc hl
  obtain ⟨d, rfl⟩ : ∃ d, D = d + 9 := ⟨D - 9, by omega⟩
  have H2 : ∀ (a2 : Option Vl) (w : Wd) (e : Nat × Nat), Me_ w t → Mf_ w t e → ∀ Q, wp (d + 9) 169 5 [some (v_R (some 1440)), some (v_I (Int32.ofNat a)), a2] [] w Q = Q (Sum.inl none) w := by
    intro a2 w e he hf Q
    have t0 := he.1.1
    have hk := fun D x Q => m_iskf (D := D) (x := x) (Q := Q) t0 hf
    rw [x_169_5]
    simp (disch := first | omega | decide | exact ko_b _ | assumption | (simp only [t_si, t_sl, t_sr, t_sI, t_sR, n_si, n_sl, n_sr, n_sI, n_sR, r_si, r_sl, r_sI]; first | done | omega)) only [x_169_e, x_169_b, x_169_6, x_169_8, x_169_11, x_169_14, x_169_15, x_169_17, x_169_20, x_169_e, x_169_b, x_169_57, bk_v, bk_n, nl_I, nl_R, nl_L, nl_0, oo_lt, oo_le, oo_eq, oo_add, oo_sub, oo_tn, oo_ir, nn_leT, nn_leF, nn_ltT, nn_ltF, nn_eqT, nn_eqF, bv_0, bv_1, ko_b, ko_1, ko_0, true_and, and_true, if_true, if_false, not_true_eq_false, not_false_eq_true, oo_02, decide_eq_true_eq, decide_eq_false_iff_not, ite_not, Nat.reduceAdd, Nat.reduceLT, Nat.reduceSub, Nat.reduceLeDiff, reduceIte, Bool.true_eq_false, Bool.false_eq_true, reduceCtorEq, eq_self, decide_true, decide_false, bv_t, bv_f, and_self, t_si, t_sl, t_sr, t_sI, t_sR, n_si, n_sl, n_sr, n_sI, n_sR, r_si, r_sl, r_sI, hk]
  refine lv_m (a2 := none) (fun a2 w Q => wp (d + 9) 169 5 [some (v_R (some 1440)), some (v_I (Int32.ofNat a)), a2] [] w Q) hX (d := d + 8) (by omega) he hr hc hl hg H2 (ch_m hg op_mg _ ?_ ?_ H2) ?_
  · intro a2 w b he hr hop Q
    have t0 := he.1.1
    have ha := fun D Q => m_isk (D := D) (c := 42) (Q := Q) he.1 hr (by omega)
    have hb := fun D Q => m_isk (D := D) (c := 47) (Q := Q) he.1 hr (by omega)
    unfold op_m at hop
    have s1 : is_s t b 42 = false := by
      cases h : is_s t b 42 with
      | false => rfl
      | true => rw [if_pos h] at hop; cases hop
    have s2 : is_s t b 47 = false := by
      cases h : is_s t b 47 with
      | false => rfl
      | true => rw [s1, if_neg Bool.false_ne_true, if_pos h] at hop; cases hop
    rw [s1] at ha
    rw [s2] at hb
    show wp (d + 9) 169 5 _ _ w Q = _
    rw [x_169_5]
    simp (disch := first | omega | decide | exact ko_b _ | assumption | (simp only [t_si, t_sl, t_sr, t_sI, t_sR, n_si, n_sl, n_sr, n_sI, n_sR, r_si, r_sl, r_sI]; first | done | omega)) only [x_169_e, x_169_b, x_169_6, x_169_8, x_169_11, x_169_14, x_169_15, x_169_17, x_169_20, x_169_e, x_169_b, x_169_57, bk_v, bk_n, nl_I, nl_R, nl_L, nl_0, oo_lt, oo_le, oo_eq, oo_add, oo_sub, oo_tn, oo_ir, nn_leT, nn_leF, nn_ltT, nn_ltF, nn_eqT, nn_eqF, bv_0, bv_1, ko_b, ko_1, ko_0, true_and, and_true, if_true, if_false, not_true_eq_false, not_false_eq_true, oo_02, decide_eq_true_eq, decide_eq_false_iff_not, ite_not, Nat.reduceAdd, Nat.reduceLT, Nat.reduceSub, Nat.reduceLeDiff, reduceIte, Bool.true_eq_false, Bool.false_eq_true, reduceCtorEq, eq_self, decide_true, decide_false, bv_t, bv_f, and_self, t_si, t_sl, t_sr, t_sI, t_sR, n_si, n_sl, n_sr, n_sI, n_sR, r_si, r_sl, r_sI, ha, hb]
  · intro a2 w b c o he hr hc hl hop
    have t0 := he.1.1
    have ha := fun D Q => m_isk (D := D) (c := 42) (Q := Q) he.1 hr (by omega)
    have hb := fun D Q => m_isk (D := D) (c := 47) (Q := Q) he.1 hr (by omega)
    obtain ⟨w1, w2, w3, F, ⟨t1, t2, t3⟩, q1, q2, q3⟩ := st_sub (o := o) (d := d + 8) hX hg (by omega) (by omega) he hr (op_mg b o hop).2 hc hl
    unfold op_m at hop
    by_cases s1 : is_s t b 42 = true
    · rw [if_pos s1] at hop
      cases hop
      have q3 : ∀ Q, cl (d + 8) 171 [v_R (some 1440), v_I (Int32.ofInt (-22))] w2 Q = Q (Sum.inl none) w3 := q3
      rw [s1] at ha
      refine ⟨some (v_I (Int32.ofInt (-22))), w3, F, fun Q => ?_⟩
      show wp (d + 9) 169 5 _ _ w Q = wp (d + 9) 169 5 _ _ w3 Q
      rw [x_169_5]
      simp (disch := first | omega | decide | exact ko_b _ | assumption | (simp only [t_si, t_sl, t_sr, t_sI, t_sR, n_si, n_sl, n_sr, n_sI, n_sR, r_si, r_sl, r_sI]; first | done | omega)) only [x_169_e, x_169_b, x_169_6, x_169_8, x_169_11, x_169_14, x_169_15, x_169_17, x_169_20, x_169_23, x_169_24, x_169_26, x_169_29, x_169_32, x_169_34, x_169_37, x_169_39, x_169_40, x_169_41, x_169_44, x_169_45, x_169_46, x_169_49, x_169_50, x_169_51, x_169_54, bk_v, bk_n, nl_I, nl_R, nl_L, nl_0, oo_lt, oo_le, oo_eq, oo_add, oo_sub, oo_tn, oo_ir, nn_leT, nn_leF, nn_ltT, nn_ltF, nn_eqT, nn_eqF, bv_0, bv_1, ko_b, ko_1, ko_0, true_and, and_true, if_true, if_false, not_true_eq_false, not_false_eq_true, oo_02, decide_eq_true_eq, decide_eq_false_iff_not, ite_not, Nat.reduceAdd, Nat.reduceLT, Nat.reduceSub, Nat.reduceLeDiff, reduceIte, Bool.true_eq_false, Bool.false_eq_true, reduceCtorEq, eq_self, decide_true, decide_false, bv_t, bv_f, and_self, t_si, t_sl, t_sr, t_sI, t_sR, n_si, n_sl, n_sr, n_sI, n_sR, r_si, r_sl, r_sI, ha, q1, q2, q3]
    · rw [if_neg s1] at hop
      by_cases s2 : is_s t b 47 = true
      · rw [if_pos s2] at hop
        cases hop
        have q3 : ∀ Q, cl (d + 8) 171 [v_R (some 1440), v_I (Int32.ofInt (-23))] w2 Q = Q (Sum.inl none) w3 := q3
        rw [Bool.eq_false_iff.mpr s1] at ha
        rw [s2] at hb
        refine ⟨some (v_I (Int32.ofInt (-23))), w3, F, fun Q => ?_⟩
        show wp (d + 9) 169 5 _ _ w Q = wp (d + 9) 169 5 _ _ w3 Q
        rw [x_169_5]
        simp (disch := first | omega | decide | exact ko_b _ | assumption | (simp only [t_si, t_sl, t_sr, t_sI, t_sR, n_si, n_sl, n_sr, n_sI, n_sR, r_si, r_sl, r_sI]; first | done | omega)) only [x_169_e, x_169_b, x_169_6, x_169_8, x_169_11, x_169_14, x_169_15, x_169_17, x_169_20, x_169_23, x_169_24, x_169_26, x_169_29, x_169_32, x_169_34, x_169_37, x_169_39, x_169_40, x_169_41, x_169_44, x_169_45, x_169_46, x_169_49, x_169_50, x_169_51, x_169_54, bk_v, bk_n, nl_I, nl_R, nl_L, nl_0, oo_lt, oo_le, oo_eq, oo_add, oo_sub, oo_tn, oo_ir, nn_leT, nn_leF, nn_ltT, nn_ltF, nn_eqT, nn_eqF, bv_0, bv_1, ko_b, ko_1, ko_0, true_and, and_true, if_true, if_false, not_true_eq_false, not_false_eq_true, oo_02, decide_eq_true_eq, decide_eq_false_iff_not, ite_not, Nat.reduceAdd, Nat.reduceLT, Nat.reduceSub, Nat.reduceLeDiff, reduceIte, Bool.true_eq_false, Bool.false_eq_true, reduceCtorEq, eq_self, decide_true, decide_false, bv_t, bv_f, and_self, t_si, t_sl, t_sr, t_sI, t_sR, n_si, n_sl, n_sr, n_sI, n_sR, r_si, r_sl, r_sI, ha, hb, q1, q2, q3]
      · rw [if_neg s2] at hop; cases hop
  · intro w1 t1 q1 Q
    have t0 := he.1.1
    show cl (d + 9) 169 _ w Q = wp (d + 9) 169 5 _ _ w1 Q
    simp (disch := first | omega | decide | exact ko_b _ | assumption | (simp only [t_si, t_sl, t_sr, t_sI, t_sR, n_si, n_sl, n_sr, n_sI, n_sR, r_si, r_sl, r_sI]; first | done | omega)) only [x_169_e, x_169_b, x_169_0, x_169_1, x_169_2, bk_v, bk_n, nl_I, nl_R, nl_L, nl_0, oo_lt, oo_le, oo_eq, oo_add, oo_sub, oo_tn, oo_ir, nn_leT, nn_leF, nn_ltT, nn_ltF, nn_eqT, nn_eqF, bv_0, bv_1, ko_b, ko_1, ko_0, true_and, and_true, if_true, if_false, not_true_eq_false, not_false_eq_true, oo_02, decide_eq_true_eq, decide_eq_false_iff_not, ite_not, Nat.reduceAdd, Nat.reduceLT, Nat.reduceSub, Nat.reduceLeDiff, reduceIte, Bool.true_eq_false, Bool.false_eq_true, reduceCtorEq, eq_self, decide_true, decide_false, bv_t, bv_f, and_self, t_si, t_sl, t_sr, t_sI, t_sR, n_si, n_sl, n_sr, n_sI, n_sR, r_si, r_sl, r_sI, q1]
theorem m_prodf {K a : Nat} (hK : 8 ≤ K) (hN : MN_ t K 170 a) : MN_ t (K + 1) 169 a := by
  intro D w e hD h0 hf Q
  obtain ⟨d, rfl⟩ : ∃ d, D = d + 9 := ⟨D - 9, by omega⟩
  have q1 := hN (d + 8) w e (by omega) h0 hf
  have hk := fun D x Q => m_iskf (D := D) (x := x) (Q := Q) h0 hf
  simp (disch := first | omega | decide | exact ko_b _ | assumption | (simp only [t_si, t_sl, t_sr, t_sI, t_sR, n_si, n_sl, n_sr, n_sI, n_sR, r_si, r_sl, r_sI]; first | done | omega)) only [x_169_e, x_169_b, x_169_0, x_169_1, x_169_2, x_169_5, x_169_6, x_169_8, x_169_11, x_169_14, x_169_15, x_169_17, x_169_20, x_169_e, x_169_b, x_169_57, bk_v, bk_n, nl_I, nl_R, nl_L, nl_0, oo_lt, oo_le, oo_eq, oo_add, oo_sub, oo_tn, oo_ir, nn_leT, nn_leF, nn_ltT, nn_ltF, nn_eqT, nn_eqF, bv_0, bv_1, ko_b, ko_1, ko_0, true_and, and_true, if_true, if_false, not_true_eq_false, not_false_eq_true, oo_02, decide_eq_true_eq, decide_eq_false_iff_not, ite_not, Nat.reduceAdd, Nat.reduceLT, Nat.reduceSub, Nat.reduceLeDiff, reduceIte, Bool.true_eq_false, Bool.false_eq_true, reduceCtorEq, eq_self, decide_true, decide_false, bv_t, bv_f, and_self, t_si, t_sl, t_sr, t_sI, t_sR, n_si, n_sl, n_sr, n_sI, n_sR, r_si, r_sl, r_sI, q1, hk]
theorem m_sum {K a k : Nat} {f : Nat → Rs_} (hK : 8 ≤ K) (hX : MEx_ t K 169 a f) (hN : MN_ t K 169 a) (hg : ∀ b, RG_ k t b (f b)) : MEx_ t (K + 1) 168 a (lv_c t f (op_a t)) := by
  intro D w b c hD he hr hc hl
  obtain ⟨d, rfl⟩ : ∃ d, D = d + 9 := ⟨D - 9, by omega⟩
  have H2 : ∀ (a2 : Option Vl) (w : Wd) (e : Nat × Nat), Me_ w t → Mf_ w t e → ∀ Q, wp (d + 9) 168 5 [some (v_R (some 1440)), some (v_I (Int32.ofNat a)), a2] [] w Q = Q (Sum.inl none) w := by
    intro a2 w e he hf Q
    have t0 := he.1.1
    have hk := fun D x Q => m_iskf (D := D) (x := x) (Q := Q) t0 hf
    rw [x_168_5]
    simp (disch := first | omega | decide | exact ko_b _ | assumption | (simp only [t_si, t_sl, t_sr, t_sI, t_sR, n_si, n_sl, n_sr, n_sI, n_sR, r_si, r_sl, r_sI]; first | done | omega)) only [x_168_e, x_168_b, x_168_6, x_168_8, x_168_11, x_168_14, x_168_15, x_168_17, x_168_20, x_168_e, x_168_b, x_168_57, bk_v, bk_n, nl_I, nl_R, nl_L, nl_0, oo_lt, oo_le, oo_eq, oo_add, oo_sub, oo_tn, oo_ir, nn_leT, nn_leF, nn_ltT, nn_ltF, nn_eqT, nn_eqF, bv_0, bv_1, ko_b, ko_1, ko_0, true_and, and_true, if_true, if_false, not_true_eq_false, not_false_eq_true, oo_02, decide_eq_true_eq, decide_eq_false_iff_not, ite_not, Nat.reduceAdd, Nat.reduceLT, Nat.reduceSub, Nat.reduceLeDiff, reduceIte, Bool.true_eq_false, Bool.false_eq_true, reduceCtorEq, eq_self, decide_true, decide_false, bv_t, bv_f, and_self, t_si, t_sl, t_sr, t_sI, t_sR, n_si, n_sl, n_sr, n_sI, n_sR, r_si, r_sl, r_sI, hk]
  refine lv_m (a2 := none) (fun a2 w Q => wp (d + 9) 168 5 [some (v_R (some 1440)), some (v_I (Int32.ofNat a)), a2] [] w Q) hX (d := d + 8) (by omega) he hr hc hl hg H2 (ch_m hg op_ag _ ?_ ?_ H2) ?_
  · intro a2 w b he hr hop Q
    have t0 := he.1.1
    have ha := fun D Q => m_isk (D := D) (c := 43) (Q := Q) he.1 hr (by omega)
    have hb := fun D Q => m_isk (D := D) (c := 45) (Q := Q) he.1 hr (by omega)
    unfold op_a at hop
    have s1 : is_s t b 43 = false := by
      cases h : is_s t b 43 with
      | false => rfl
      | true => rw [if_pos h] at hop; cases hop
    have s2 : is_s t b 45 = false := by
      cases h : is_s t b 45 with
      | false => rfl
      | true => rw [s1, if_neg Bool.false_ne_true, if_pos h] at hop; cases hop
    rw [s1] at ha
    rw [s2] at hb
    show wp (d + 9) 168 5 _ _ w Q = _
    rw [x_168_5]
    simp (disch := first | omega | decide | exact ko_b _ | assumption | (simp only [t_si, t_sl, t_sr, t_sI, t_sR, n_si, n_sl, n_sr, n_sI, n_sR, r_si, r_sl, r_sI]; first | done | omega)) only [x_168_e, x_168_b, x_168_6, x_168_8, x_168_11, x_168_14, x_168_15, x_168_17, x_168_20, x_168_e, x_168_b, x_168_57, bk_v, bk_n, nl_I, nl_R, nl_L, nl_0, oo_lt, oo_le, oo_eq, oo_add, oo_sub, oo_tn, oo_ir, nn_leT, nn_leF, nn_ltT, nn_ltF, nn_eqT, nn_eqF, bv_0, bv_1, ko_b, ko_1, ko_0, true_and, and_true, if_true, if_false, not_true_eq_false, not_false_eq_true, oo_02, decide_eq_true_eq, decide_eq_false_iff_not, ite_not, Nat.reduceAdd, Nat.reduceLT, Nat.reduceSub, Nat.reduceLeDiff, reduceIte, Bool.true_eq_false, Bool.false_eq_true, reduceCtorEq, eq_self, decide_true, decide_false, bv_t, bv_f, and_self, t_si, t_sl, t_sr, t_sI, t_sR, n_si, n_sl, n_sr, n_sI, n_sR, r_si, r_sl, r_sI, ha, hb]
  · intro a2 w b c o he hr hc hl hop
    have t0 := he.1.1
    have ha := fun D Q => m_isk (D := D) (c := 43) (Q := Q) he.1 hr (by omega)
    have hb := fun D Q => m_isk (D := D) (c := 45) (Q := Q) he.1 hr (by omega)
    obtain ⟨w1, w2, w3, F, ⟨t1, t2, t3⟩, q1, q2, q3⟩ := st_sub (o := o) (d := d + 8) hX hg (by omega) (by omega) he hr (op_ag b o hop).2 hc hl
    unfold op_a at hop
    by_cases s1 : is_s t b 43 = true
    · rw [if_pos s1] at hop
      cases hop
      have q3 : ∀ Q, cl (d + 8) 171 [v_R (some 1440), v_I (Int32.ofInt (-20))] w2 Q = Q (Sum.inl none) w3 := q3
      rw [s1] at ha
      refine ⟨some (v_I (Int32.ofInt (-20))), w3, F, fun Q => ?_⟩
      show wp (d + 9) 168 5 _ _ w Q = wp (d + 9) 168 5 _ _ w3 Q
      rw [x_168_5]
      simp (disch := first | omega | decide | exact ko_b _ | assumption | (simp only [t_si, t_sl, t_sr, t_sI, t_sR, n_si, n_sl, n_sr, n_sI, n_sR, r_si, r_sl, r_sI]; first | done | omega)) only [x_168_e, x_168_b, x_168_6, x_168_8, x_168_11, x_168_14, x_168_15, x_168_17, x_168_20, x_168_23, x_168_24, x_168_26, x_168_29, x_168_32, x_168_34, x_168_37, x_168_39, x_168_40, x_168_41, x_168_44, x_168_45, x_168_46, x_168_49, x_168_50, x_168_51, x_168_54, bk_v, bk_n, nl_I, nl_R, nl_L, nl_0, oo_lt, oo_le, oo_eq, oo_add, oo_sub, oo_tn, oo_ir, nn_leT, nn_leF, nn_ltT, nn_ltF, nn_eqT, nn_eqF, bv_0, bv_1, ko_b, ko_1, ko_0, true_and, and_true, if_true, if_false, not_true_eq_false, not_false_eq_true, oo_02, decide_eq_true_eq, decide_eq_false_iff_not, ite_not, Nat.reduceAdd, Nat.reduceLT, Nat.reduceSub, Nat.reduceLeDiff, reduceIte, Bool.true_eq_false, Bool.false_eq_true, reduceCtorEq, eq_self, decide_true, decide_false, bv_t, bv_f, and_self, t_si, t_sl, t_sr, t_sI, t_sR, n_si, n_sl, n_sr, n_sI, n_sR, r_si, r_sl, r_sI, ha, q1, q2, q3]
    · rw [if_neg s1] at hop
      by_cases s2 : is_s t b 45 = true
      · rw [if_pos s2] at hop
        cases hop
        have q3 : ∀ Q, cl (d + 8) 171 [v_R (some 1440), v_I (Int32.ofInt (-21))] w2 Q = Q (Sum.inl none) w3 := q3
        rw [Bool.eq_false_iff.mpr s1] at ha
        rw [s2] at hb
        refine ⟨some (v_I (Int32.ofInt (-21))), w3, F, fun Q => ?_⟩
        show wp (d + 9) 168 5 _ _ w Q = wp (d + 9) 168 5 _ _ w3 Q
        rw [x_168_5]
        simp (disch := first | omega | decide | exact ko_b _ | assumption | (simp only [t_si, t_sl, t_sr, t_sI, t_sR, n_si, n_sl, n_sr, n_sI, n_sR, r_si, r_sl, r_sI]; first | done | omega)) only [x_168_e, x_168_b, x_168_6, x_168_8, x_168_11, x_168_14, x_168_15, x_168_17, x_168_20, x_168_23, x_168_24, x_168_26, x_168_29, x_168_32, x_168_34, x_168_37, x_168_39, x_168_40, x_168_41, x_168_44, x_168_45, x_168_46, x_168_49, x_168_50, x_168_51, x_168_54, bk_v, bk_n, nl_I, nl_R, nl_L, nl_0, oo_lt, oo_le, oo_eq, oo_add, oo_sub, oo_tn, oo_ir, nn_leT, nn_leF, nn_ltT, nn_ltF, nn_eqT, nn_eqF, bv_0, bv_1, ko_b, ko_1, ko_0, true_and, and_true, if_true, if_false, not_true_eq_false, not_false_eq_true, oo_02, decide_eq_true_eq, decide_eq_false_iff_not, ite_not, Nat.reduceAdd, Nat.reduceLT, Nat.reduceSub, Nat.reduceLeDiff, reduceIte, Bool.true_eq_false, Bool.false_eq_true, reduceCtorEq, eq_self, decide_true, decide_false, bv_t, bv_f, and_self, t_si, t_sl, t_sr, t_sI, t_sR, n_si, n_sl, n_sr, n_sI, n_sR, r_si, r_sl, r_sI, ha, hb, q1, q2, q3]
      · rw [if_neg s2] at hop; cases hop
  · intro w1 t1 q1 Q
    have t0 := he.1.1
    show cl (d + 9) 168 _ w Q = wp (d + 9) 168 5 _ _ w1 Q
    simp (disch := first | omega | decide | exact ko_b _ | assumption | (simp only [t_si, t_sl, t_sr, t_sI, t_sR, n_si, n_sl, n_sr, n_sI, n_sR, r_si, r_sl, r_sI]; first | done | omega)) only [x_168_e, x_168_b, x_168_0, x_168_1, x_168_2, bk_v, bk_n, nl_I, nl_R, nl_L, nl_0, oo_lt, oo_le, oo_eq, oo_add, oo_sub, oo_tn, oo_ir, nn_leT, nn_leF, nn_ltT, nn_ltF, nn_eqT, nn_eqF, bv_0, bv_1, ko_b, ko_1, ko_0, true_and, and_true, if_true, if_false, not_true_eq_false, not_false_eq_true, oo_02, decide_eq_true_eq, decide_eq_false_iff_not, ite_not, Nat.reduceAdd, Nat.reduceLT, Nat.reduceSub, Nat.reduceLeDiff, reduceIte, Bool.true_eq_false, Bool.false_eq_true, reduceCtorEq, eq_self, decide_true, decide_false, bv_t, bv_f, and_self, t_si, t_sl, t_sr, t_sI, t_sR, n_si, n_sl, n_sr, n_sI, n_sR, r_si, r_sl, r_sI, q1]
theorem m_sumf {K a : Nat} (hK : 8 ≤ K) (hN : MN_ t K 169 a) : MN_ t (K + 1) 168 a := by
  intro D w e hD h0 hf Q
  obtain ⟨d, rfl⟩ : ∃ d, D = d + 9 := ⟨D - 9, by omega⟩
  have q1 := hN (d + 8) w e (by omega) h0 hf
  have hk := fun D x Q => m_iskf (D := D) (x := x) (Q := Q) h0 hf
  simp (disch := first | omega | decide | exact ko_b _ | assumption | (simp only [t_si, t_sl, t_sr, t_sI, t_sR, n_si, n_sl, n_sr, n_sI, n_sR, r_si, r_sl, r_sI]; first | done | omega)) only [x_168_e, x_168_b, x_168_0, x_168_1, x_168_2, x_168_5, x_168_6, x_168_8, x_168_11, x_168_14, x_168_15, x_168_17, x_168_20, x_168_e, x_168_b, x_168_57, bk_v, bk_n, nl_I, nl_R, nl_L, nl_0, oo_lt, oo_le, oo_eq, oo_add, oo_sub, oo_tn, oo_ir, nn_leT, nn_leF, nn_ltT, nn_ltF, nn_eqT, nn_eqF, bv_0, bv_1, ko_b, ko_1, ko_0, true_and, and_true, if_true, if_false, not_true_eq_false, not_false_eq_true, oo_02, decide_eq_true_eq, decide_eq_false_iff_not, ite_not, Nat.reduceAdd, Nat.reduceLT, Nat.reduceSub, Nat.reduceLeDiff, reduceIte, Bool.true_eq_false, Bool.false_eq_true, reduceCtorEq, eq_self, decide_true, decide_false, bv_t, bv_f, and_self, t_si, t_sl, t_sr, t_sI, t_sR, n_si, n_sl, n_sr, n_sI, n_sR, r_si, r_sl, r_sI, q1, hk]
/-! nots -/
theorem s_not {w : Wd} (h : KS_ w) : Sc_ w 51 151 ws_not ∧ As_ ws_not := ⟨ks_c h (i := 41) (by omega) (by decide), as_d (by decide)⟩
theorem s_and {w : Wd} (h : KS_ w) : Sc_ w 52 152 ws_and ∧ As_ ws_and := ⟨ks_c h (i := 42) (by omega) (by decide), as_d (by decide)⟩
theorem s_or {w : Wd} (h : KS_ w) : Sc_ w 53 153 ws_or ∧ As_ ws_or := ⟨ks_c h (i := 43) (by omega) (by decide), as_d (by decide)⟩
theorem m_cm {K a k : Nat} {f : Nat → Rs_} (hX : MEx_ t K 168 a f) (hg : ∀ b, RG_ k t b (f b)) {d : Nat} (hd : K ≤ d + 8) {w : Wd} {b n : Nat} {c : List Int32} {a3 : Option Vl} (he : Me_ w t) (hr : Mr_ w t b) (hc : Mc_ w c) (hl : c.length ≤ b) : ∃ w1, (Fr_ pcl_ w w1 ∧ MX_ w1 t c (cm_ t f b)) ∧ ∀ Q, wp (d + 9) 167 39 [some (v_R (some 1440)), some (v_I (Int32.ofNat a)), some (v_I (Int32.ofNat n)), a3] [] w Q = wp (d + 9) 167 95 [some (v_R (some 1440)), some (v_I (Int32.ofNat a)), some (v_I (Int32.ofNat n)), some (v_I (Int32.ofNat 0))] [] w1 Q := by
  obtain ⟨w1, ⟨f1, p1⟩, q1⟩ := hX (d + 8) w b c hd he hr hc hl
  have e1 := Me_l he f1
  have t0 := he.1.1
  have t1 := e1.1.1
  unfold cm_
  cases hx : f b with
  | inl e =>
    rw [hx] at p1
    have hk := fun D x Q => m_iskf (D := D) (x := x) (Q := Q) t1 p1
    refine ⟨w1, ⟨f1, p1⟩, fun Q => ?_⟩
    simp (disch := first | omega | decide | exact ko_b _ | assumption | (simp only [t_si, t_sl, t_sr, t_sI, t_sR, n_si, n_sl, n_sr, n_sI, n_sR, r_si, r_sl, r_sI]; first | done | omega)) only [x_167_e, x_167_b, x_167_39, x_167_40, x_167_41, x_167_44, x_167_45, x_167_47, x_167_50, x_167_53, x_167_54, x_167_56, x_167_59, x_167_e, x_167_b, x_167_93, x_167_94, bk_v, bk_n, nl_I, nl_R, nl_L, nl_0, oo_lt, oo_le, oo_eq, oo_add, oo_sub, oo_tn, oo_ir, nn_leT, nn_leF, nn_ltT, nn_ltF, nn_eqT, nn_eqF, bv_0, bv_1, ko_b, ko_1, ko_0, true_and, and_true, if_true, if_false, not_true_eq_false, not_false_eq_true, oo_02, decide_eq_true_eq, decide_eq_false_iff_not, ite_not, Nat.reduceAdd, Nat.reduceLT, Nat.reduceSub, Nat.reduceLeDiff, reduceIte, Bool.true_eq_false, Bool.false_eq_true, reduceCtorEq, eq_self, decide_true, decide_false, bv_t, bv_f, and_self, t_si, t_sl, t_sr, t_sI, t_sR, n_si, n_sl, n_sr, n_sI, n_sR, r_si, r_sl, r_sI, q1, hk]
  | inr r =>
    rw [hx] at p1
    obtain ⟨p1, c1⟩ := p1
    obtain ⟨-, g2, g3, g4⟩ := hg _ r.1 r.2 hx
    have ha := fun D Q => m_isk (D := D) (c := 60) (Q := Q) e1.1 p1 (by omega)
    have hb := fun D Q => m_isk (D := D) (c := 61) (Q := Q) e1.1 p1 (by omega)
    unfold op_c
    by_cases s1 : is_s t r.2 60 = true
    · obtain ⟨u1, u2, u3, ⟨F, m3⟩, ⟨z1, z2, z3⟩, y1, y2, y3⟩ := st_sub (o := 4) (d := d + 8) hX hg hd (by omega) e1 p1 (by have := (is_s_k s1).1; omega) c1 (by rw [List.length_append]; omega)
      have y3 : ∀ Q, cl (d + 8) 171 [v_R (some 1440), v_I (Int32.ofInt (-24))] u2 Q = Q (Sum.inl none) u3 := y3
      rw [s1] at ha
      refine ⟨u3, ⟨fr_tr f1 F, ?_⟩, fun Q => ?_⟩
      · simp only [if_pos s1]
        cases hy : f (tk_n t r.2) with
        | inl e => rw [hy] at m3; exact m3
        | inr r2 =>
          rw [hy] at m3
          exact ⟨m3.1, by have := m3.2; rw [List.append_assoc] at this; exact this⟩
      · simp (disch := first | omega | decide | exact ko_b _ | assumption | (simp only [t_si, t_sl, t_sr, t_sI, t_sR, n_si, n_sl, n_sr, n_sI, n_sR, r_si, r_sl, r_sI]; first | done | omega)) only [x_167_e, x_167_b, x_167_39, x_167_40, x_167_41, x_167_44, x_167_45, x_167_47, x_167_50, x_167_53, x_167_54, x_167_56, x_167_59, x_167_62, x_167_63, x_167_65, x_167_68, x_167_71, x_167_73, x_167_76, x_167_78, x_167_79, x_167_80, x_167_83, x_167_84, x_167_85, x_167_88, x_167_89, x_167_90, x_167_93, x_167_94, bk_v, bk_n, nl_I, nl_R, nl_L, nl_0, oo_lt, oo_le, oo_eq, oo_add, oo_sub, oo_tn, oo_ir, nn_leT, nn_leF, nn_ltT, nn_ltF, nn_eqT, nn_eqF, bv_0, bv_1, ko_b, ko_1, ko_0, true_and, and_true, if_true, if_false, not_true_eq_false, not_false_eq_true, oo_02, decide_eq_true_eq, decide_eq_false_iff_not, ite_not, Nat.reduceAdd, Nat.reduceLT, Nat.reduceSub, Nat.reduceLeDiff, reduceIte, Bool.true_eq_false, Bool.false_eq_true, reduceCtorEq, eq_self, decide_true, decide_false, bv_t, bv_f, and_self, t_si, t_sl, t_sr, t_sI, t_sR, n_si, n_sl, n_sr, n_sI, n_sR, r_si, r_sl, r_sI, q1, ha, y1, y2, y3]
    · by_cases s2 : is_s t r.2 61 = true
      · obtain ⟨u1, u2, u3, ⟨F, m3⟩, ⟨z1, z2, z3⟩, y1, y2, y3⟩ := st_sub (o := 5) (d := d + 8) hX hg hd (by omega) e1 p1 (by have := (is_s_k s2).1; omega) c1 (by rw [List.length_append]; omega)
        have y3 : ∀ Q, cl (d + 8) 171 [v_R (some 1440), v_I (Int32.ofInt (-25))] u2 Q = Q (Sum.inl none) u3 := y3
        rw [Bool.eq_false_iff.mpr s1] at ha
        rw [s2] at hb
        refine ⟨u3, ⟨fr_tr f1 F, ?_⟩, fun Q => ?_⟩
        · simp only [if_neg s1, if_pos s2]
          cases hy : f (tk_n t r.2) with
          | inl e => rw [hy] at m3; exact m3
          | inr r2 =>
            rw [hy] at m3
            exact ⟨m3.1, by have := m3.2; rw [List.append_assoc] at this; exact this⟩
        · simp (disch := first | omega | decide | exact ko_b _ | assumption | (simp only [t_si, t_sl, t_sr, t_sI, t_sR, n_si, n_sl, n_sr, n_sI, n_sR, r_si, r_sl, r_sI]; first | done | omega)) only [x_167_e, x_167_b, x_167_39, x_167_40, x_167_41, x_167_44, x_167_45, x_167_47, x_167_50, x_167_53, x_167_54, x_167_56, x_167_59, x_167_62, x_167_63, x_167_65, x_167_68, x_167_71, x_167_73, x_167_76, x_167_78, x_167_79, x_167_80, x_167_83, x_167_84, x_167_85, x_167_88, x_167_89, x_167_90, x_167_93, x_167_94, bk_v, bk_n, nl_I, nl_R, nl_L, nl_0, oo_lt, oo_le, oo_eq, oo_add, oo_sub, oo_tn, oo_ir, nn_leT, nn_leF, nn_ltT, nn_ltF, nn_eqT, nn_eqF, bv_0, bv_1, ko_b, ko_1, ko_0, true_and, and_true, if_true, if_false, not_true_eq_false, not_false_eq_true, oo_02, decide_eq_true_eq, decide_eq_false_iff_not, ite_not, Nat.reduceAdd, Nat.reduceLT, Nat.reduceSub, Nat.reduceLeDiff, reduceIte, Bool.true_eq_false, Bool.false_eq_true, reduceCtorEq, eq_self, decide_true, decide_false, bv_t, bv_f, and_self, t_si, t_sl, t_sr, t_sI, t_sR, n_si, n_sl, n_sr, n_sI, n_sR, r_si, r_sl, r_sI, q1, ha, hb, y1, y2, y3]
      · rw [Bool.eq_false_iff.mpr s1] at ha
        rw [Bool.eq_false_iff.mpr s2] at hb
        refine ⟨w1, ⟨f1, ?_⟩, fun Q => ?_⟩
        · simp only [if_neg s1, if_neg s2]
          exact ⟨p1, c1⟩
        · simp (disch := first | omega | decide | exact ko_b _ | assumption | (simp only [t_si, t_sl, t_sr, t_sI, t_sR, n_si, n_sl, n_sr, n_sI, n_sR, r_si, r_sl, r_sI]; first | done | omega)) only [x_167_e, x_167_b, x_167_39, x_167_40, x_167_41, x_167_44, x_167_45, x_167_47, x_167_50, x_167_53, x_167_54, x_167_56, x_167_59, x_167_e, x_167_b, x_167_93, x_167_94, bk_v, bk_n, nl_I, nl_R, nl_L, nl_0, oo_lt, oo_le, oo_eq, oo_add, oo_sub, oo_tn, oo_ir, nn_leT, nn_leF, nn_ltT, nn_ltF, nn_eqT, nn_eqF, bv_0, bv_1, ko_b, ko_1, ko_0, true_and, and_true, if_true, if_false, not_true_eq_false, not_false_eq_true, oo_02, decide_eq_true_eq, decide_eq_false_iff_not, ite_not, Nat.reduceAdd, Nat.reduceLT, Nat.reduceSub, Nat.reduceLeDiff, reduceIte, Bool.true_eq_false, Bool.false_eq_true, reduceCtorEq, eq_self, decide_true, decide_false, bv_t, bv_f, and_self, t_si, t_sl, t_sr, t_sI, t_sR, n_si, n_sl, n_sr, n_sI, n_sR, r_si, r_sl, r_sI, q1, ha, hb]
theorem m_lays {d a n b : Nat} : ∀ m i (w : Wd) (cc : List Int32), i + m = n → n ≤ 7 → Me_ w t → Mr_ w t b → Mc_ w cc → cc.length + m ≤ 600 → ∃ w1, (Fr_ pcl_ w w1 ∧ Mr_ w1 t b ∧ Mc_ w1 (cc ++ List.replicate m (Int32.ofInt (-28)))) ∧ ∀ Q, wp (d + 9) 167 95 [some (v_R (some 1440)), some (v_I (Int32.ofNat a)), some (v_I (Int32.ofNat n)), some (v_I (Int32.ofNat i))] [] w Q = Q (Sum.inl none) w1 := by
  intro m
  induction m with
  | zero =>
    intro i w cc hi h7 he hr hc hl
    refine ⟨w, ⟨fr_rf _ _, hr, by rw [List.replicate_zero, List.append_nil]; exact hc⟩, fun Q => ?_⟩
    rw [x_167_95]
    simp (disch := first | omega | decide | exact ko_b _ | assumption | (simp only [t_si, t_sl, t_sr, t_sI, t_sR, n_si, n_sl, n_sr, n_sI, n_sR, r_si, r_sl, r_sI]; first | done | omega)) only [x_167_e, x_167_b, x_167_96, x_167_97, x_167_e, x_167_b, x_167_112, bk_v, bk_n, nl_I, nl_R, nl_L, nl_0, oo_lt, oo_le, oo_eq, oo_add, oo_sub, oo_tn, oo_ir, nn_leT, nn_leF, nn_ltT, nn_ltF, nn_eqT, nn_eqF, bv_0, bv_1, ko_b, ko_1, ko_0, true_and, and_true, if_true, if_false, not_true_eq_false, not_false_eq_true, oo_02, decide_eq_true_eq, decide_eq_false_iff_not, ite_not, Nat.reduceAdd, Nat.reduceLT, Nat.reduceSub, Nat.reduceLeDiff, reduceIte, Bool.true_eq_false, Bool.false_eq_true, reduceCtorEq, eq_self, decide_true, decide_false, bv_t, bv_f, and_self, t_si, t_sl, t_sr, t_sI, t_sR, n_si, n_sl, n_sr, n_sI, n_sR, r_si, r_sl, r_sI]
  | succ m ih =>
    intro i w cc hi h7 he hr hc hl
    have t0 := he.1.1
    obtain ⟨f1, p1, c1⟩ := ly_f (x := Int32.ofInt (-28)) hr hc
    have hy := fun d Q => m_lay (d := d) (x := Int32.ofInt (-28)) (Q := Q) he hr.2.1 hc (by omega)
    obtain ⟨w2, ⟨f2, p2, c2⟩, q2⟩ := ih (i + 1) _ _ (by omega) h7 (Me_l he f1) p1 c1 (by rw [List.length_append, List.length_singleton]; omega)
    refine ⟨w2, ⟨fr_tr f1 f2, p2, ?_⟩, fun Q => ?_⟩
    · rw [List.append_assoc] at c2
      rw [List.replicate_succ]
      exact c2
    · rw [← q2 Q, x_167_95]
      simp (disch := first | omega | decide | exact ko_b _ | assumption | (simp only [t_si, t_sl, t_sr, t_sI, t_sR, n_si, n_sl, n_sr, n_sI, n_sR, r_si, r_sl, r_sI]; first | done | omega)) only [x_167_e, x_167_b, x_167_96, x_167_97, x_167_100, x_167_101, x_167_103, x_167_106, x_167_109, bk_v, bk_n, nl_I, nl_R, nl_L, nl_0, oo_lt, oo_le, oo_eq, oo_add, oo_sub, oo_tn, oo_ir, nn_leT, nn_leF, nn_ltT, nn_ltF, nn_eqT, nn_eqF, bv_0, bv_1, ko_b, ko_1, ko_0, true_and, and_true, if_true, if_false, not_true_eq_false, not_false_eq_true, oo_02, decide_eq_true_eq, decide_eq_false_iff_not, ite_not, Nat.reduceAdd, Nat.reduceLT, Nat.reduceSub, Nat.reduceLeDiff, reduceIte, Bool.true_eq_false, Bool.false_eq_true, reduceCtorEq, eq_self, decide_true, decide_false, bv_t, bv_f, and_self, t_si, t_sl, t_sr, t_sI, t_sR, n_si, n_sl, n_sr, n_sI, n_sR, r_si, r_sl, r_sI, hy]
theorem m_laysf {d a n : Nat} {w : Wd} {e : Nat × Nat} (h0 : w_t w 1440 = 25) (hf : Mf_ w t e) (h7 : n ≤ 7) {Q : Q_} : ∀ m i, i + m = n → wp (d + 9) 167 95 [some (v_R (some 1440)), some (v_I (Int32.ofNat a)), some (v_I (Int32.ofNat n)), some (v_I (Int32.ofNat i))] [] w Q = Q (Sum.inl none) w := by
  have hy := fun d x Q => m_layf (d := d) (x := x) (Q := Q) h0 hf
  intro m
  induction m with
  | zero =>
    intro i hi
    rw [x_167_95]
    simp (disch := first | omega | decide | exact ko_b _ | assumption | (simp only [t_si, t_sl, t_sr, t_sI, t_sR, n_si, n_sl, n_sr, n_sI, n_sR, r_si, r_sl, r_sI]; first | done | omega)) only [x_167_e, x_167_b, x_167_96, x_167_97, x_167_e, x_167_b, x_167_112, bk_v, bk_n, nl_I, nl_R, nl_L, nl_0, oo_lt, oo_le, oo_eq, oo_add, oo_sub, oo_tn, oo_ir, nn_leT, nn_leF, nn_ltT, nn_ltF, nn_eqT, nn_eqF, bv_0, bv_1, ko_b, ko_1, ko_0, true_and, and_true, if_true, if_false, not_true_eq_false, not_false_eq_true, oo_02, decide_eq_true_eq, decide_eq_false_iff_not, ite_not, Nat.reduceAdd, Nat.reduceLT, Nat.reduceSub, Nat.reduceLeDiff, reduceIte, Bool.true_eq_false, Bool.false_eq_true, reduceCtorEq, eq_self, decide_true, decide_false, bv_t, bv_f, and_self, t_si, t_sl, t_sr, t_sI, t_sR, n_si, n_sl, n_sr, n_sI, n_sR, r_si, r_sl, r_sI]
  | succ m ih =>
    intro i hi
    rw [← ih (i + 1) (by omega), x_167_95]
    simp (disch := first | omega | decide | exact ko_b _ | assumption | (simp only [t_si, t_sl, t_sr, t_sI, t_sR, n_si, n_sl, n_sr, n_sI, n_sR, r_si, r_sl, r_sI]; first | done | omega)) only [x_167_e, x_167_b, x_167_96, x_167_97, x_167_100, x_167_101, x_167_103, x_167_106, x_167_109, bk_v, bk_n, nl_I, nl_R, nl_L, nl_0, oo_lt, oo_le, oo_eq, oo_add, oo_sub, oo_tn, oo_ir, nn_leT, nn_leF, nn_ltT, nn_ltF, nn_eqT, nn_eqF, bv_0, bv_1, ko_b, ko_1, ko_0, true_and, and_true, if_true, if_false, not_true_eq_false, not_false_eq_true, oo_02, decide_eq_true_eq, decide_eq_false_iff_not, ite_not, Nat.reduceAdd, Nat.reduceLT, Nat.reduceSub, Nat.reduceLeDiff, reduceIte, Bool.true_eq_false, Bool.false_eq_true, reduceCtorEq, eq_self, decide_true, decide_false, bv_t, bv_f, and_self, t_si, t_sl, t_sr, t_sI, t_sR, n_si, n_sl, n_sr, n_sI, n_sR, r_si, r_sl, r_sI, hy]
theorem m_nots {K a k : Nat} {f : Nat → Rs_} (hK : 8 ≤ K) (hX : MEx_ t K 168 a f) (hN : MN_ t K 168 a) (hg : ∀ b, RG_ k t b (f b)) {d : Nat} (hd : K ≤ d + 8) : ∀ j n (w : Wd) (b : Nat) (c : List Int32) (a3 : Option Vl), n + j = 6 → Me_ w t → Mr_ w t b → Mc_ w c → c.length + n ≤ b → ∃ w1, (Fr_ pcl_ w w1 ∧ MX_ w1 t c (match nots_ t (cm_ t f) j b with | Sum.inl e => Sum.inl e | Sum.inr r => Sum.inr (r.1 ++ List.replicate n (Int32.ofInt (-28)), r.2))) ∧ ∀ Q, wp (d + 9) 167 2 [some (v_R (some 1440)), some (v_I (Int32.ofNat a)), some (v_I (Int32.ofNat n)), a3] [] w Q = Q (Sum.inl none) w1 := by
  have hgc := fun b => cm_g hg b
  have go : ∀ n (w : Wd) (b : Nat) (c : List Int32) (a3 : Option Vl), n ≤ 6 → Me_ w t → Mr_ w t b → Mc_ w c → c.length + n ≤ b → ∃ w1, (Fr_ pcl_ w w1 ∧ MX_ w1 t c (match cm_ t f b with | Sum.inl e => Sum.inl e | Sum.inr r => Sum.inr (r.1 ++ List.replicate n (Int32.ofInt (-28)), r.2))) ∧ ∀ Q, wp (d + 9) 167 39 [some (v_R (some 1440)), some (v_I (Int32.ofNat a)), some (v_I (Int32.ofNat n)), a3] [] w Q = Q (Sum.inl none) w1 := by
    intro n w b c a3 hn he hr hc hl
    have hN6 := Me_N he
    obtain ⟨w1, ⟨f1, p1⟩, q1⟩ := m_cm (n := n) (a3 := a3) hX hg hd he hr hc (by omega)
    have e1 := Me_l he f1
    cases hx : cm_ t f b with
    | inl e =>
      rw [hx] at p1
      exact ⟨w1, ⟨f1, p1⟩, fun Q => (q1 Q).trans (m_laysf e1.1.1 p1 (by omega) n 0 (by omega))⟩
    | inr r =>
      rw [hx] at p1
      obtain ⟨p1, c1⟩ := p1
      obtain ⟨-, g2, g3, g4⟩ := hgc _ r.1 r.2 hx
      obtain ⟨w2, ⟨f2, p2, c2⟩, q2⟩ := m_lays (d := d) (a := a) (n := n) n 0 w1 (c ++ r.1) (by omega) (by omega) e1 p1 c1 (by rw [List.length_append]; omega)
      exact ⟨w2, ⟨fr_tr f1 f2, p2, by rw [← List.append_assoc]; exact c2⟩, fun Q => (q1 Q).trans (q2 Q)⟩
  intro j
  induction j with
  | zero =>
    intro n w b c a3 hj he hr hc hl
    have hn6 : n = 6 := by omega
    subst hn6
    have t0 := he.1.1
    obtain ⟨sc, sa⟩ := s_not he.2.2.1
    have hw := fun Q => m_isw (D := d + 8) (Q := Q) (by omega) sc sa he.1 hr
    unfold nots_
    by_cases c1 : is_w t b ws_not = true
    · rw [if_pos c1]
      rw [c1] at hw
      obtain ⟨f1, g1, p1⟩ := wr_f he.1 hr (c := 2) (by omega)
      have t1 := g1.1
      have hr2 := fun d Q => m_wr (d := d) (c := 2) (Q := Q) t0 hr
      have hn := Mf_n p1
      have hwf := fun D Q => m_iswf (D := D) (q := 51) (Q := Q) t1 p1
      have hkf := fun D x Q => m_iskf (D := D) (x := x) (Q := Q) t1 p1
      have q1 := hN (d + 8) (wr_ w 2 b) (2, b) hd t1 p1
      have e3 := fun Q => m_laysf (d := d) (a := a) (n := 7) (Q := Q) t1 p1 (by omega) 7 0 (by omega)
      refine ⟨wr_ w 2 b, ⟨fr_mo f1 (fun _ _ z => pk_l z), p1⟩, fun Q => ?_⟩
      have s1 : wp (d + 9) 167 2 [some (v_R (some 1440)), some (v_I (Int32.ofNat a)), some (v_I (Int32.ofNat 6)), a3] [] w Q = wp (d + 9) 167 2 [some (v_R (some 1440)), some (v_I (Int32.ofNat a)), some (v_I (Int32.ofNat 7)), a3] [] (wr_ w 2 b) Q := by
        rw [x_167_2]
        simp (disch := first | omega | decide | exact ko_b _ | assumption | (simp only [t_si, t_sl, t_sr, t_sI, t_sR, n_si, n_sl, n_sr, n_sI, n_sR, r_si, r_sl, r_sI]; first | done | omega)) only [x_167_e, x_167_b, x_167_3, x_167_5, x_167_8, x_167_11, x_167_12, x_167_14, x_167_17, x_167_18, x_167_19, x_167_22, x_167_25, x_167_26, x_167_29, bk_v, bk_n, nl_I, nl_R, nl_L, nl_0, oo_lt, oo_le, oo_eq, oo_add, oo_sub, oo_tn, oo_ir, nn_leT, nn_leF, nn_ltT, nn_ltF, nn_eqT, nn_eqF, bv_0, bv_1, ko_b, ko_1, ko_0, true_and, and_true, if_true, if_false, not_true_eq_false, not_false_eq_true, oo_02, decide_eq_true_eq, decide_eq_false_iff_not, ite_not, Nat.reduceAdd, Nat.reduceLT, Nat.reduceSub, Nat.reduceLeDiff, reduceIte, Bool.true_eq_false, Bool.false_eq_true, reduceCtorEq, eq_self, decide_true, decide_false, bv_t, bv_f, and_self, t_si, t_sl, t_sr, t_sI, t_sR, n_si, n_sl, n_sr, n_sI, n_sR, r_si, r_sl, r_sI, hw, hr2, hn]
      rw [s1, ← e3 Q, x_167_2]
      simp (disch := first | omega | decide | exact ko_b _ | assumption | (simp only [t_si, t_sl, t_sr, t_sI, t_sR, n_si, n_sl, n_sr, n_sI, n_sR, r_si, r_sl, r_sI]; first | done | omega)) only [x_167_e, x_167_b, x_167_3, x_167_5, x_167_8, x_167_e, x_167_b, x_167_39, x_167_40, x_167_41, x_167_44, x_167_45, x_167_47, x_167_50, x_167_53, x_167_54, x_167_56, x_167_59, x_167_e, x_167_b, x_167_93, x_167_94, bk_v, bk_n, nl_I, nl_R, nl_L, nl_0, oo_lt, oo_le, oo_eq, oo_add, oo_sub, oo_tn, oo_ir, nn_leT, nn_leF, nn_ltT, nn_ltF, nn_eqT, nn_eqF, bv_0, bv_1, ko_b, ko_1, ko_0, true_and, and_true, if_true, if_false, not_true_eq_false, not_false_eq_true, oo_02, decide_eq_true_eq, decide_eq_false_iff_not, ite_not, Nat.reduceAdd, Nat.reduceLT, Nat.reduceSub, Nat.reduceLeDiff, reduceIte, Bool.true_eq_false, Bool.false_eq_true, reduceCtorEq, eq_self, decide_true, decide_false, bv_t, bv_f, and_self, t_si, t_sl, t_sr, t_sI, t_sR, n_si, n_sl, n_sr, n_sI, n_sR, r_si, r_sl, r_sI, hwf, hkf, q1]
    · rw [if_neg c1]
      rw [Bool.eq_false_iff.mpr c1] at hw
      obtain ⟨w1, h1, q1⟩ := go 6 w b c a3 (by omega) he hr hc hl
      refine ⟨w1, h1, fun Q => ?_⟩
      rw [← q1 Q, x_167_2]
      simp (disch := first | omega | decide | exact ko_b _ | assumption | (simp only [t_si, t_sl, t_sr, t_sI, t_sR, n_si, n_sl, n_sr, n_sI, n_sR, r_si, r_sl, r_sI]; first | done | omega)) only [x_167_e, x_167_b, x_167_3, x_167_5, x_167_8, bk_v, bk_n, nl_I, nl_R, nl_L, nl_0, oo_lt, oo_le, oo_eq, oo_add, oo_sub, oo_tn, oo_ir, nn_leT, nn_leF, nn_ltT, nn_ltF, nn_eqT, nn_eqF, bv_0, bv_1, ko_b, ko_1, ko_0, true_and, and_true, if_true, if_false, not_true_eq_false, not_false_eq_true, oo_02, decide_eq_true_eq, decide_eq_false_iff_not, ite_not, Nat.reduceAdd, Nat.reduceLT, Nat.reduceSub, Nat.reduceLeDiff, reduceIte, Bool.true_eq_false, Bool.false_eq_true, reduceCtorEq, eq_self, decide_true, decide_false, bv_t, bv_f, and_self, t_si, t_sl, t_sr, t_sI, t_sR, n_si, n_sl, n_sr, n_sI, n_sR, r_si, r_sl, r_sI, hw]
  | succ j ih =>
    intro n w b c a3 hj he hr hc hl
    have t0 := he.1.1
    obtain ⟨sc, sa⟩ := s_not he.2.2.1
    have hw := fun Q => m_isw (D := d + 8) (Q := Q) (by omega) sc sa he.1 hr
    unfold nots_
    by_cases c1 : is_w t b ws_not = true
    · rw [if_pos c1]
      rw [c1] at hw
      have hbt := tk_gt (t := t) (b := b) (by have := is_w_k c1; omega)
      obtain ⟨w1, ⟨f1, g1, p1⟩, q1⟩ := m_step (D := d + 8) (by omega) he.1 hr.2.1 hr.2.2.1 (tk_ebd hr.1).2
      have p1 : Mr_ w1 t (tk_n t b) := p1
      have t1 := g1.1
      have r1 := hr.2.1
      obtain ⟨w2, ⟨f2, p2⟩, q2⟩ := ih (n + 1) w1 (tk_n t b) c a3 (by omega) (Me_k he f1) p1 (Mc_k hc f1) (by omega)
      refine ⟨w2, ⟨fr_tr (fr_mo f1 (fun _ _ z => pk_l z)) f2, ?_⟩, fun Q => ?_⟩
      · cases hx : nots_ t (cm_ t f) j (tk_n t b) with
        | inl e => rw [hx] at p2; exact p2
        | inr r =>
          rw [hx] at p2
          refine ⟨p2.1, ?_⟩
          have := p2.2
          rw [List.replicate_succ] at this
          show Mc_ w2 (c ++ (r.1 ++ [Int32.ofInt (-28)] ++ List.replicate n (Int32.ofInt (-28))))
          rw [List.append_assoc r.1]
          exact this
      · rw [← q2 Q, x_167_2]
        simp (disch := first | omega | decide | exact ko_b _ | assumption | (simp only [t_si, t_sl, t_sr, t_sI, t_sR, n_si, n_sl, n_sr, n_sI, n_sR, r_si, r_sl, r_sI]; first | done | omega)) only [x_167_e, x_167_b, x_167_3, x_167_5, x_167_8, x_167_11, x_167_12, x_167_14, x_167_17, x_167_18, x_167_19, x_167_22, x_167_25, x_167_26, x_167_29, x_167_32, x_167_33, x_167_36, bk_v, bk_n, nl_I, nl_R, nl_L, nl_0, oo_lt, oo_le, oo_eq, oo_add, oo_sub, oo_tn, oo_ir, nn_leT, nn_leF, nn_ltT, nn_ltF, nn_eqT, nn_eqF, bv_0, bv_1, ko_b, ko_1, ko_0, true_and, and_true, if_true, if_false, not_true_eq_false, not_false_eq_true, oo_02, decide_eq_true_eq, decide_eq_false_iff_not, ite_not, Nat.reduceAdd, Nat.reduceLT, Nat.reduceSub, Nat.reduceLeDiff, reduceIte, Bool.true_eq_false, Bool.false_eq_true, reduceCtorEq, eq_self, decide_true, decide_false, bv_t, bv_f, and_self, t_si, t_sl, t_sr, t_sI, t_sR, n_si, n_sl, n_sr, n_sI, n_sR, r_si, r_sl, r_sI, hw, r1, q1]
    · rw [if_neg c1]
      rw [Bool.eq_false_iff.mpr c1] at hw
      obtain ⟨w1, h1, q1⟩ := go n w b c a3 (by omega) he hr hc hl
      refine ⟨w1, h1, fun Q => ?_⟩
      rw [← q1 Q, x_167_2]
      simp (disch := first | omega | decide | exact ko_b _ | assumption | (simp only [t_si, t_sl, t_sr, t_sI, t_sR, n_si, n_sl, n_sr, n_sI, n_sR, r_si, r_sl, r_sI]; first | done | omega)) only [x_167_e, x_167_b, x_167_3, x_167_5, x_167_8, bk_v, bk_n, nl_I, nl_R, nl_L, nl_0, oo_lt, oo_le, oo_eq, oo_add, oo_sub, oo_tn, oo_ir, nn_leT, nn_leF, nn_ltT, nn_ltF, nn_eqT, nn_eqF, bv_0, bv_1, ko_b, ko_1, ko_0, true_and, and_true, if_true, if_false, not_true_eq_false, not_false_eq_true, oo_02, decide_eq_true_eq, decide_eq_false_iff_not, ite_not, Nat.reduceAdd, Nat.reduceLT, Nat.reduceSub, Nat.reduceLeDiff, reduceIte, Bool.true_eq_false, Bool.false_eq_true, reduceCtorEq, eq_self, decide_true, decide_false, bv_t, bv_f, and_self, t_si, t_sl, t_sr, t_sI, t_sR, n_si, n_sl, n_sr, n_sI, n_sR, r_si, r_sl, r_sI, hw]
theorem m_not {K a k : Nat} {f : Nat → Rs_} (hK : 8 ≤ K) (hX : MEx_ t K 168 a f) (hN : MN_ t K 168 a) (hg : ∀ b, RG_ k t b (f b)) : MEx_ t (K + 1) 167 a (nots_ t (cm_ t f) 6) := by
  intro D w b c hD he hr hc hl
  obtain ⟨d, rfl⟩ : ∃ d, D = d + 9 := ⟨D - 9, by omega⟩
  obtain ⟨w1, ⟨f1, p1⟩, q1⟩ := m_nots hK hX hN hg (d := d) (by omega) 6 0 w b c none (by omega) he hr hc (by omega)
  refine ⟨w1, ⟨f1, ?_⟩, fun Q => ?_⟩
  · cases hx : nots_ t (cm_ t f) 6 b with
    | inl e => rw [hx] at p1; exact p1
    | inr r =>
      rw [hx] at p1
      refine ⟨p1.1, ?_⟩
      have := p1.2
      rw [List.replicate_zero, List.append_nil] at this
      exact this
  · rw [← q1 Q]
    simp (disch := first | omega | decide | exact ko_b _ | assumption | (simp only [t_si, t_sl, t_sr, t_sI, t_sR, n_si, n_sl, n_sr, n_sI, n_sR, r_si, r_sl, r_sI]; first | done | omega)) only [x_167_e, x_167_b, x_167_0, x_167_1, bk_v, bk_n, nl_I, nl_R, nl_L, nl_0, oo_lt, oo_le, oo_eq, oo_add, oo_sub, oo_tn, oo_ir, nn_leT, nn_leF, nn_ltT, nn_ltF, nn_eqT, nn_eqF, bv_0, bv_1, ko_b, ko_1, ko_0, true_and, and_true, if_true, if_false, not_true_eq_false, not_false_eq_true, oo_02, decide_eq_true_eq, decide_eq_false_iff_not, ite_not, Nat.reduceAdd, Nat.reduceLT, Nat.reduceSub, Nat.reduceLeDiff, reduceIte, Bool.true_eq_false, Bool.false_eq_true, reduceCtorEq, eq_self, decide_true, decide_false, bv_t, bv_f, and_self, t_si, t_sl, t_sr, t_sI, t_sR, n_si, n_sl, n_sr, n_sI, n_sR, r_si, r_sl, r_sI]
theorem m_notf {K a : Nat} (hK : 8 ≤ K) (hN : MN_ t K 168 a) : MN_ t (K + 1) 167 a := by
  intro D w e hD h0 hf Q
  obtain ⟨d, rfl⟩ : ∃ d, D = d + 9 := ⟨D - 9, by omega⟩
  have q1 := hN (d + 8) w e (by omega) h0 hf
  have hk := fun D x Q => m_iskf (D := D) (x := x) (Q := Q) h0 hf
  have hwf := fun D Q => m_iswf (D := D) (q := 51) (Q := Q) h0 hf
  rw [← m_laysf (Q := Q) (d := d) (a := a) (n := 0) h0 hf (by omega) 0 0 (by omega)]
  simp (disch := first | omega | decide | exact ko_b _ | assumption | (simp only [t_si, t_sl, t_sr, t_sI, t_sR, n_si, n_sl, n_sr, n_sI, n_sR, r_si, r_sl, r_sI]; first | done | omega)) only [x_167_e, x_167_b, x_167_0, x_167_1, x_167_2, x_167_3, x_167_5, x_167_8, x_167_e, x_167_b, x_167_39, x_167_40, x_167_41, x_167_44, x_167_45, x_167_47, x_167_50, x_167_53, x_167_54, x_167_56, x_167_59, x_167_e, x_167_b, x_167_93, x_167_94, bk_v, bk_n, nl_I, nl_R, nl_L, nl_0, oo_lt, oo_le, oo_eq, oo_add, oo_sub, oo_tn, oo_ir, nn_leT, nn_leF, nn_ltT, nn_ltF, nn_eqT, nn_eqF, bv_0, bv_1, ko_b, ko_1, ko_0, true_and, and_true, if_true, if_false, not_true_eq_false, not_false_eq_true, oo_02, decide_eq_true_eq, decide_eq_false_iff_not, ite_not, Nat.reduceAdd, Nat.reduceLT, Nat.reduceSub, Nat.reduceLeDiff, reduceIte, Bool.true_eq_false, Bool.false_eq_true, reduceCtorEq, eq_self, decide_true, decide_false, bv_t, bv_f, and_self, t_si, t_sl, t_sr, t_sI, t_sR, n_si, n_sl, n_sr, n_sI, n_sR, r_si, r_sl, r_sI, q1, hk, hwf]
theorem m_and {K a k : Nat} {f : Nat → Rs_} (hK : 8 ≤ K) (hX : MEx_ t K 167 a f) (hg : ∀ b, RG_ k t b (f b)) : MEx_ t (K + 1) 166 a (lv_c t f (op_n t)) := by
  intro D w b c hD he hr hc hl
  obtain ⟨d, rfl⟩ : ∃ d, D = d + 9 := ⟨D - 9, by omega⟩
  have H2 : ∀ (a2 : Option Vl) (w : Wd) (e : Nat × Nat), Me_ w t → Mf_ w t e → ∀ Q, wp (d + 9) 166 5 [some (v_R (some 1440)), some (v_I (Int32.ofNat a))] [] w Q = Q (Sum.inl none) w := by
    intro a2 w e he hf Q
    have t0 := he.1.1
    have hk := fun D Q => m_iswf (D := D) (q := 52) (Q := Q) t0 hf
    rw [x_166_5]
    simp (disch := first | omega | decide | exact ko_b _ | assumption | (simp only [t_si, t_sl, t_sr, t_sI, t_sR, n_si, n_sl, n_sr, n_sI, n_sR, r_si, r_sl, r_sI]; first | done | omega)) only [x_166_e, x_166_b, x_166_6, x_166_8, x_166_11, x_166_e, x_166_b, x_166_32, bk_v, bk_n, nl_I, nl_R, nl_L, nl_0, oo_lt, oo_le, oo_eq, oo_add, oo_sub, oo_tn, oo_ir, nn_leT, nn_leF, nn_ltT, nn_ltF, nn_eqT, nn_eqF, bv_0, bv_1, ko_b, ko_1, ko_0, true_and, and_true, if_true, if_false, not_true_eq_false, not_false_eq_true, oo_02, decide_eq_true_eq, decide_eq_false_iff_not, ite_not, Nat.reduceAdd, Nat.reduceLT, Nat.reduceSub, Nat.reduceLeDiff, reduceIte, Bool.true_eq_false, Bool.false_eq_true, reduceCtorEq, eq_self, decide_true, decide_false, bv_t, bv_f, and_self, t_si, t_sl, t_sr, t_sI, t_sR, n_si, n_sl, n_sr, n_sI, n_sR, r_si, r_sl, r_sI, hk]
  refine lv_m (a2 := none) (fun a2 w Q => wp (d + 9) 166 5 [some (v_R (some 1440)), some (v_I (Int32.ofNat a))] [] w Q) hX (d := d + 8) (by omega) he hr hc hl hg H2 (ch_m hg op_ng _ ?_ ?_ H2) ?_
  · intro a2 w b he hr hop Q
    have t0 := he.1.1
    obtain ⟨sc, sa⟩ := s_and he.2.2.1
    have ha := fun Q => m_isw (D := d + 8) (Q := Q) (by omega) sc sa he.1 hr
    unfold op_n at hop
    have s1 : is_w t b ws_and = false := by
      cases h : is_w t b ws_and with
      | false => rfl
      | true => rw [if_pos h] at hop; cases hop
    rw [s1] at ha
    show wp (d + 9) 166 5 _ _ w Q = _
    rw [x_166_5]
    simp (disch := first | omega | decide | exact ko_b _ | assumption | (simp only [t_si, t_sl, t_sr, t_sI, t_sR, n_si, n_sl, n_sr, n_sI, n_sR, r_si, r_sl, r_sI]; first | done | omega)) only [x_166_e, x_166_b, x_166_6, x_166_8, x_166_11, x_166_e, x_166_b, x_166_32, bk_v, bk_n, nl_I, nl_R, nl_L, nl_0, oo_lt, oo_le, oo_eq, oo_add, oo_sub, oo_tn, oo_ir, nn_leT, nn_leF, nn_ltT, nn_ltF, nn_eqT, nn_eqF, bv_0, bv_1, ko_b, ko_1, ko_0, true_and, and_true, if_true, if_false, not_true_eq_false, not_false_eq_true, oo_02, decide_eq_true_eq, decide_eq_false_iff_not, ite_not, Nat.reduceAdd, Nat.reduceLT, Nat.reduceSub, Nat.reduceLeDiff, reduceIte, Bool.true_eq_false, Bool.false_eq_true, reduceCtorEq, eq_self, decide_true, decide_false, bv_t, bv_f, and_self, t_si, t_sl, t_sr, t_sI, t_sR, n_si, n_sl, n_sr, n_sI, n_sR, r_si, r_sl, r_sI, ha]
  · intro a2 w b c o he hr hc hl hop
    have t0 := he.1.1
    obtain ⟨sc, sa⟩ := s_and he.2.2.1
    have ha := fun Q => m_isw (D := d + 8) (Q := Q) (by omega) sc sa he.1 hr
    obtain ⟨w1, w2, w3, F, ⟨t1, t2, t3⟩, q1, q2, q3⟩ := st_sub (o := o) (d := d + 8) hX hg (by omega) (by omega) he hr (op_ng b o hop).2 hc hl
    unfold op_n at hop
    by_cases s1 : is_w t b ws_and = true
    · rw [if_pos s1] at hop
      cases hop
      have q3 : ∀ Q, cl (d + 8) 171 [v_R (some 1440), v_I (Int32.ofInt (-26))] w2 Q = Q (Sum.inl none) w3 := q3
      rw [s1] at ha
      refine ⟨none, w3, F, fun Q => ?_⟩
      show wp (d + 9) 166 5 _ _ w Q = wp (d + 9) 166 5 _ _ w3 Q
      rw [x_166_5]
      simp (disch := first | omega | decide | exact ko_b _ | assumption | (simp only [t_si, t_sl, t_sr, t_sI, t_sR, n_si, n_sl, n_sr, n_sI, n_sR, r_si, r_sl, r_sI]; first | done | omega)) only [x_166_e, x_166_b, x_166_6, x_166_8, x_166_11, x_166_14, x_166_15, x_166_18, x_166_19, x_166_20, x_166_23, x_166_24, x_166_26, x_166_29, bk_v, bk_n, nl_I, nl_R, nl_L, nl_0, oo_lt, oo_le, oo_eq, oo_add, oo_sub, oo_tn, oo_ir, nn_leT, nn_leF, nn_ltT, nn_ltF, nn_eqT, nn_eqF, bv_0, bv_1, ko_b, ko_1, ko_0, true_and, and_true, if_true, if_false, not_true_eq_false, not_false_eq_true, oo_02, decide_eq_true_eq, decide_eq_false_iff_not, ite_not, Nat.reduceAdd, Nat.reduceLT, Nat.reduceSub, Nat.reduceLeDiff, reduceIte, Bool.true_eq_false, Bool.false_eq_true, reduceCtorEq, eq_self, decide_true, decide_false, bv_t, bv_f, and_self, t_si, t_sl, t_sr, t_sI, t_sR, n_si, n_sl, n_sr, n_sI, n_sR, r_si, r_sl, r_sI, ha, q1, q2, q3]
    · rw [if_neg s1] at hop; cases hop
  · intro w1 t1 q1 Q
    have t0 := he.1.1
    show cl (d + 9) 166 _ w Q = wp (d + 9) 166 5 _ _ w1 Q
    simp (disch := first | omega | decide | exact ko_b _ | assumption | (simp only [t_si, t_sl, t_sr, t_sI, t_sR, n_si, n_sl, n_sr, n_sI, n_sR, r_si, r_sl, r_sI]; first | done | omega)) only [x_166_e, x_166_b, x_166_0, x_166_1, x_166_2, bk_v, bk_n, nl_I, nl_R, nl_L, nl_0, oo_lt, oo_le, oo_eq, oo_add, oo_sub, oo_tn, oo_ir, nn_leT, nn_leF, nn_ltT, nn_ltF, nn_eqT, nn_eqF, bv_0, bv_1, ko_b, ko_1, ko_0, true_and, and_true, if_true, if_false, not_true_eq_false, not_false_eq_true, oo_02, decide_eq_true_eq, decide_eq_false_iff_not, ite_not, Nat.reduceAdd, Nat.reduceLT, Nat.reduceSub, Nat.reduceLeDiff, reduceIte, Bool.true_eq_false, Bool.false_eq_true, reduceCtorEq, eq_self, decide_true, decide_false, bv_t, bv_f, and_self, t_si, t_sl, t_sr, t_sI, t_sR, n_si, n_sl, n_sr, n_sI, n_sR, r_si, r_sl, r_sI, q1]
theorem m_andf {K a : Nat} (hK : 8 ≤ K) (hN : MN_ t K 167 a) : MN_ t (K + 1) 166 a := by
  intro D w e hD h0 hf Q
  obtain ⟨d, rfl⟩ : ∃ d, D = d + 9 := ⟨D - 9, by omega⟩
  have q1 := hN (d + 8) w e (by omega) h0 hf
  have hk := fun D Q => m_iswf (D := D) (q := 52) (Q := Q) h0 hf
  simp (disch := first | omega | decide | exact ko_b _ | assumption | (simp only [t_si, t_sl, t_sr, t_sI, t_sR, n_si, n_sl, n_sr, n_sI, n_sR, r_si, r_sl, r_sI]; first | done | omega)) only [x_166_e, x_166_b, x_166_0, x_166_1, x_166_2, x_166_5, x_166_6, x_166_8, x_166_11, x_166_e, x_166_b, x_166_32, bk_v, bk_n, nl_I, nl_R, nl_L, nl_0, oo_lt, oo_le, oo_eq, oo_add, oo_sub, oo_tn, oo_ir, nn_leT, nn_leF, nn_ltT, nn_ltF, nn_eqT, nn_eqF, bv_0, bv_1, ko_b, ko_1, ko_0, true_and, and_true, if_true, if_false, not_true_eq_false, not_false_eq_true, oo_02, decide_eq_true_eq, decide_eq_false_iff_not, ite_not, Nat.reduceAdd, Nat.reduceLT, Nat.reduceSub, Nat.reduceLeDiff, reduceIte, Bool.true_eq_false, Bool.false_eq_true, reduceCtorEq, eq_self, decide_true, decide_false, bv_t, bv_f, and_self, t_si, t_sl, t_sr, t_sI, t_sR, n_si, n_sl, n_sr, n_sI, n_sR, r_si, r_sl, r_sI, q1, hk]
/-! whole expressions -/
theorem m_exf {a : Nat} : MN_ t 8 164 a := by
  intro D w e hD h0 hf Q
  have hn := Mf_n hf
  simp (disch := first | omega | decide | exact ko_b _ | assumption | (simp only [t_si, t_sl, t_sr, t_sI, t_sR, n_si, n_sl, n_sr, n_sI, n_sR, r_si, r_sl, r_sI]; first | done | omega)) only [x_164_e, x_164_b, x_164_0, x_164_1, x_164_4, x_164_7, bk_v, bk_n, nl_I, nl_R, nl_L, nl_0, oo_lt, oo_le, oo_eq, oo_add, oo_sub, oo_tn, oo_ir, nn_leT, nn_leF, nn_ltT, nn_ltF, nn_eqT, nn_eqF, bv_0, bv_1, ko_b, ko_1, ko_0, true_and, and_true, if_true, if_false, not_true_eq_false, not_false_eq_true, oo_02, decide_eq_true_eq, decide_eq_false_iff_not, ite_not, Nat.reduceAdd, Nat.reduceLT, Nat.reduceSub, Nat.reduceLeDiff, reduceIte, Bool.true_eq_false, Bool.false_eq_true, reduceCtorEq, eq_self, decide_true, decide_false, bv_t, bv_f, and_self, t_si, t_sl, t_sr, t_sI, t_sR, n_si, n_sl, n_sr, n_sI, n_sR, r_si, r_sl, r_sI, hn]
def mxf_ (t : Tp) (f : Nat → Rs_) : Nat → Rs_ := lv_c t (nots_ t (cm_ t (lv_c t (lv_c t (pt_ t f) (op_m t)) (op_a t))) 6) (op_n t)
/-- the methods below an expression's -/
theorem m_below {K a k : Nat} {f : Nat → Rs_} (hK : 8 ≤ K) (hX : MEx_ t K 164 (a + 1) f) (hg : ∀ b, RG_ (k + 1) t b (f b)) : MEx_ t (K + 5) 166 a (mxf_ t f) ∧ MN_ t 13 166 a := by
  have n1 : MN_ t 9 170 a := m_partf
  have n2 : MN_ t 10 169 a := m_prodf (by omega) n1
  have n3 : MN_ t 11 168 a := m_sumf (by omega) n2
  have n4 : MN_ t 12 167 a := m_notf (by omega) n3
  have n5 : MN_ t 13 166 a := m_andf (by omega) n4
  have mo : ∀ {K1 K2 mid a}, MN_ t K1 mid a → K1 ≤ K2 → MN_ t K2 mid a := fun h hk D w e hD => h D w e (by omega)
  have g1 := fun b => pt_g hg (by omega) b
  have g2 := fun b => lv_g g1 op_mg b
  have g3 := fun b => lv_g g2 op_ag b
  have g4 := fun b => cm_g g3 b
  have g5 := fun b => nots_g g4 6 b
  have e1 := m_part hK hX (mo m_exf hK) hg
  have e2 := m_prod (by omega) e1 (mo n1 (by omega)) g1
  have e3 := m_sum (by omega) e2 (mo n2 (by omega)) g2
  have e4 := m_not (by omega) e3 (mo n3 (by omega)) g3
  exact ⟨m_and (by omega) e4 g5, n5⟩
theorem m_sth {D b : Nat} {w : Wd} (he : Me_ w t) (hr : Mr_ w t b) {a : Nat} {Q : Q_} : wp (D + 1) 164 0 [some (v_R (some 1440)), some (v_I (Int32.ofNat a)), none] [] w Q = wp (D + 1) 164 39 [some (v_R (some 1440)), some (v_I (Int32.ofNat a)), some (v_I (b_v (st_x t b)))] [] w Q := by
  have t0 := he.1.1
  have hs := fun D Q => m_isk (D := D) (c := 40) (Q := Q) he.1 hr (by omega)
  obtain ⟨hb, r1, r2, r3, r4, r5, r6⟩ := hr
  have hk5 := tk_k5 (t := t) (b := b)
  unfold st_x
  by_cases k2 : tk_k t b = 2
  · rw [decide_eq_true k2, Bool.true_or, Bool.true_or]
    simp (disch := first | omega | decide | exact ko_b _ | assumption | (simp only [t_si, t_sl, t_sr, t_sI, t_sR, n_si, n_sl, n_sr, n_sI, n_sR, r_si, r_sl, r_sI]; first | done | omega)) only [x_164_e, x_164_b, x_164_0, x_164_1, x_164_4, x_164_7, x_164_8, x_164_9, x_164_12, x_164_13, x_164_16, x_164_17, x_164_20, x_164_21, x_164_24, x_164_25, x_164_27, x_164_30, x_164_33, x_164_34, x_164_37, x_164_38, bk_v, bk_n, nl_I, nl_R, nl_L, nl_0, oo_lt, oo_le, oo_eq, oo_add, oo_sub, oo_tn, oo_ir, nn_leT, nn_leF, nn_ltT, nn_ltF, nn_eqT, nn_eqF, bv_0, bv_1, ko_b, ko_1, ko_0, true_and, and_true, if_true, if_false, not_true_eq_false, not_false_eq_true, oo_02, decide_eq_true_eq, decide_eq_false_iff_not, ite_not, Nat.reduceAdd, Nat.reduceLT, Nat.reduceSub, Nat.reduceLeDiff, reduceIte, Bool.true_eq_false, Bool.false_eq_true, reduceCtorEq, eq_self, decide_true, decide_false, bv_t, bv_f, and_self, t_si, t_sl, t_sr, t_sI, t_sR, n_si, n_sl, n_sr, n_sI, n_sR, r_si, r_sl, r_sI, r1, r5, k2]
  · by_cases k1 : tk_k t b = 1
    · rw [decide_eq_true k1, Bool.or_true, Bool.true_or]
      simp (disch := first | omega | decide | exact ko_b _ | assumption | (simp only [t_si, t_sl, t_sr, t_sI, t_sR, n_si, n_sl, n_sr, n_sI, n_sR, r_si, r_sl, r_sI]; first | done | omega)) only [x_164_e, x_164_b, x_164_0, x_164_1, x_164_4, x_164_7, x_164_8, x_164_9, x_164_12, x_164_13, x_164_16, x_164_17, x_164_20, x_164_21, x_164_24, x_164_25, x_164_27, x_164_30, x_164_33, x_164_34, x_164_37, x_164_38, bk_v, bk_n, nl_I, nl_R, nl_L, nl_0, oo_lt, oo_le, oo_eq, oo_add, oo_sub, oo_tn, oo_ir, nn_leT, nn_leF, nn_ltT, nn_ltF, nn_eqT, nn_eqF, bv_0, bv_1, ko_b, ko_1, ko_0, true_and, and_true, if_true, if_false, not_true_eq_false, not_false_eq_true, oo_02, decide_eq_true_eq, decide_eq_false_iff_not, ite_not, Nat.reduceAdd, Nat.reduceLT, Nat.reduceSub, Nat.reduceLeDiff, reduceIte, Bool.true_eq_false, Bool.false_eq_true, reduceCtorEq, eq_self, decide_true, decide_false, bv_t, bv_f, and_self, t_si, t_sl, t_sr, t_sI, t_sR, n_si, n_sl, n_sr, n_sI, n_sR, r_si, r_sl, r_sI, r1, r5, k1]
    · rw [decide_eq_false k2, decide_eq_false k1, Bool.false_or, Bool.false_or]
      cases s4 : is_s t b 40 with
      | true =>
        rw [s4] at hs
        simp (disch := first | omega | decide | exact ko_b _ | assumption | (simp only [t_si, t_sl, t_sr, t_sI, t_sR, n_si, n_sl, n_sr, n_sI, n_sR, r_si, r_sl, r_sI]; first | done | omega)) only [x_164_e, x_164_b, x_164_0, x_164_1, x_164_4, x_164_7, x_164_8, x_164_9, x_164_12, x_164_13, x_164_16, x_164_17, x_164_20, x_164_21, x_164_24, x_164_25, x_164_27, x_164_30, x_164_33, x_164_34, x_164_37, x_164_38, bk_v, bk_n, nl_I, nl_R, nl_L, nl_0, oo_lt, oo_le, oo_eq, oo_add, oo_sub, oo_tn, oo_ir, nn_leT, nn_leF, nn_ltT, nn_ltF, nn_eqT, nn_eqF, bv_0, bv_1, ko_b, ko_1, ko_0, true_and, and_true, if_true, if_false, not_true_eq_false, not_false_eq_true, oo_02, decide_eq_true_eq, decide_eq_false_iff_not, ite_not, Nat.reduceAdd, Nat.reduceLT, Nat.reduceSub, Nat.reduceLeDiff, reduceIte, Bool.true_eq_false, Bool.false_eq_true, reduceCtorEq, eq_self, decide_true, decide_false, bv_t, bv_f, and_self, t_si, t_sl, t_sr, t_sI, t_sR, n_si, n_sl, n_sr, n_sI, n_sR, r_si, r_sl, r_sI, r1, r5, k1, k2, hs]
      | false =>
        rw [s4] at hs
        simp (disch := first | omega | decide | exact ko_b _ | assumption | (simp only [t_si, t_sl, t_sr, t_sI, t_sR, n_si, n_sl, n_sr, n_sI, n_sR, r_si, r_sl, r_sI]; first | done | omega)) only [x_164_e, x_164_b, x_164_0, x_164_1, x_164_4, x_164_7, x_164_8, x_164_9, x_164_12, x_164_13, x_164_16, x_164_17, x_164_20, x_164_21, x_164_24, x_164_25, x_164_27, x_164_30, x_164_33, x_164_34, x_164_37, x_164_38, bk_v, bk_n, nl_I, nl_R, nl_L, nl_0, oo_lt, oo_le, oo_eq, oo_add, oo_sub, oo_tn, oo_ir, nn_leT, nn_leF, nn_ltT, nn_ltF, nn_eqT, nn_eqF, bv_0, bv_1, ko_b, ko_1, ko_0, true_and, and_true, if_true, if_false, not_true_eq_false, not_false_eq_true, oo_02, decide_eq_true_eq, decide_eq_false_iff_not, ite_not, Nat.reduceAdd, Nat.reduceLT, Nat.reduceSub, Nat.reduceLeDiff, reduceIte, Bool.true_eq_false, Bool.false_eq_true, reduceCtorEq, eq_self, decide_true, decide_false, bv_t, bv_f, and_self, t_si, t_sl, t_sr, t_sI, t_sR, n_si, n_sl, n_sr, n_sI, n_sR, r_si, r_sl, r_sI, r1, r5, k1, k2, hs]
theorem m_exb {K a : Nat} {f : Nat → Rs_} (hA : MN_ t K 166 a) (hK : 8 ≤ K) {D b : Nat} {w : Wd} {c : List Int32} (hD : K + 1 ≤ D) (he : Me_ w t) (hr : Mr_ w t b) (ha : a ≤ 6) (e : Nat) (h1 : e = 1 ∧ st_x t b = false ∨ e = 2 ∧ st_x t b = true ∧ a = 6) (hf : f b = Sum.inl (e, b)) : ∃ w1, (Fr_ pcl_ w w1 ∧ MX_ w1 t c (f b)) ∧ ∀ Q, cl D 164 [v_R (some 1440), v_I (Int32.ofNat a)] w Q = Q (Sum.inl none) w1 := by
  obtain ⟨d, rfl⟩ : ∃ d, D = d + 9 := ⟨D - 9, by omega⟩
  have t0 := he.1.1
  have hs := fun Q => m_sth (D := d + 8) (a := a) (Q := Q) he hr
  have hw := fun d Q => m_wr (d := d) (c := e) (Q := Q) t0 hr
  obtain ⟨f1, g1, p1⟩ := wr_f he.1 hr (c := e) (by omega)
  have t1 := g1.1
  have q1 := hA (d + 8) (wr_ w e b) (e, b) (by omega) t1 p1
  have hk := fun D Q => m_iswf (D := D) (q := 53) (Q := Q) t1 p1
  refine ⟨wr_ w e b, ⟨fr_mo f1 (fun _ _ z => pk_l z), by rw [hf]; exact p1⟩, fun Q => ?_⟩
  rw [x_164_e, hs]
  rcases h1 with ⟨rfl, h1⟩ | ⟨rfl, h1, rfl⟩
  · rw [h1]
    simp (disch := first | omega | decide | exact ko_b _ | assumption | (simp only [t_si, t_sl, t_sr, t_sI, t_sR, n_si, n_sl, n_sr, n_sI, n_sR, r_si, r_sl, r_sI]; first | done | omega)) only [x_164_e, x_164_b, x_164_39, x_164_40, x_164_43, x_164_44, x_164_45, x_164_48, x_164_51, x_164_52, x_164_54, x_164_57, x_164_58, x_164_59, x_164_62, x_164_63, x_164_64, x_164_67, x_164_68, x_164_71, x_164_74, x_164_e, x_164_b, x_164_95, bk_v, bk_n, nl_I, nl_R, nl_L, nl_0, oo_lt, oo_le, oo_eq, oo_add, oo_sub, oo_tn, oo_ir, nn_leT, nn_leF, nn_ltT, nn_ltF, nn_eqT, nn_eqF, bv_0, bv_1, ko_b, ko_1, ko_0, true_and, and_true, if_true, if_false, not_true_eq_false, not_false_eq_true, oo_02, decide_eq_true_eq, decide_eq_false_iff_not, ite_not, Nat.reduceAdd, Nat.reduceLT, Nat.reduceSub, Nat.reduceLeDiff, reduceIte, Bool.true_eq_false, Bool.false_eq_true, reduceCtorEq, eq_self, decide_true, decide_false, bv_t, bv_f, and_self, t_si, t_sl, t_sr, t_sI, t_sR, n_si, n_sl, n_sr, n_sI, n_sR, r_si, r_sl, r_sI, hw, q1, hk]
  · rw [h1]
    simp (disch := first | omega | decide | exact ko_b _ | assumption | (simp only [t_si, t_sl, t_sr, t_sI, t_sR, n_si, n_sl, n_sr, n_sI, n_sR, r_si, r_sl, r_sI]; first | done | omega)) only [x_164_e, x_164_b, x_164_39, x_164_40, x_164_43, x_164_44, x_164_45, x_164_48, x_164_51, x_164_52, x_164_54, x_164_57, x_164_58, x_164_59, x_164_62, x_164_63, x_164_64, x_164_67, x_164_68, x_164_71, x_164_74, x_164_e, x_164_b, x_164_95, bk_v, bk_n, nl_I, nl_R, nl_L, nl_0, oo_lt, oo_le, oo_eq, oo_add, oo_sub, oo_tn, oo_ir, nn_leT, nn_leF, nn_ltT, nn_ltF, nn_eqT, nn_eqF, bv_0, bv_1, ko_b, ko_1, ko_0, true_and, and_true, if_true, if_false, not_true_eq_false, not_false_eq_true, oo_02, decide_eq_true_eq, decide_eq_false_iff_not, ite_not, Nat.reduceAdd, Nat.reduceLT, Nat.reduceSub, Nat.reduceLeDiff, reduceIte, Bool.true_eq_false, Bool.false_eq_true, reduceCtorEq, eq_self, decide_true, decide_false, bv_t, bv_f, and_self, t_si, t_sl, t_sr, t_sI, t_sR, n_si, n_sl, n_sr, n_sI, n_sR, r_si, r_sl, r_sI, hw, q1, hk]
theorem m_exx : ∀ r a, r + a = 6 → MEx_ t (20 + 6 * r) 164 a (ex_p t r) := by
  intro r
  induction r with
  | zero =>
    intro a ha D w b c hD he hr hc hl
    have n1 : MN_ t 9 170 a := m_partf
    have n5 : MN_ t 13 166 a := m_andf (by omega) (m_notf (by omega) (m_sumf (by omega) (m_prodf (by omega) n1)))
    cases hs : st_x t b with
    | true => exact m_exb n5 (by omega) (by omega) he hr (by omega) 2 (Or.inr ⟨rfl, hs, by omega⟩) (by unfold ex_p; rw [if_pos hs])
    | false => exact m_exb n5 (by omega) (by omega) he hr (by omega) 1 (Or.inl ⟨rfl, hs⟩) (by unfold ex_p; rw [hs]; rfl)
  | succ r ih =>
    intro a ha D w b c hD he hr hc hl
    obtain ⟨hA, n5⟩ := m_below (k := 5 * r) (by omega) (ih (a + 1) (by omega)) (ex_g r)
    cases hs : st_x t b with
    | false => exact m_exb n5 (by omega) (by omega) he hr (by omega) 1 (Or.inl ⟨rfl, hs⟩) (by unfold ex_p; rw [hs]; rfl)
    | true =>
      obtain ⟨d, rfl⟩ : ∃ d, D = d + 9 := ⟨D - 9, by omega⟩
      have g1 := fun b => pt_g (ex_g (t := t) r) (by omega) b
      have g2 := fun b => lv_g g1 op_mg b
      have g3 := fun b => lv_g g2 op_ag b
      have g4 := fun b => cm_g g3 b
      have g5 := fun b => nots_g g4 6 b
      have g6 := fun b => lv_g g5 op_ng b
      have ee : ex_p t (r + 1) b = lv_c t (mxf_ t (ex_p t r)) (op_o t) b := by
        show (if st_x t b = true then _ else _) = _
        rw [if_pos hs]
        rfl
      rw [ee]
      have H2 : ∀ (a2 : Option Vl) (w : Wd) (e : Nat × Nat), Me_ w t → Mf_ w t e → ∀ Q, wp (d + 9) 164 67 [some (v_R (some 1440)), some (v_I (Int32.ofNat a)), a2] [] w Q = Q (Sum.inl none) w := by
        intro a2 w e he hf Q
        have t0 := he.1.1
        have hk := fun D Q => m_iswf (D := D) (q := 53) (Q := Q) t0 hf
        rw [x_164_67]
        simp (disch := first | omega | decide | exact ko_b _ | assumption | (simp only [t_si, t_sl, t_sr, t_sI, t_sR, n_si, n_sl, n_sr, n_sI, n_sR, r_si, r_sl, r_sI]; first | done | omega)) only [x_164_e, x_164_b, x_164_68, x_164_71, x_164_74, x_164_e, x_164_b, x_164_95, bk_v, bk_n, nl_I, nl_R, nl_L, nl_0, oo_lt, oo_le, oo_eq, oo_add, oo_sub, oo_tn, oo_ir, nn_leT, nn_leF, nn_ltT, nn_ltF, nn_eqT, nn_eqF, bv_0, bv_1, ko_b, ko_1, ko_0, true_and, and_true, if_true, if_false, not_true_eq_false, not_false_eq_true, oo_02, decide_eq_true_eq, decide_eq_false_iff_not, ite_not, Nat.reduceAdd, Nat.reduceLT, Nat.reduceSub, Nat.reduceLeDiff, reduceIte, Bool.true_eq_false, Bool.false_eq_true, reduceCtorEq, eq_self, decide_true, decide_false, bv_t, bv_f, and_self, t_si, t_sl, t_sr, t_sI, t_sR, n_si, n_sl, n_sr, n_sI, n_sR, r_si, r_sl, r_sI, hk]
      refine lv_m (a2 := some (v_I (b_v true))) (fun a2 w Q => wp (d + 9) 164 67 [some (v_R (some 1440)), some (v_I (Int32.ofNat a)), a2] [] w Q) hA (d := d + 8) (by omega) he hr hc hl g6 H2 (ch_m g6 op_og _ ?_ ?_ H2) ?_
      · intro a2 w b he hr hop Q
        have t0 := he.1.1
        obtain ⟨sc, sa⟩ := s_or he.2.2.1
        have ha := fun Q => m_isw (D := d + 8) (Q := Q) (by omega) sc sa he.1 hr
        unfold op_o at hop
        have s1 : is_w t b ws_or = false := by
          cases h : is_w t b ws_or with
          | false => rfl
          | true => rw [if_pos h] at hop; cases hop
        rw [s1] at ha
        show wp (d + 9) 164 67 _ _ w Q = _
        rw [x_164_67]
        simp (disch := first | omega | decide | exact ko_b _ | assumption | (simp only [t_si, t_sl, t_sr, t_sI, t_sR, n_si, n_sl, n_sr, n_sI, n_sR, r_si, r_sl, r_sI]; first | done | omega)) only [x_164_e, x_164_b, x_164_68, x_164_71, x_164_74, x_164_e, x_164_b, x_164_95, bk_v, bk_n, nl_I, nl_R, nl_L, nl_0, oo_lt, oo_le, oo_eq, oo_add, oo_sub, oo_tn, oo_ir, nn_leT, nn_leF, nn_ltT, nn_ltF, nn_eqT, nn_eqF, bv_0, bv_1, ko_b, ko_1, ko_0, true_and, and_true, if_true, if_false, not_true_eq_false, not_false_eq_true, oo_02, decide_eq_true_eq, decide_eq_false_iff_not, ite_not, Nat.reduceAdd, Nat.reduceLT, Nat.reduceSub, Nat.reduceLeDiff, reduceIte, Bool.true_eq_false, Bool.false_eq_true, reduceCtorEq, eq_self, decide_true, decide_false, bv_t, bv_f, and_self, t_si, t_sl, t_sr, t_sI, t_sR, n_si, n_sl, n_sr, n_sI, n_sR, r_si, r_sl, r_sI, ha]
      · intro a2 w b c o he hr hc hl hop
        have t0 := he.1.1
        obtain ⟨sc, sa⟩ := s_or he.2.2.1
        have ha := fun Q => m_isw (D := d + 8) (Q := Q) (by omega) sc sa he.1 hr
        obtain ⟨w1, w2, w3, F, ⟨t1, t2, t3⟩, q1, q2, q3⟩ := st_sub (o := o) (d := d + 8) hA g6 (by omega) (by omega) he hr (op_og b o hop).2 hc hl
        unfold op_o at hop
        by_cases s1 : is_w t b ws_or = true
        · rw [if_pos s1] at hop
          cases hop
          have q3 : ∀ Q, cl (d + 8) 171 [v_R (some 1440), v_I (Int32.ofInt (-27))] w2 Q = Q (Sum.inl none) w3 := q3
          rw [s1] at ha
          refine ⟨a2, w3, F, fun Q => ?_⟩
          show wp (d + 9) 164 67 _ _ w Q = wp (d + 9) 164 67 _ _ w3 Q
          rw [x_164_67]
          simp (disch := first | omega | decide | exact ko_b _ | assumption | (simp only [t_si, t_sl, t_sr, t_sI, t_sR, n_si, n_sl, n_sr, n_sI, n_sR, r_si, r_sl, r_sI]; first | done | omega)) only [x_164_e, x_164_b, x_164_68, x_164_71, x_164_74, x_164_77, x_164_78, x_164_81, x_164_82, x_164_83, x_164_86, x_164_87, x_164_89, x_164_92, bk_v, bk_n, nl_I, nl_R, nl_L, nl_0, oo_lt, oo_le, oo_eq, oo_add, oo_sub, oo_tn, oo_ir, nn_leT, nn_leF, nn_ltT, nn_ltF, nn_eqT, nn_eqF, bv_0, bv_1, ko_b, ko_1, ko_0, true_and, and_true, if_true, if_false, not_true_eq_false, not_false_eq_true, oo_02, decide_eq_true_eq, decide_eq_false_iff_not, ite_not, Nat.reduceAdd, Nat.reduceLT, Nat.reduceSub, Nat.reduceLeDiff, reduceIte, Bool.true_eq_false, Bool.false_eq_true, reduceCtorEq, eq_self, decide_true, decide_false, bv_t, bv_f, and_self, t_si, t_sl, t_sr, t_sI, t_sR, n_si, n_sl, n_sr, n_sI, n_sR, r_si, r_sl, r_sI, ha, q1, q2, q3]
        · rw [if_neg s1] at hop; cases hop
      · intro w1 t1 q1 Q
        have t0 := he.1.1
        have hs9 := fun Q => m_sth (D := d + 8) (a := a) (Q := Q) he hr
        show cl (d + 9) 164 _ w Q = wp (d + 9) 164 67 _ _ w1 Q
        rw [x_164_e, hs9, hs]
        simp (disch := first | omega | decide | exact ko_b _ | assumption | (simp only [t_si, t_sl, t_sr, t_sI, t_sR, n_si, n_sl, n_sr, n_sI, n_sR, r_si, r_sl, r_sI]; first | done | omega)) only [x_164_e, x_164_b, x_164_39, x_164_40, x_164_43, x_164_44, x_164_45, x_164_48, x_164_51, x_164_52, x_164_54, x_164_57, x_164_58, x_164_59, x_164_62, x_164_63, x_164_64, bk_v, bk_n, nl_I, nl_R, nl_L, nl_0, oo_lt, oo_le, oo_eq, oo_add, oo_sub, oo_tn, oo_ir, nn_leT, nn_leF, nn_ltT, nn_ltF, nn_eqT, nn_eqF, bv_0, bv_1, ko_b, ko_1, ko_0, true_and, and_true, if_true, if_false, not_true_eq_false, not_false_eq_true, oo_02, decide_eq_true_eq, decide_eq_false_iff_not, ite_not, Nat.reduceAdd, Nat.reduceLT, Nat.reduceSub, Nat.reduceLeDiff, reduceIte, Bool.true_eq_false, Bool.false_eq_true, reduceCtorEq, eq_self, decide_true, decide_false, bv_t, bv_f, and_self, t_si, t_sl, t_sr, t_sI, t_sR, n_si, n_sl, n_sr, n_sI, n_sR, r_si, r_sl, r_sI, q1]
end
