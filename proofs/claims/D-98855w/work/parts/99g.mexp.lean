/-! THE MODEL's numbers, code laid, words of a list -/
set_option maxRecDepth 100000
theorem mv_lt {t : Tp} {b : Nat} : ∀ k, (∀ j, j < k → ct_d (t.1 (b + j)) = true) → tk_v t b k < 10 ^ k := by
  intro k
  induction k with
  | zero => intro _; unfold tk_v; omega
  | succ k ih =>
    intro h
    have h1 := ih (fun j hj => h j (by omega))
    have h2 := h k (by omega)
    unfold ct_d at h2
    have h3 := of_decide_eq_true h2
    unfold tk_v
    rw [Nat.pow_succ]
    omega
theorem mv_4 {k : Nat} (h : k ≤ 4) : 10 ^ k ≤ 10000 := Nat.pow_le_pow_right (by omega) h
theorem mv_eq {t : Tp} {b : Nat} : ∀ k, k ≤ 4 → (∀ j, j < k → ct_d (t.1 (b + j)) = true) → mvd_ t b k = tk_v t b k := by
  intro k
  induction k with
  | zero => intro _ _; rfl
  | succ k ih =>
    intro hk h
    have h1 := ih (by omega) (fun j hj => h j (by omega))
    have h2 := mv_lt (k + 1) h
    have h3 := mv_4 hk
    unfold tk_v at h2
    unfold mvd_ tk_v
    rw [h1, if_pos (by omega)]
theorem tk_dg {t : Tp} {b : Nat} (h : tk_k t b = 2) : ∀ j, b ≤ j → j < tk_e t b → ct_d (t.1 j) = true := by
  intro j h1 h2
  have k0 : ¬ tk_k t b = 0 := by omega
  have k1 : ¬ tk_k t b = 1 := by omega
  unfold tk_e at h2
  rw [if_neg k0, if_neg k1, if_pos h] at h2
  exact (ce_in h1 h2).2
theorem tk_nu {t : Tp} {b : Nat} (h : tk_k t b = 2) (h4 : tk_e t b - b ≤ 4) : mvd_ t b (tk_e t b - b) = tk_num t b ∧ tk_num t b < 10000 := by
  have hd : ∀ j, j < tk_e t b - b → ct_d (t.1 (b + j)) = true := fun j hj => tk_dg h (b + j) (by omega) (by omega)
  have h1 := mv_lt _ hd
  have h2 := mv_4 h4
  refine ⟨mv_eq _ h4 hd, ?_⟩
  unfold tk_num
  omega
section
variable {w : Wd} {t : Tp}
def Mn_ (w : Wd) (t : Tp) (v : Int32) (r : (Nat × Nat) ⊕ (Nat × Nat)) : Prop := match r with
  | Sum.inl e => Mf_ w t e
  | Sum.inr q => Mr_ w t q.2 ∧ v = Int32.ofNat q.1
theorem m_num {D b lo hi : Nat} (hD : 2 ≤ D) (h : MTp_ w t) (hr : Mr_ w t b) (hl : lo < 10000) (hh : hi < 10000) : ∃ w1 v, (Fr_ pk_ w w1 ∧ MTp_ w1 t ∧ Mn_ w1 t v (nm_ t lo hi b)) ∧ ∀ Q, cl D 163 [v_R (some 1440), v_I (Int32.ofNat lo), v_I (Int32.ofNat hi)] w Q = Q (Sum.inl (some (v_I v))) w1 := by
  obtain ⟨d, rfl⟩ : ∃ d, D = d + 2 := ⟨D - 2, by omega⟩
  have h0 := h.1
  have hN := h.2.2.2.2.1
  have hq := hr
  obtain ⟨hb, r1, r2, r3, r4, r5, r6⟩ := hq
  obtain ⟨e1, e2⟩ := tk_ebd hb
  have hk5 := tk_k5 (t := t) (b := b)
  have bad : ∀ c, 1 ≤ c ∧ c ≤ 4 → nm_ t lo hi b = Sum.inl (c, b) → (∀ Q, cl (d + 2) 163 [v_R (some 1440), v_I (Int32.ofNat lo), v_I (Int32.ofNat hi)] w Q = Q (Sum.inl (some (v_I (Int32.ofNat 0)))) (wr_ w c b)) → ∃ w1 v, (Fr_ pk_ w w1 ∧ MTp_ w1 t ∧ Mn_ w1 t v (nm_ t lo hi b)) ∧ ∀ Q, cl (d + 2) 163 [v_R (some 1440), v_I (Int32.ofNat lo), v_I (Int32.ofNat hi)] w Q = Q (Sum.inl (some (v_I v))) w1 := by
    intro c hc e hQ
    obtain ⟨f1, g1, p1⟩ := wr_f h hr hc
    exact ⟨wr_ w c b, Int32.ofNat 0, ⟨f1, g1, by rw [e]; exact p1⟩, hQ⟩
  by_cases k2 : tk_k t b = 2
  · have r6 := r6 k2
    have hm := mvd_le (t := t) (b := b) (tk_e t b - b)
    by_cases c : tk_e t b - b ≤ 4 ∧ lo ≤ tk_num t b ∧ tk_num t b ≤ hi
    · obtain ⟨c1, c2, c3⟩ := c
      obtain ⟨n1, n2⟩ := tk_nu k2 c1
      rw [n1] at r6
      obtain ⟨w1, ⟨f1, g1, p1⟩, q1⟩ := m_step (D := d + 1) (by omega) h r1 r2 e2
      refine ⟨w1, Int32.ofNat (tk_num t b), ⟨f1, g1, ?_⟩, fun Q => ?_⟩
      · unfold nm_
        rw [if_neg (fun z => z k2), if_pos ⟨c1, c2, c3⟩]
        exact ⟨p1, rfl⟩
      · simp (disch := first | omega | decide | exact ko_b _ | assumption | (simp only [t_si, t_sl, t_sr, t_sI, t_sR, n_si, n_sl, n_sr, n_sI, n_sR, r_si, r_sl, r_sI]; first | done | omega)) only [x_163_e, x_163_b, x_163_0, x_163_1, x_163_4, x_163_7, x_163_8, x_163_9, x_163_10, x_163_13, x_163_14, x_163_17, x_163_18, x_163_19, x_163_22, x_163_25, x_163_26, x_163_29, x_163_30, x_163_33, x_163_34, x_163_35, x_163_38, x_163_39, x_163_42, x_163_43, x_163_46, x_163_47, x_163_50, x_163_51, x_163_54, x_163_55, x_163_56, x_163_59, x_163_60, x_163_63, x_163_66, x_163_67, x_163_70, x_163_73, x_163_74, x_163_75, x_163_76, x_163_79, x_163_82, x_163_83, x_163_86, x_163_87, bk_v, bk_n, nl_I, nl_R, nl_L, nl_0, oo_lt, oo_le, oo_eq, oo_add, oo_sub, oo_tn, oo_ir, nn_leT, nn_leF, nn_ltT, nn_ltF, nn_eqT, nn_eqF, bv_0, bv_1, ko_b, ko_1, ko_0, true_and, and_true, if_true, if_false, not_true_eq_false, not_false_eq_true, oo_02, decide_eq_true_eq, decide_eq_false_iff_not, ite_not, Nat.reduceAdd, Nat.reduceLT, Nat.reduceSub, Nat.reduceLeDiff, reduceIte, Bool.true_eq_false, Bool.false_eq_true, reduceCtorEq, eq_self, decide_true, decide_false, bv_t, bv_f, and_self, t_si, t_sl, t_sr, t_sI, t_sR, n_si, n_sl, n_sr, n_sI, n_sR, r_si, r_sl, r_sI, r1, r3, r4, r5, r6, k2, q1]
    · refine bad 2 (by omega) (by unfold nm_; rw [if_neg (fun z => z k2), if_neg c]) (fun Q => ?_)
      have hw := fun d Q => m_wr (d := d) (c := 2) (Q := Q) h0 hr
      have hn := Mf_n (wr_f h hr (c := 2) (by omega)).2.2
      have t1 := (wr_f h hr (c := 2) (by omega)).2.1.1
      by_cases c1 : tk_e t b - b ≤ 4
      · obtain ⟨n1, n2⟩ := tk_nu k2 c1
        rw [n1] at r6
        by_cases c2 : lo ≤ tk_num t b
        · have c3 : ¬ tk_num t b ≤ hi := fun z => c ⟨c1, c2, z⟩
          simp (disch := first | omega | decide | exact ko_b _ | assumption | (simp only [t_si, t_sl, t_sr, t_sI, t_sR, n_si, n_sl, n_sr, n_sI, n_sR, r_si, r_sl, r_sI]; first | done | omega)) only [x_163_e, x_163_b, x_163_0, x_163_1, x_163_4, x_163_7, x_163_8, x_163_9, x_163_10, x_163_13, x_163_14, x_163_17, x_163_18, x_163_19, x_163_22, x_163_25, x_163_26, x_163_29, x_163_30, x_163_33, x_163_34, x_163_35, x_163_38, x_163_39, x_163_42, x_163_43, x_163_46, x_163_47, x_163_50, x_163_51, x_163_54, x_163_55, x_163_56, x_163_59, x_163_60, x_163_63, x_163_66, x_163_67, x_163_70, x_163_73, x_163_74, x_163_75, x_163_76, x_163_79, x_163_82, x_163_83, x_163_86, x_163_87, bk_v, bk_n, nl_I, nl_R, nl_L, nl_0, oo_lt, oo_le, oo_eq, oo_add, oo_sub, oo_tn, oo_ir, nn_leT, nn_leF, nn_ltT, nn_ltF, nn_eqT, nn_eqF, bv_0, bv_1, ko_b, ko_1, ko_0, true_and, and_true, if_true, if_false, not_true_eq_false, not_false_eq_true, oo_02, decide_eq_true_eq, decide_eq_false_iff_not, ite_not, Nat.reduceAdd, Nat.reduceLT, Nat.reduceSub, Nat.reduceLeDiff, reduceIte, Bool.true_eq_false, Bool.false_eq_true, reduceCtorEq, eq_self, decide_true, decide_false, bv_t, bv_f, and_self, t_si, t_sl, t_sr, t_sI, t_sR, n_si, n_sl, n_sr, n_sI, n_sR, r_si, r_sl, r_sI, r1, r3, r4, r5, r6, k2, hw, hn]
        · simp (disch := first | omega | decide | exact ko_b _ | assumption | (simp only [t_si, t_sl, t_sr, t_sI, t_sR, n_si, n_sl, n_sr, n_sI, n_sR, r_si, r_sl, r_sI]; first | done | omega)) only [x_163_e, x_163_b, x_163_0, x_163_1, x_163_4, x_163_7, x_163_8, x_163_9, x_163_10, x_163_13, x_163_14, x_163_17, x_163_18, x_163_19, x_163_22, x_163_25, x_163_26, x_163_29, x_163_30, x_163_33, x_163_34, x_163_35, x_163_38, x_163_39, x_163_42, x_163_43, x_163_46, x_163_47, x_163_50, x_163_51, x_163_54, x_163_55, x_163_56, x_163_59, x_163_60, x_163_63, x_163_66, x_163_67, x_163_70, x_163_73, x_163_74, x_163_75, x_163_76, x_163_79, x_163_82, x_163_83, x_163_86, x_163_87, bk_v, bk_n, nl_I, nl_R, nl_L, nl_0, oo_lt, oo_le, oo_eq, oo_add, oo_sub, oo_tn, oo_ir, nn_leT, nn_leF, nn_ltT, nn_ltF, nn_eqT, nn_eqF, bv_0, bv_1, ko_b, ko_1, ko_0, true_and, and_true, if_true, if_false, not_true_eq_false, not_false_eq_true, oo_02, decide_eq_true_eq, decide_eq_false_iff_not, ite_not, Nat.reduceAdd, Nat.reduceLT, Nat.reduceSub, Nat.reduceLeDiff, reduceIte, Bool.true_eq_false, Bool.false_eq_true, reduceCtorEq, eq_self, decide_true, decide_false, bv_t, bv_f, and_self, t_si, t_sl, t_sr, t_sI, t_sR, n_si, n_sl, n_sr, n_sI, n_sR, r_si, r_sl, r_sI, r1, r3, r4, r5, r6, k2, hw, hn]
      · simp (disch := first | omega | decide | exact ko_b _ | assumption | (simp only [t_si, t_sl, t_sr, t_sI, t_sR, n_si, n_sl, n_sr, n_sI, n_sR, r_si, r_sl, r_sI]; first | done | omega)) only [x_163_e, x_163_b, x_163_0, x_163_1, x_163_4, x_163_7, x_163_8, x_163_9, x_163_10, x_163_13, x_163_14, x_163_17, x_163_18, x_163_19, x_163_22, x_163_25, x_163_26, x_163_29, x_163_30, x_163_33, x_163_34, x_163_35, x_163_38, x_163_39, x_163_42, x_163_43, x_163_46, x_163_47, x_163_50, x_163_51, x_163_54, x_163_55, x_163_56, x_163_59, x_163_60, x_163_63, x_163_66, x_163_67, x_163_70, x_163_73, x_163_74, x_163_75, x_163_76, x_163_79, x_163_82, x_163_83, x_163_86, x_163_87, bk_v, bk_n, nl_I, nl_R, nl_L, nl_0, oo_lt, oo_le, oo_eq, oo_add, oo_sub, oo_tn, oo_ir, nn_leT, nn_leF, nn_ltT, nn_ltF, nn_eqT, nn_eqF, bv_0, bv_1, ko_b, ko_1, ko_0, true_and, and_true, if_true, if_false, not_true_eq_false, not_false_eq_true, oo_02, decide_eq_true_eq, decide_eq_false_iff_not, ite_not, Nat.reduceAdd, Nat.reduceLT, Nat.reduceSub, Nat.reduceLeDiff, reduceIte, Bool.true_eq_false, Bool.false_eq_true, reduceCtorEq, eq_self, decide_true, decide_false, bv_t, bv_f, and_self, t_si, t_sl, t_sr, t_sI, t_sR, n_si, n_sl, n_sr, n_sI, n_sR, r_si, r_sl, r_sI, r1, r3, r4, r5, r6, k2, hw, hn]
  · refine bad 1 (by omega) (by unfold nm_; rw [if_pos k2]) (fun Q => ?_)
    have hw := fun d Q => m_wr (d := d) (c := 1) (Q := Q) h0 hr
    have hn := Mf_n (wr_f h hr (c := 1) (by omega)).2.2
    have t1 := (wr_f h hr (c := 1) (by omega)).2.1.1
    simp (disch := first | omega | decide | exact ko_b _ | assumption | (simp only [t_si, t_sl, t_sr, t_sI, t_sR, n_si, n_sl, n_sr, n_sI, n_sR, r_si, r_sl, r_sI]; first | done | omega)) only [x_163_e, x_163_b, x_163_0, x_163_1, x_163_4, x_163_7, x_163_8, x_163_9, x_163_10, x_163_13, x_163_14, x_163_17, x_163_18, x_163_19, x_163_22, x_163_25, x_163_26, x_163_29, x_163_30, x_163_33, x_163_34, x_163_35, x_163_38, x_163_39, x_163_42, x_163_43, x_163_46, x_163_47, x_163_50, x_163_51, x_163_54, x_163_55, x_163_56, x_163_59, x_163_60, x_163_63, x_163_66, x_163_67, x_163_70, x_163_73, x_163_74, x_163_75, x_163_76, x_163_79, x_163_82, x_163_83, x_163_86, x_163_87, bk_v, bk_n, nl_I, nl_R, nl_L, nl_0, oo_lt, oo_le, oo_eq, oo_add, oo_sub, oo_tn, oo_ir, nn_leT, nn_leF, nn_ltT, nn_ltF, nn_eqT, nn_eqF, bv_0, bv_1, ko_b, ko_1, ko_0, true_and, and_true, if_true, if_false, not_true_eq_false, not_false_eq_true, oo_02, decide_eq_true_eq, decide_eq_false_iff_not, ite_not, Nat.reduceAdd, Nat.reduceLT, Nat.reduceSub, Nat.reduceLeDiff, reduceIte, Bool.true_eq_false, Bool.false_eq_true, reduceCtorEq, eq_self, decide_true, decide_false, bv_t, bv_f, and_self, t_si, t_sl, t_sr, t_sI, t_sR, n_si, n_sl, n_sr, n_sI, n_sR, r_si, r_sl, r_sI, r1, r5, k2, hw, hn]
theorem m_numf {D : Nat} {e : Nat × Nat} {x y : Int32} {Q : Q_} (hM : w_t w 1440 = 25) (hf : Mf_ w t e) : cl D 163 [v_R (some 1440), v_I x, v_I y] w Q = Q (Sum.inl (some (v_I (Int32.ofNat 0)))) w := by
  have hn := Mf_n hf
  simp (disch := first | omega | decide | exact ko_b _ | assumption | (simp only [t_si, t_sl, t_sr, t_sI, t_sR, n_si, n_sl, n_sr, n_sI, n_sR, r_si, r_sl, r_sI]; first | done | omega)) only [x_163_e, x_163_b, x_163_0, x_163_1, x_163_4, x_163_7, x_163_8, x_163_9, x_163_10, x_163_13, x_163_14, x_163_17, x_163_18, x_163_19, x_163_22, x_163_25, x_163_26, x_163_29, x_163_30, x_163_33, x_163_34, x_163_35, x_163_38, x_163_39, x_163_42, x_163_43, x_163_46, x_163_47, x_163_50, x_163_51, x_163_54, x_163_55, x_163_56, x_163_59, x_163_60, x_163_63, x_163_66, x_163_67, x_163_70, x_163_73, x_163_74, x_163_75, x_163_76, x_163_79, x_163_82, x_163_83, x_163_86, x_163_87, bk_v, bk_n, nl_I, nl_R, nl_L, nl_0, oo_lt, oo_le, oo_eq, oo_add, oo_sub, oo_tn, oo_ir, nn_leT, nn_leF, nn_ltT, nn_ltF, nn_eqT, nn_eqF, bv_0, bv_1, ko_b, ko_1, ko_0, true_and, and_true, if_true, if_false, not_true_eq_false, not_false_eq_true, oo_02, decide_eq_true_eq, decide_eq_false_iff_not, ite_not, Nat.reduceAdd, Nat.reduceLT, Nat.reduceSub, Nat.reduceLeDiff, reduceIte, Bool.true_eq_false, Bool.false_eq_true, reduceCtorEq, eq_self, decide_true, decide_false, bv_t, bv_f, and_self, t_si, t_sl, t_sr, t_sI, t_sR, n_si, n_sl, n_sr, n_sI, n_sR, r_si, r_sl, r_sI, hn]
/-! what is at hand in the model -/
def KS_ (w : Wd) : Prop := ∀ i, i < 44 → w_t w (10 + i) = 18 ∧ w_r w (10 + i) 0 = some (110 + i) ∧ w_i w (10 + i) 1 = Int32.ofNat 0 ∧ w_t w (110 + i) = 9 ∧ w_n w (110 + i) = t_l i ∧ ∀ k, w_i w (110 + i) k = (t_b.getD i []).getD k 0
theorem ks_c (h : KS_ w) {i : Nat} {s : List Nat} (hi : i < 44) (hs : t_b.getD i [] = s.map Int32.ofNat) : Sc_ w (10 + i) (110 + i) s := by
  obtain ⟨h1, h2, h3, h4, h5, h6⟩ := h i hi
  refine ⟨h1, h2, h3, h4, ?_, fun k hk => ?_⟩
  · rw [h5]; unfold t_l; rw [hs, List.length_map]
  · rw [h6, hs, List.getD_eq_getElem?_getD, List.getD_eq_getElem?_getD, List.getElem?_map, List.getElem?_eq_getElem hk]
    rfl
def Me_ (w : Wd) (t : Tp) : Prop := MTp_ w t ∧ sh_M w ∧ KS_ w ∧ (∀ k, k < 4 → w_r w 1441 k = some (38 + k)) ∧ ∀ k, k < 6 → w_r w 1442 k = some (42 + k)
/-- what the reading of a town may change -/
def pu_ (a k : Nat) : Prop := pk_ a k ∨ (a = 1444 ∧ 4 ≤ k) ∨ (1445 ≤ a ∧ a ≤ 1449 ∧ 10 ≤ k) ∨ (a = 1450 ∧ 600 ≤ k)
def pcl_ (a k : Nat) : Prop := pk_ a k ∨ (a = 1444 ∧ k = 7) ∨ (a = 1450 ∧ 600 ≤ k)
theorem pk_l {a k : Nat} (h : pk_ a k) : pcl_ a k := Or.inl h
theorem pl_u {a k : Nat} (h : pcl_ a k) : pu_ a k := by
  unfold pcl_ at h
  unfold pu_
  rcases h with h | h | h
  · exact Or.inl h
  · exact Or.inr (Or.inl ⟨h.1, by omega⟩)
  · exact Or.inr (Or.inr (Or.inr h))
theorem Me_fr {w1 : Wd} (h : Me_ w t) (hf : Fr_ pu_ w w1) : Me_ w1 t := by
  obtain ⟨h1, h2, h3, h4, h5⟩ := h
  refine ⟨MTp_fr h1 hf (fun k z => by unfold pu_ pk_ at z; omega) (fun z => by unfold pu_ pk_ at z; omega), ?_, fun i hi => ?_, fun k hk => ?_, fun k hk => ?_⟩
  · obtain ⟨f1, f2, f3, -, -, -⟩ := hf
    unfold sh_M at h2 ⊢
    rw [f1, f2, f3]
    exact h2
  · obtain ⟨f1, f2, f3, -, -, f6⟩ := hf
    obtain ⟨g1, g2, g3, g4, g5, g6⟩ := h3 i hi
    exact ⟨by rw [f1]; exact g1, by rw [f3]; exact g2, (f6 _ _ (fun z => by unfold pu_ pk_ at z; omega)).trans g3, by rw [f1]; exact g4, by rw [f2]; exact g5, fun k => (f6 _ _ (fun z => by unfold pu_ pk_ at z; omega)).trans (g6 k)⟩
  · rw [hf.2.2.1]; exact h4 k hk
  · rw [hf.2.2.1]; exact h5 k hk
theorem Me_k {w1 : Wd} (h : Me_ w t) (hf : Fr_ pk_ w w1) : Me_ w1 t := Me_fr h (fr_mo hf fun _ _ z => Or.inl z)
theorem Me_l {w1 : Wd} (h : Me_ w t) (hf : Fr_ pcl_ w w1) : Me_ w1 t := Me_fr h (fr_mo hf fun _ _ z => pl_u z)
/-! code laid -/
def Mc_ (w : Wd) (c : List Int32) : Prop := w_i w 1444 7 = Int32.ofNat c.length ∧ ∀ k, k < c.length → w_i w 1450 (600 + k) = c.getD k 0
theorem Mc_k {w1 : Wd} {c : List Int32} (h : Mc_ w c) (hf : Fr_ pk_ w w1) : Mc_ w1 c := ⟨(hf.2.2.2.2.2 _ _ (fun z => by unfold pk_ at z; omega)).trans h.1, fun k hk => (hf.2.2.2.2.2 _ _ (fun z => by unfold pk_ at z; omega)).trans (h.2 k hk)⟩
def ly_ (w : Wd) (n : Nat) (x : Int32) : Wd := s_i (s_i w 1450 (600 + n) x) 1444 7 (Int32.ofNat (n + 1))
theorem m_lay {d : Nat} {c : List Int32} {x : Int32} {Q : Q_} (h : Me_ w t) (h20 : w_i w 1440 20 = Int32.ofNat 0) (hc : Mc_ w c) (hl : c.length < 600) : cl d 171 [v_R (some 1440), v_I x] w Q = Q (Sum.inl none) (ly_ w c.length x) := by
  have hM := h.2.1
  unfold sh_M at hM
  have h7 := hc.1
  unfold ly_
  simp (disch := first | omega | decide | exact ko_b _ | assumption | (simp only [t_si, t_sl, t_sr, t_sI, t_sR, n_si, n_sl, n_sr, n_sI, n_sR, r_si, r_sl, r_sI]; first | done | omega)) only [x_171_e, x_171_b, x_171_0, x_171_1, x_171_4, x_171_7, x_171_8, x_171_9, x_171_12, x_171_15, x_171_16, x_171_19, x_171_21, x_171_22, x_171_23, x_171_24, x_171_25, x_171_26, x_171_29, x_171_31, x_171_32, x_171_33, x_171_34, x_171_35, x_171_36, bk_v, bk_n, nl_I, nl_R, nl_L, nl_0, oo_lt, oo_le, oo_eq, oo_add, oo_sub, oo_tn, oo_ir, nn_leT, nn_leF, nn_ltT, nn_ltF, nn_eqT, nn_eqF, bv_0, bv_1, ko_b, ko_1, ko_0, true_and, and_true, if_true, if_false, not_true_eq_false, not_false_eq_true, oo_02, decide_eq_true_eq, decide_eq_false_iff_not, ite_not, Nat.reduceAdd, Nat.reduceLT, Nat.reduceSub, Nat.reduceLeDiff, reduceIte, Bool.true_eq_false, Bool.false_eq_true, reduceCtorEq, eq_self, decide_true, decide_false, bv_t, bv_f, and_self, t_si, t_sl, t_sr, t_sI, t_sR, n_si, n_sl, n_sr, n_sI, n_sR, r_si, r_sl, r_sI, hM, h20, h7, i_si, Nat.reduceEqDiff, false_and]
theorem m_layf {d : Nat} {e : Nat × Nat} {x : Int32} {Q : Q_} (hM : w_t w 1440 = 25) (hf : Mf_ w t e) : cl d 171 [v_R (some 1440), v_I x] w Q = Q (Sum.inl none) w := by
  have hn := Mf_n hf
  simp (disch := first | omega | decide | exact ko_b _ | assumption | (simp only [t_si, t_sl, t_sr, t_sI, t_sR, n_si, n_sl, n_sr, n_sI, n_sR, r_si, r_sl, r_sI]; first | done | omega)) only [x_171_e, x_171_b, x_171_0, x_171_1, x_171_4, x_171_7, x_171_8, x_171_9, x_171_12, x_171_15, x_171_16, x_171_19, x_171_21, x_171_22, x_171_23, x_171_24, x_171_25, x_171_26, x_171_29, x_171_31, x_171_32, x_171_33, x_171_34, x_171_35, x_171_36, bk_v, bk_n, nl_I, nl_R, nl_L, nl_0, oo_lt, oo_le, oo_eq, oo_add, oo_sub, oo_tn, oo_ir, nn_leT, nn_leF, nn_ltT, nn_ltF, nn_eqT, nn_eqF, bv_0, bv_1, ko_b, ko_1, ko_0, true_and, and_true, if_true, if_false, not_true_eq_false, not_false_eq_true, oo_02, decide_eq_true_eq, decide_eq_false_iff_not, ite_not, Nat.reduceAdd, Nat.reduceLT, Nat.reduceSub, Nat.reduceLeDiff, reduceIte, Bool.true_eq_false, Bool.false_eq_true, reduceCtorEq, eq_self, decide_true, decide_false, bv_t, bv_f, and_self, t_si, t_sl, t_sr, t_sI, t_sR, n_si, n_sl, n_sr, n_sI, n_sR, r_si, r_sl, r_sI, hn]
theorem ly_f {b : Nat} {c : List Int32} {x : Int32} (hr : Mr_ w t b) (hc : Mc_ w c) : Fr_ pcl_ w (ly_ w c.length x) ∧ Mr_ (ly_ w c.length x) t b ∧ Mc_ (ly_ w c.length x) (c ++ [x]) := by
  refine ⟨fr_si (fr_si (fr_rf _ _) (Or.inr (Or.inr ⟨rfl, by omega⟩))) (Or.inr (Or.inl ⟨rfl, rfl⟩)), ?_, ?_, fun k hk => ?_⟩
  · obtain ⟨h1, h2, h3, h4, h5, h6, h7⟩ := hr
    have g : ∀ k, w_i (ly_ w c.length x) 1440 k = w_i w 1440 k := fun k => by unfold ly_; rw [i_si, if_neg (by omega), i_si, if_neg (by omega)]
    exact ⟨h1, (g _).trans h2, (g _).trans h3, (g _).trans h4, (g _).trans h5, (g _).trans h6, fun z => (g _).trans (h7 z)⟩
  · unfold ly_; rw [i_si, if_pos ⟨rfl, rfl⟩, List.length_append]; rfl
  · rw [List.length_append, List.length_singleton] at hk
    unfold ly_
    rw [i_si, if_neg (by omega), i_si, List.getD_eq_getElem?_getD]
    by_cases e : k = c.length
    · rw [if_pos ⟨rfl, by omega⟩, e, List.getElem?_append_right (Nat.le_refl _), Nat.sub_self]
      rfl
    · rw [if_neg (by omega), List.getElem?_append_left (by omega), ← List.getD_eq_getElem?_getD]
      exact hc.2 k (by omega)
/-! a word among some -/
theorem m_wl {D b A q0 n : Nat} {vs : Nat → List Nat} (h : MTp_ w t) (hr : Mr_ w t b) (hA : w_t w A = 6) (hn : w_n w A = n) (h6 : n ≤ 6) (hw : ∀ k, k < n → w_r w A k = some (q0 + k)) (hs : ∀ k, k < n → Sc_ w (q0 + k) (q0 + 100 + k) (vs k)) (ha : ∀ k, k < n → As_ (vs k)) {j : Nat} (hj : j < n) {Q : Q_} : wp (D + 5) 161 2 [some (v_R (some 1440)), some (v_R (some A)), some (v_I (Int32.ofNat j))] [] w Q = if is_w t b (vs j) = true then Q (Sum.inl (some (v_I (Int32.ofNat j)))) w else wp (D + 5) 161 2 [some (v_R (some 1440)), some (v_R (some A)), some (v_I (Int32.ofNat (j + 1)))] [] w Q := by
  have h0 := h.1
  have hb := fun Q => m_isw (D := D + 4) (Q := Q) (by omega) (hs j hj) (ha j hj) h hr
  have hwj := hw j hj
  by_cases c : is_w t b (vs j) = true
  · rw [if_pos c, x_161_2]
    rw [c] at hb
    simp (disch := first | omega | decide | exact ko_b _ | assumption | (simp only [t_si, t_sl, t_sr, t_sI, t_sR, n_si, n_sl, n_sr, n_sI, n_sR, r_si, r_sl, r_sI]; first | done | omega)) only [x_161_e, x_161_b, x_161_3, x_161_4, x_161_5, x_161_8, x_161_9, x_161_10, x_161_11, x_161_12, x_161_15, x_161_18, x_161_19, bk_v, bk_n, nl_I, nl_R, nl_L, nl_0, oo_lt, oo_le, oo_eq, oo_add, oo_sub, oo_tn, oo_ir, nn_leT, nn_leF, nn_ltT, nn_ltF, nn_eqT, nn_eqF, bv_0, bv_1, ko_b, ko_1, ko_0, true_and, and_true, if_true, if_false, not_true_eq_false, not_false_eq_true, oo_02, decide_eq_true_eq, decide_eq_false_iff_not, ite_not, Nat.reduceAdd, Nat.reduceLT, Nat.reduceSub, Nat.reduceLeDiff, reduceIte, Bool.true_eq_false, Bool.false_eq_true, reduceCtorEq, eq_self, decide_true, decide_false, bv_t, bv_f, and_self, t_si, t_sl, t_sr, t_sI, t_sR, n_si, n_sl, n_sr, n_sI, n_sR, r_si, r_sl, r_sI, hn, hwj, hb]
  · rw [if_neg c, x_161_2]
    rw [Bool.eq_false_iff.mpr c] at hb
    simp (disch := first | omega | decide | exact ko_b _ | assumption | (simp only [t_si, t_sl, t_sr, t_sI, t_sR, n_si, n_sl, n_sr, n_sI, n_sR, r_si, r_sl, r_sI]; first | done | omega)) only [x_161_e, x_161_b, x_161_3, x_161_4, x_161_5, x_161_8, x_161_9, x_161_10, x_161_11, x_161_12, x_161_15, x_161_18, x_161_19, x_161_20, x_161_23, bk_v, bk_n, nl_I, nl_R, nl_L, nl_0, oo_lt, oo_le, oo_eq, oo_add, oo_sub, oo_tn, oo_ir, nn_leT, nn_leF, nn_ltT, nn_ltF, nn_eqT, nn_eqF, bv_0, bv_1, ko_b, ko_1, ko_0, true_and, and_true, if_true, if_false, not_true_eq_false, not_false_eq_true, oo_02, decide_eq_true_eq, decide_eq_false_iff_not, ite_not, Nat.reduceAdd, Nat.reduceLT, Nat.reduceSub, Nat.reduceLeDiff, reduceIte, Bool.true_eq_false, Bool.false_eq_true, reduceCtorEq, eq_self, decide_true, decide_false, bv_t, bv_f, and_self, t_si, t_sl, t_sr, t_sI, t_sR, n_si, n_sl, n_sr, n_sI, n_sR, r_si, r_sl, r_sI, hn, hwj, hb]
theorem m_we {D A n : Nat} (hA : w_t w A = 6) (hn : w_n w A = n) (h6 : n ≤ 6) {Q : Q_} : wp D 161 2 [some (v_R (some 1440)), some (v_R (some A)), some (v_I (Int32.ofNat n))] [] w Q = Q (Sum.inl (some (v_I (Int32.ofInt (-1))))) w := by
  simp (disch := first | omega | decide | exact ko_b _ | assumption | (simp only [t_si, t_sl, t_sr, t_sI, t_sR, n_si, n_sl, n_sr, n_sI, n_sR, r_si, r_sl, r_sI]; first | done | omega)) only [x_161_e, x_161_b, x_161_2, x_161_3, x_161_4, x_161_5, x_161_e, x_161_b, x_161_26, x_161_27, bk_v, bk_n, nl_I, nl_R, nl_L, nl_0, oo_lt, oo_le, oo_eq, oo_add, oo_sub, oo_tn, oo_ir, nn_leT, nn_leF, nn_ltT, nn_ltF, nn_eqT, nn_eqF, bv_0, bv_1, ko_b, ko_1, ko_0, true_and, and_true, if_true, if_false, not_true_eq_false, not_false_eq_true, oo_02, decide_eq_true_eq, decide_eq_false_iff_not, ite_not, Nat.reduceAdd, Nat.reduceLT, Nat.reduceSub, Nat.reduceLeDiff, reduceIte, Bool.true_eq_false, Bool.false_eq_true, reduceCtorEq, eq_self, decide_true, decide_false, bv_t, bv_f, and_self, t_si, t_sl, t_sr, t_sI, t_sR, n_si, n_sl, n_sr, n_sI, n_sR, r_si, r_sl, r_sI, hn]
def vs_v (j : Nat) : List Nat := [[108, 101, 118, 101, 108], [104, 117, 110, 103, 101, 114], [108, 101, 102, 116], [107, 105, 110, 100], [97, 98, 111, 118, 101], [119, 101, 105, 103, 104, 116]].getD j []
def vs_k (j : Nat) : List Nat := [[112, 105, 110, 101], [111, 97, 107], [102, 111, 108, 100, 105, 110, 103], [99, 97, 115, 116, 111, 114]].getD j []
theorem as_d {s : List Nat} (h : (decide (s.length < 100) && s.all (fun x => decide (x < 128))) = true) : As_ s := by
  simp only [Bool.and_eq_true, decide_eq_true_eq, List.all_eq_true] at h
  refine ⟨h.1, fun k hk => ?_⟩
  rw [List.getD_eq_getElem?_getD, List.getElem?_eq_getElem hk]
  exact h.2 _ (List.getElem_mem hk)
theorem as_v : ∀ k : Fin 6, (decide ((vs_v k.val).length < 100) && (vs_v k.val).all (fun x => decide (x < 128))) = true := by decide
theorem as_k : ∀ k : Fin 4, (decide ((vs_k k.val).length < 100) && (vs_k k.val).all (fun x => decide (x < 128))) = true := by decide
theorem sc_v : ∀ k : Fin 6, t_b.getD (32 + k.val) [] = (vs_v k.val).map Int32.ofNat := by decide
theorem sc_k : ∀ k : Fin 4, t_b.getD (28 + k.val) [] = (vs_k k.val).map Int32.ofNat := by decide
theorem m_wv {D b : Nat} {Q : Q_} (hD : 5 ≤ D) (h : Me_ w t) (hr : Mr_ w t b) : cl D 161 [v_R (some 1440), v_R (some 1442)] w Q = Q (Sum.inl (some (v_I (o_i (vw_ t b))))) w := by
  obtain ⟨d, rfl⟩ : ∃ d, D = d + 5 := ⟨D - 5, by omega⟩
  obtain ⟨h1, h2, h3, h4, h5⟩ := h
  unfold sh_M at h2
  have hA : w_t w 1442 = 6 := by simp only [h2]
  have hn : w_n w 1442 = 6 := by simp only [h2]
  have hs : ∀ k, k < 6 → Sc_ w (42 + k) (42 + 100 + k) (vs_v k) := fun k hk => by
    have := ks_c h3 (i := 32 + k) (by omega) (sc_v ⟨k, hk⟩)
    rw [show 42 + k = 10 + (32 + k) by omega, show 42 + 100 + k = 110 + (32 + k) by omega]
    exact this
  have L := fun j hj => m_wl (D := d) (Q := Q) (j := j) h1 hr hA hn (by omega) h5 hs (fun k hk => as_d (as_v ⟨k, hk⟩)) hj
  have E := m_we (D := d + 5) (Q := Q) hA hn (by omega)
  have e : cl (d + 5) 161 [v_R (some 1440), v_R (some 1442)] w Q = wp (d + 5) 161 2 [some (v_R (some 1440)), some (v_R (some 1442)), some (v_I (Int32.ofNat 0))] [] w Q := by
    simp (disch := first | omega | decide | exact ko_b _ | assumption | (simp only [t_si, t_sl, t_sr, t_sI, t_sR, n_si, n_sl, n_sr, n_sI, n_sR, r_si, r_sl, r_sI]; first | done | omega)) only [x_161_e, x_161_b, x_161_0, x_161_1, bk_v, bk_n, nl_I, nl_R, nl_L, nl_0, oo_lt, oo_le, oo_eq, oo_add, oo_sub, oo_tn, oo_ir, nn_leT, nn_leF, nn_ltT, nn_ltF, nn_eqT, nn_eqF, bv_0, bv_1, ko_b, ko_1, ko_0, true_and, and_true, if_true, if_false, not_true_eq_false, not_false_eq_true, oo_02, decide_eq_true_eq, decide_eq_false_iff_not, ite_not, Nat.reduceAdd, Nat.reduceLT, Nat.reduceSub, Nat.reduceLeDiff, reduceIte, Bool.true_eq_false, Bool.false_eq_true, reduceCtorEq, eq_self, decide_true, decide_false, bv_t, bv_f, and_self, t_si, t_sl, t_sr, t_sI, t_sR, n_si, n_sl, n_sr, n_sI, n_sR, r_si, r_sl, r_sI]
  rw [e, L 0 (by omega), L 1 (by omega), L 2 (by omega), L 3 (by omega), L 4 (by omega), L 5 (by omega), E]
  unfold vw_ vs_v
  simp only [List.getD_cons_zero, List.getD_cons_succ]
  repeat' split
  all_goals rfl
theorem m_wk {D b : Nat} {Q : Q_} (hD : 5 ≤ D) (h : Me_ w t) (hr : Mr_ w t b) : cl D 161 [v_R (some 1440), v_R (some 1441)] w Q = Q (Sum.inl (some (v_I (o_i (ks_ t b))))) w := by
  obtain ⟨d, rfl⟩ : ∃ d, D = d + 5 := ⟨D - 5, by omega⟩
  obtain ⟨h1, h2, h3, h4, h5⟩ := h
  unfold sh_M at h2
  have hA : w_t w 1441 = 6 := by simp only [h2]
  have hn : w_n w 1441 = 4 := by simp only [h2]
  have hs : ∀ k, k < 4 → Sc_ w (38 + k) (38 + 100 + k) (vs_k k) := fun k hk => by
    have := ks_c h3 (i := 28 + k) (by omega) (sc_k ⟨k, hk⟩)
    rw [show 38 + k = 10 + (28 + k) by omega, show 38 + 100 + k = 110 + (28 + k) by omega]
    exact this
  have L := fun j hj => m_wl (D := d) (Q := Q) (j := j) h1 hr hA hn (by omega) h4 hs (fun k hk => as_d (as_k ⟨k, hk⟩)) hj
  have E := m_we (D := d + 5) (Q := Q) hA hn (by omega)
  have e : cl (d + 5) 161 [v_R (some 1440), v_R (some 1441)] w Q = wp (d + 5) 161 2 [some (v_R (some 1440)), some (v_R (some 1441)), some (v_I (Int32.ofNat 0))] [] w Q := by
    simp (disch := first | omega | decide | exact ko_b _ | assumption | (simp only [t_si, t_sl, t_sr, t_sI, t_sR, n_si, n_sl, n_sr, n_sI, n_sR, r_si, r_sl, r_sI]; first | done | omega)) only [x_161_e, x_161_b, x_161_0, x_161_1, bk_v, bk_n, nl_I, nl_R, nl_L, nl_0, oo_lt, oo_le, oo_eq, oo_add, oo_sub, oo_tn, oo_ir, nn_leT, nn_leF, nn_ltT, nn_ltF, nn_eqT, nn_eqF, bv_0, bv_1, ko_b, ko_1, ko_0, true_and, and_true, if_true, if_false, not_true_eq_false, not_false_eq_true, oo_02, decide_eq_true_eq, decide_eq_false_iff_not, ite_not, Nat.reduceAdd, Nat.reduceLT, Nat.reduceSub, Nat.reduceLeDiff, reduceIte, Bool.true_eq_false, Bool.false_eq_true, reduceCtorEq, eq_self, decide_true, decide_false, bv_t, bv_f, and_self, t_si, t_sl, t_sr, t_sI, t_sR, n_si, n_sl, n_sr, n_sI, n_sR, r_si, r_sl, r_sI]
  rw [e, L 0 (by omega), L 1 (by omega), L 2 (by omega), L 3 (by omega), E]
  unfold ks_ vs_k
  simp only [List.getD_cons_zero, List.getD_cons_succ]
  repeat' split
  all_goals rfl
end
