/-! THE COMPONENT's tables: made, added to a list -/
set_option maxRecDepth 100000
theorem sh_1 : ∀ c : Fin 11, Int32.ofNat c.val >>> (Int32.ofNat 1 &&& 31) = Int32.ofNat (c.val / 2) := by decide
section
variable {w : Wd}
theorem c_gro {d l e c q : Nat} (ht : w_t w l = 36) (hr : w_r w l 1 = some e) (te : w_t w e = 5) (ne : w_n w e = c) (hk : w_i w l 2 = Int32.ofNat c) (h2 : 1 ≤ c ∧ c ≤ 10) (hel : ∀ j, j < c → ∃ p, w_r w e j = some p ∧ 20 ≤ w_t w p ∧ p < q) (hz : w_z w = q) (hl : l < q) (he : e < q) (hle : l ≠ e) : ∃ w1, (Kp_ (fun a => a < q ∧ a ≠ l) w w1 ∧ w_z w1 = q + 1 ∧ w_s w1 ≤ w_s w + 15 ∧ w_t w1 q = 5 ∧ (c + 1 ≤ w_n w1 q ∧ w_n w1 q ≤ 15) ∧ w_t w1 l = 36 ∧ w_r w1 l 1 = some q ∧ (∀ k, w_i w1 l k = w_i w l k) ∧ ∀ j, j < c → w_r w1 q j = w_r w e j) ∧ ∀ Q, cl (d + 4) 310 [v_R (some l)] w Q = Q (Sum.inl (some (v_R (some q)))) w1 := by
  obtain ⟨nc, hnc⟩ : ∃ nc, nc = c + (if 1 < c / 2 then c / 2 else 1) := ⟨_, rfl⟩
  have n1 : c + 1 ≤ nc ∧ nc ≤ 15 := by
    rw [hnc]
    split <;> omega
  have sh : Int32.ofNat c >>> (Int32.ofNat 1 &&& 31) = Int32.ofNat (c / 2) := sh_1 ⟨c, by omega⟩
  obtain ⟨u, hu⟩ : ∃ u, u = s_n w 5 nc := ⟨_, rfl⟩
  have gu : ∀ b, b < q → w_t u b = w_t w b ∧ w_n u b = w_n w b ∧ (∀ k, w_i u b k = w_i w b k) ∧ (∀ k, w_r u b k = w_r w b k) ∧ ∀ k, w_l u b k = w_l w b k := fun b hb => by
    have e : ¬ b = w_z w := by omega
    rw [hu]
    exact ⟨by rw [t_sn, if_neg e], by rw [n_sn, if_neg e], fun k => by rw [i_sn, if_neg e], fun k => by rw [r_sn, if_neg e], fun k => by rw [l_sn, if_neg e]⟩
  have te2 : w_t u e = 5 := (gu e he).1.trans te
  have ne2 : w_n u e = c := (gu e he).2.1.trans ne
  have tq : w_t u q = 5 := by rw [hu, t_sn, if_pos hz.symm]
  have nq : w_n u q = nc := by rw [hu, n_sn, if_pos hz.symm]
  have zu : w_z u = q + 1 := by rw [hu, z_sn, hz]
  have hcp : cp_k u e q (Int32.ofNat 0) (Int32.ofNat 0) (Int32.ofNat c) := oo_cp (by omega) (by omega) (by omega) (by omega) (by omega)
  have hall : (List.range (Int32.ofNat c).toNatClampNeg).all (fun i => r_k u (w_r u e ((Int32.ofNat 0).toNatClampNeg + i))) = true := by
    rw [oo_tn (by omega), oo_tn (by omega), List.all_eq_true]
    intro j hj
    have hj := List.mem_range.mp hj
    obtain ⟨p, p1, p2, p3⟩ := hel j hj
    rw [Nat.zero_add, (gu e he).2.2.2.1, p1]
    unfold r_k
    simp only [decide_eq_true_eq]
    rw [(gu p p3).1]
    exact p2
  obtain ⟨v, hv⟩ : ∃ v, v = s_R u q (va_cpy (w_r u e) (w_r u q) 0 0 c) := ⟨_, rfl⟩
  have tv : w_t v l = 36 := by rw [hv, t_sR]; exact (gu l hl).1.trans ht
  have q230 : q_q (some 230) (some 230) = true := by decide
  have L : ∀ Q, cl (d + 1) 293 [v_R (some e), v_I (Int32.ofNat nc), v_R (some 230)] w Q = Q (Sum.inl (some (v_R (some q)))) v := fun Q => by
    simp (disch := first | omega | decide | exact ko_b _ | assumption | (simp only [t_si, t_sl, t_sr, t_sI, t_sR, n_si, n_sl, n_sr, n_sI, n_sR, r_si, r_sl, r_sI]; first | done | omega)) only [x_293_e, x_293_b, x_293_0, x_293_1, x_293_3, x_293_6, x_293_7, x_293_10, bk_v, bk_n, nl_I, nl_R, nl_L, nl_0, oo_lt, oo_le, oo_eq, oo_add, oo_sub, oo_tn, oo_ir, nn_leT, nn_leF, nn_ltT, nn_ltF, nn_eqT, nn_eqF, bv_0, bv_1, ko_b, ko_1, ko_0, true_and, and_true, if_true, if_false, not_true_eq_false, not_false_eq_true, oo_02, decide_eq_true_eq, decide_eq_false_iff_not, ite_not, Nat.reduceAdd, Nat.reduceLT, Nat.reduceSub, Nat.reduceLeDiff, reduceIte, Bool.true_eq_false, Bool.false_eq_true, reduceCtorEq, eq_self, decide_true, decide_false, bv_t, bv_f, and_self, t_si, t_sl, t_sr, t_sI, t_sR, n_si, n_sl, n_sr, n_sI, n_sR, r_si, r_sl, r_sI, hz]
    rw [← hu]
    have e35 : ∀ (d : Nat) (ls : L_) (Q : Q_), wp d 293 35 ls [v_I (Int32.ofNat c), v_I (Int32.ofNat 0), v_R (some q), v_I (Int32.ofNat 0), v_R (some e)] u Q = wp d 293 38 ls [] v Q := fun d ls Q => by
      rw [x_293_35.2.2 _ _ _ _ _ _ _ _ _ te2 tq, oo_tn (by omega), oo_tn (by omega), ← hv]
      rw [oo_tn (by omega), oo_tn (by omega)] at hall
      exact propext ⟨fun z => z.2, fun z => ⟨⟨hcp, hall⟩, z⟩⟩
    simp (disch := first | omega | decide | exact ko_b _ | assumption | (simp only [t_si, t_sl, t_sr, t_sI, t_sR, n_si, n_sl, n_sr, n_sI, n_sR, r_si, r_sl, r_sI]; first | done | omega)) only [x_293_e, x_293_b, x_293_24, x_293_25, x_293_26, x_293_27, x_293_28, x_293_29, x_293_30, x_293_31, x_293_32, x_293_e, x_293_b, x_293_38, x_293_39, bk_v, bk_n, nl_I, nl_R, nl_L, nl_0, oo_lt, oo_le, oo_eq, oo_add, oo_sub, oo_tn, oo_ir, nn_leT, nn_leF, nn_ltT, nn_ltF, nn_eqT, nn_eqF, bv_0, bv_1, ko_b, ko_1, ko_0, true_and, and_true, if_true, if_false, not_true_eq_false, not_false_eq_true, oo_02, decide_eq_true_eq, decide_eq_false_iff_not, ite_not, Nat.reduceAdd, Nat.reduceLT, Nat.reduceSub, Nat.reduceLeDiff, reduceIte, Bool.true_eq_false, Bool.false_eq_true, reduceCtorEq, eq_self, decide_true, decide_false, bv_t, bv_f, and_self, t_si, t_sl, t_sr, t_sI, t_sR, n_si, n_sl, n_sr, n_sI, n_sR, r_si, r_sl, r_sI, ne2, e35]
  have e1 : c + 1 - c = 1 := by omega
  have e2 : c + (if 1 < c / 2 then c / 2 else 1) = nc := hnc.symm
  have mx : (if Int32.ofNat 1 < Int32.ofNat (c / 2) then Int32.ofNat (c / 2) else Int32.ofNat 1) = Int32.ofNat (if 1 < c / 2 then c / 2 else 1) := by
    have z9 : (Int32.ofNat 1 < Int32.ofNat (c / 2)) = (1 < c / 2) := oo_lt (by omega) (by omega)
    by_cases z : 1 < c / 2
    · rw [if_pos (by rw [z9]; exact z), if_pos z]
    · rw [if_neg (by rw [z9]; exact z), if_neg z]
  have N : ∀ d Q, cl d 287 [v_I (Int32.ofNat c), v_I (Int32.ofNat 1), v_I (Int32.ofNat (c / 2))] w Q = Q (Sum.inl (some (v_I (Int32.ofNat nc)))) w := fun d Q => by
    simp (disch := first | omega | decide | exact ko_b _ | assumption | (simp only [t_si, t_sl, t_sr, t_sI, t_sR, n_si, n_sl, n_sr, n_sI, n_sR, r_si, r_sl, r_sI]; first | done | omega)) only [x_287_e, x_287_b, x_287_0, x_287_1, x_287_2, bk_v, bk_n, nl_I, nl_R, nl_L, nl_0, oo_lt, oo_le, oo_eq, oo_add, oo_sub, oo_tn, oo_ir, nn_leT, nn_leF, nn_ltT, nn_ltF, nn_eqT, nn_eqF, bv_0, bv_1, ko_b, ko_1, ko_0, true_and, and_true, if_true, if_false, not_true_eq_false, not_false_eq_true, oo_02, decide_eq_true_eq, decide_eq_false_iff_not, ite_not, Nat.reduceAdd, Nat.reduceLT, Nat.reduceSub, Nat.reduceLeDiff, reduceIte, Bool.true_eq_false, Bool.false_eq_true, reduceCtorEq, eq_self, decide_true, decide_false, bv_t, bv_f, and_self, t_si, t_sl, t_sr, t_sI, t_sR, n_si, n_sl, n_sr, n_sI, n_sR, r_si, r_sl, r_sI]
    rw [x_287_3, mx]
    have l1 : ¬ Int32.ofNat 2147483639 < Int32.ofNat nc := by rw [oo_lt (by omega) (by omega)]; omega
    simp (disch := first | omega | decide | exact ko_b _ | assumption | (simp only [t_si, t_sl, t_sr, t_sI, t_sR, n_si, n_sl, n_sr, n_sI, n_sR, r_si, r_sl, r_sI]; first | done | omega)) only [x_287_e, x_287_b, x_287_6, x_287_7, x_287_8, x_287_9, x_287_10, x_287_13, x_287_14, x_287_16, x_287_19, x_287_20, bk_v, bk_n, nl_I, nl_R, nl_L, nl_0, oo_lt, oo_le, oo_eq, oo_add, oo_sub, oo_tn, oo_ir, nn_leT, nn_leF, nn_ltT, nn_ltF, nn_eqT, nn_eqF, bv_0, bv_1, ko_b, ko_1, ko_0, true_and, and_true, if_true, if_false, not_true_eq_false, not_false_eq_true, oo_02, decide_eq_true_eq, decide_eq_false_iff_not, ite_not, Nat.reduceAdd, Nat.reduceLT, Nat.reduceSub, Nat.reduceLeDiff, reduceIte, Bool.true_eq_false, Bool.false_eq_true, reduceCtorEq, eq_self, decide_true, decide_false, bv_t, bv_f, and_self, t_si, t_sl, t_sr, t_sI, t_sR, n_si, n_sl, n_sr, n_sI, n_sR, r_si, r_sl, r_sI, e2, l1]
  refine ⟨s_r v l 1 (some q), ⟨fun b hb => ?_, ?_, ?_, ?_, ⟨?_, ?_⟩, tv, ?_, fun k => ?_, fun j hj => ?_⟩, fun Q => ?_⟩
  · obtain ⟨a1, a2, a3, a4, a5⟩ := gu b hb.1
    rw [hv]
    exact ⟨a1, a2, a3, fun k => by rw [r_sr, if_neg (fun z => hb.2 z.1), r_sR, if_neg (by omega)]; exact a4 k, a5⟩
  · rw [z_sr, hv, z_sR, zu]
  · rw [s_sr, hv, s_sR, hu, s_sn]; omega
  · rw [t_sr, hv, t_sR]; exact tq
  · rw [n_sr, hv, n_sR, nq]; omega
  · rw [n_sr, hv, n_sR, nq]; omega
  · rw [r_sr, if_pos ⟨rfl, rfl⟩]
  · rw [i_sr, hv, i_sR]; exact (gu l hl).2.2.1 k
  · rw [r_sr, if_neg (by omega), hv, r_sR, if_pos rfl]
    unfold va_cpy
    rw [if_pos (by omega), show 0 + (j - 0) = j by omega]
    exact (gu e he).2.2.2.1 j
  · simp (disch := first | omega | decide | exact ko_b _ | assumption | (simp only [t_si, t_sl, t_sr, t_sI, t_sR, n_si, n_sl, n_sr, n_sI, n_sR, r_si, r_sl, r_sI]; first | done | omega)) only [x_310_e, x_310_b, x_310_0, x_310_1, x_310_2, x_310_5, x_310_6, x_310_7, x_310_10, x_311_e, x_311_b, x_311_0, x_311_1, x_311_4, x_311_5, x_311_6, x_311_7, x_311_10, x_311_11, x_311_17, x_311_20, x_311_21, x_311_22, x_311_23, x_311_24, x_311_25, x_311_26, x_311_27, x_311_30, x_311_31, x_311_32, x_311_33, x_311_36, x_311_37, x_311_40, x_311_41, x_311_44, x_292_e, x_292_b, x_292_0, x_292_1, x_292_2, x_292_3, x_292_6, x_292_9, bk_v, bk_n, nl_I, nl_R, nl_L, nl_0, oo_lt, oo_le, oo_eq, oo_add, oo_sub, oo_tn, oo_ir, nn_leT, nn_leF, nn_ltT, nn_ltF, nn_eqT, nn_eqF, bv_0, bv_1, ko_b, ko_1, ko_0, true_and, and_true, if_true, if_false, not_true_eq_false, not_false_eq_true, oo_02, decide_eq_true_eq, decide_eq_false_iff_not, ite_not, Nat.reduceAdd, Nat.reduceLT, Nat.reduceSub, Nat.reduceLeDiff, reduceIte, Bool.true_eq_false, Bool.false_eq_true, reduceCtorEq, eq_self, decide_true, decide_false, bv_t, bv_f, and_self, t_si, t_sl, t_sr, t_sI, t_sR, n_si, n_sl, n_sr, n_sI, n_sR, r_si, r_sl, r_sI, hk, hr, ne, e1, sh, N, L]
theorem c_addl {d l e k c x q : Nat} (ht : w_t w l = 36) (hr : w_r w l 1 = some e) (te : w_t w e = 5) (ne : w_n w e = c) (hk : w_i w l 2 = Int32.ofNat k) (hkc : k ≤ c) (hk9 : k ≤ 9) (h2 : 1 ≤ c ∧ c ≤ 20) (hel : ∀ j, j < k → ∃ p, w_r w e j = some p ∧ 20 ≤ w_t w p ∧ p < q) (hz : w_z w = q) (hl : l < q) (he : e < q) (hle : l ≠ e) (hx : 20 ≤ w_t w x) (hxq : x < q) (hxe : x ≠ e) : ∃ w1 e1, (Kp_ (fun a => a < q ∧ a ≠ l ∧ a ≠ e) w w1 ∧ (q ≤ w_z w1 ∧ w_z w1 ≤ q + 1 ∧ w_s w1 ≤ w_s w + 15) ∧ (e1 = e ∨ e1 = q) ∧ e1 < w_z w1 ∧ w_t w1 e1 = 5 ∧ (k + 1 ≤ w_n w1 e1 ∧ w_n w1 e1 ≤ 20) ∧ w_t w1 l = 36 ∧ w_r w1 l 1 = some e1 ∧ w_i w1 l 2 = Int32.ofNat (k + 1) ∧ (∀ j, j < k → w_r w1 e1 j = w_r w e j) ∧ w_r w1 e1 k = some x) ∧ ∀ Q, cl (d + 6) 308 [v_R (some l), v_R (some x)] w Q = Q (Sum.inl (some (v_I (Int32.ofNat 1)))) w1 := by
  by_cases hc : k < c
  · refine ⟨s_i (s_r (s_i w l 0 (w_i w l 0 + Int32.ofNat 1)) e k (some x)) l 2 (Int32.ofNat (k + 1)), e, ⟨fun b hb => ⟨rfl, rfl, fun j => ?_, fun j => ?_, fun _ => rfl⟩, ⟨?_, ?_, ?_⟩, Or.inl rfl, ?_, te, ⟨?_, ?_⟩, ht, ?_, ?_, fun j hj => ?_, ?_⟩, fun Q => c_add (d := d + 4) ht hr te ne hk hc (by omega) rfl hx⟩
    · rw [i_si, if_neg (fun z => hb.2.1 z.1), i_sr, i_si, if_neg (fun z => hb.2.1 z.1)]
    · rw [r_si, r_sr, if_neg (fun z => hb.2.2 z.1), r_si]
    · rw [z_si, z_sr, z_si, hz]; exact Nat.le_refl _
    · rw [z_si, z_sr, z_si, hz]; omega
    · rw [s_si, s_sr, s_si]; omega
    · rw [z_si, z_sr, z_si, hz]; exact he
    · rw [n_si, n_sr, n_si, ne]; omega
    · rw [n_si, n_sr, n_si, ne]; omega
    · rw [r_si, r_sr, if_neg (fun z => hle z.1), r_si]; exact hr
    · rw [i_si, if_pos ⟨rfl, rfl⟩]
    · rw [r_si, r_sr, if_neg (by omega), r_si]
    · rw [r_si, r_sr, if_pos ⟨rfl, rfl⟩]
  · have ec : k = c := by omega
    subst ec
    obtain ⟨v, hv⟩ : ∃ v, v = s_i w l 0 (w_i w l 0 + Int32.ofNat 1) := ⟨_, rfl⟩
    have tv : w_t v = w_t w := by rw [hv]; rfl
    have nv : w_n v = w_n w := by rw [hv]; rfl
    have rv : w_r v = w_r w := by rw [hv]; rfl
    have zv : w_z v = q := by rw [hv, z_si, hz]
    have kv : w_i v l 2 = Int32.ofNat k := by rw [hv, i_si, if_neg (by omega)]; exact hk
    obtain ⟨u, ⟨k1, z1, s1, t1, ⟨n1, n2⟩, t2, r1, i1, r2⟩, q1⟩ := c_gro (w := v) (d := d) (by rw [tv]; exact ht) (by rw [rv]; exact hr) (by rw [tv]; exact te) (by rw [nv]; exact ne) kv ⟨h2.1, by omega⟩ (fun j hj => by rw [rv, tv]; exact hel j hj) zv hl he hle
    have hxl : 20 ≤ w_t u x := by
      by_cases e : x = l
      · rw [e, t2]; omega
      · rw [(k1 x ⟨hxq, e⟩).1, tv]; exact hx
    have tl : w_t v l = 36 := by rw [tv]; exact ht
    have te2 : w_t v e = 5 := by rw [tv]; exact te
    have ne2 : w_n v e = k := by rw [nv]; exact ne
    have re2 : w_r v l 1 = some e := by rw [rv]; exact hr
    refine ⟨s_i (s_r u q k (some x)) l 2 (Int32.ofNat (k + 1)), q, ⟨fun b hb => ⟨?_, ?_, fun j => ?_, fun j => ?_, fun j => ?_⟩, ⟨?_, ?_, ?_⟩, Or.inr rfl, ?_, t1, ⟨n1, ?_⟩, t2, ?_, ?_, fun j hj => ?_, ?_⟩, fun Q => ?_⟩
    · obtain ⟨a1, a2, a3, a4, a5⟩ := k1 b ⟨hb.1, hb.2.1⟩
      exact a1.trans (by rw [tv])
    · obtain ⟨a1, a2, a3, a4, a5⟩ := k1 b ⟨hb.1, hb.2.1⟩
      exact a2.trans (by rw [nv])
    · obtain ⟨a1, a2, a3, a4, a5⟩ := k1 b ⟨hb.1, hb.2.1⟩
      rw [i_si, if_neg (fun z => hb.2.1 z.1), i_sr]
      exact (a3 j).trans (by rw [hv, i_si, if_neg (fun z => hb.2.1 z.1)])
    · obtain ⟨a1, a2, a3, a4, a5⟩ := k1 b ⟨hb.1, hb.2.1⟩
      rw [r_si, r_sr, if_neg (by omega)]
      exact (a4 j).trans (by rw [rv])
    · obtain ⟨a1, a2, a3, a4, a5⟩ := k1 b ⟨hb.1, hb.2.1⟩
      exact (a5 j).trans (by rw [hv]; rfl)
    · rw [z_si, z_sr]; omega
    · rw [z_si, z_sr]; omega
    · have e : w_s v = w_s w := by rw [hv]; rfl
      rw [s_si, s_sr]; omega
    · rw [z_si, z_sr]; omega
    · rw [n_si, n_sr]; omega
    · rw [r_si, r_sr, if_neg (by omega)]; exact r1
    · rw [i_si, if_pos ⟨rfl, rfl⟩]
    · rw [r_si, r_sr, if_neg (by omega), r2 j hj, rv]
    · rw [r_si, r_sr, if_pos ⟨rfl, rfl⟩]
    · have t1n : k < w_n u q := by omega
      have nq3 : w_n u q < 2147483648 := by omega
      simp (disch := first | omega | decide | exact ko_b _ | assumption | (simp only [t_si, t_sl, t_sr, t_sI, t_sR, n_si, n_sl, n_sr, n_sI, n_sR, r_si, r_sl, r_sI]; first | done | omega)) only [x_308_e, x_308_b, x_308_0, x_308_1, x_308_2, x_308_5, x_308_6, x_308_7, bk_v, bk_n, nl_I, nl_R, nl_L, nl_0, oo_lt, oo_le, oo_eq, oo_add, oo_sub, oo_tn, oo_ir, nn_leT, nn_leF, nn_ltT, nn_ltF, nn_eqT, nn_eqF, bv_0, bv_1, ko_b, ko_1, ko_0, true_and, and_true, if_true, if_false, not_true_eq_false, not_false_eq_true, oo_02, decide_eq_true_eq, decide_eq_false_iff_not, ite_not, Nat.reduceAdd, Nat.reduceLT, Nat.reduceSub, Nat.reduceLeDiff, reduceIte, Bool.true_eq_false, Bool.false_eq_true, reduceCtorEq, eq_self, decide_true, decide_false, bv_t, bv_f, and_self, t_si, t_sl, t_sr, t_sI, t_sR, n_si, n_sl, n_sr, n_sI, n_sR, r_si, r_sl, r_sI, ht]
      rw [← hv]
      simp (disch := first | omega | decide | exact ko_b _ | assumption | (simp only [t_si, t_sl, t_sr, t_sI, t_sR, n_si, n_sl, n_sr, n_sI, n_sR, r_si, r_sl, r_sI]; first | done | omega)) only [x_308_e, x_308_b, x_308_10, x_308_11, x_308_12, x_308_13, x_308_16, x_308_17, x_308_20, x_308_23, x_308_24, x_309_e, x_309_b, x_309_0, x_309_1, x_309_2, x_309_3, x_309_6, x_309_7, x_309_10, x_309_11, x_309_12, x_309_13, x_309_14, x_309_15, x_309_16, x_309_17, x_309_18, x_309_19, x_309_22, bk_v, bk_n, nl_I, nl_R, nl_L, nl_0, oo_lt, oo_le, oo_eq, oo_add, oo_sub, oo_tn, oo_ir, nn_leT, nn_leF, nn_ltT, nn_ltF, nn_eqT, nn_eqF, bv_0, bv_1, ko_b, ko_1, ko_0, true_and, and_true, if_true, if_false, not_true_eq_false, not_false_eq_true, oo_02, decide_eq_true_eq, decide_eq_false_iff_not, ite_not, Nat.reduceAdd, Nat.reduceLT, Nat.reduceSub, Nat.reduceLeDiff, reduceIte, Bool.true_eq_false, Bool.false_eq_true, reduceCtorEq, eq_self, decide_true, decide_false, bv_t, bv_f, and_self, t_si, t_sl, t_sr, t_sI, t_sR, n_si, n_sl, n_sr, n_sI, n_sR, r_si, r_sl, r_sI, kv, re2, ne2, q1]
end
