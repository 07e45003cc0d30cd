/-! SETS: the component's first row -/
set_option maxRecDepth 100000
def P36_ (a _k : Nat) : Prop := a = 1436
section
variable {w : Wd} {S : Sm} {G : Gm} {σ : Nat → Nat}
theorem RC_36 {w1 : Wd} (h : RC_ w G σ S) (hV : WS_ S) (hf : Fr_ P36_ w w1) : RC_ w1 G σ S := RC_fr h hV (fr_mo hf (fun a k z => by unfold P36_ at z; unfold pc_; omega))
theorem gr_p {E : Nat → Nat → Bool} {n B k A : Nat} : decide (0 < wk_ E n B (k + 1) A) = (gr_ E n B k A).isSome := by
  rw [← dn_wk]
  unfold gr_
  cases e : ff_ (fun t => decide (0 < dn_ E n B k A t)) 0 n with
  | none =>
    refine decide_eq_false (fun z => ?_)
    obtain ⟨t, h1, h2⟩ := sm_p.mp z
    have := ff_n e t (Nat.zero_le _) (by omega)
    rw [decide_eq_true h2] at this
    cases this
  | some t =>
    obtain ⟨_, h2, h3, _⟩ := ff_s e
    exact decide_eq_true (sm_p.mpr ⟨t, by omega, of_decide_eq_true h3⟩)
/-- a row begun -/
theorem c_rows (hV : WS_ S) {d all : Nat} (ha : all < 2 ^ tm_n (sm_T S)) : ∀ (k below : Nat) (w : Wd), RC_ w G σ S → below &&& all = below → bt_n below + k = bt_n all → ∃ w1, Fr_ P36_ w w1 ∧ (∀ j, j < bt_n below → w_i w1 1436 j = w_i w 1436 j) ∧ (0 < wk_ (E_ (sm_T S) (bm_X (sm_B S)) 0 0 all) (tm_n (sm_T S)) all k below → ∀ i, i < k → w_i w1 1436 (bt_n below + i) = Int32.ofNat (rw_ (E_ (sm_T S) (bm_X (sm_B S)) 0 0 all) (tm_n (sm_T S)) all k below i)) ∧ ∀ Q, cl (d + k + 8) 83 [v_R (some 1000), v_I (Int32.ofNat below), v_I (Int32.ofNat all)] w Q = Q (Sum.inl (some (v_I (b_v (decide (0 < wk_ (E_ (sm_T S) (bm_X (sm_B S)) 0 0 all) (tm_n (sm_T S)) all k below)))))) w1 := by
  have hn10 := hV.1.1
  have ha1024 : all < 1024 := Nat.lt_of_lt_of_le ha (p2_le hn10)
  intro k
  induction k with
  | zero =>
    intro below w h hb hk
    have eb : below = all := by
      refine Classical.byContradiction (fun z => ?_)
      have := bt_ssub ha1024 hb z
      omega
    subst eb
    refine ⟨w, fr_rf _ _, fun _ _ => rfl, fun _ i hi => absurd hi (Nat.not_lt_zero i), fun Q => ?_⟩
    have e1 : wk_ (E_ (sm_T S) (bm_X (sm_B S)) 0 0 below) (tm_n (sm_T S)) below 0 below = 1 := if_pos rfl
    rw [e1]
    simp (disch := first | omega | decide | exact ko_b _ | assumption | (simp only [t_si, t_sl, t_sr, t_sI, t_sR, n_si, n_sl, n_sr, n_sI, n_sR, r_si, r_sl, r_sI]; first | done | omega)) only [x_83_e, x_83_b, x_83_0, x_83_1, x_83_2, x_83_5, x_83_6, x_83_7, x_83_8, bk_v, bk_n, nl_I, nl_R, nl_L, nl_0, oo_lt, oo_le, oo_eq, oo_add, oo_sub, oo_tn, oo_ir, nn_leT, nn_leF, nn_ltT, nn_ltF, nn_eqT, nn_eqF, bv_0, bv_1, ko_b, ko_1, ko_0, true_and, and_true, if_true, if_false, not_true_eq_false, not_false_eq_true, oo_02, decide_eq_true_eq, decide_eq_false_iff_not, ite_not, Nat.reduceAdd, Nat.reduceLT, Nat.reduceSub, Nat.reduceLeDiff, reduceIte, Bool.true_eq_false, Bool.false_eq_true, reduceCtorEq, eq_self, decide_true, decide_false, bv_t, bv_f, and_self, t_si, t_sl, t_sr, t_sI, t_sR, n_si, n_sl, n_sr, n_sI, n_sR, r_si, r_sl, r_sI]
  | succ k ih =>
    intro below w h hb hk
    have hbl : below < 1024 := Nat.lt_of_le_of_lt (sub_le hb) ha1024
    have hne : below ≠ all := fun z => by rw [z] at hk; omega
    have hb10 := bt_10 ha1024
    have step : ∀ (m t : Nat) (w : Wd), RC_ w G σ S → t + m = tm_n (sm_T S) → ∃ w1, Fr_ P36_ w w1 ∧ (∀ j, j < bt_n below → w_i w1 1436 j = w_i w 1436 j) ∧ (∀ t1, ff_ (fun t => decide (0 < dn_ (E_ (sm_T S) (bm_X (sm_B S)) 0 0 all) (tm_n (sm_T S)) all k below t)) t m = some t1 → w_i w1 1436 (bt_n below) = Int32.ofNat t1 ∧ ∀ i, i < k → w_i w1 1436 (bt_n below + 1 + i) = Int32.ofNat (rw_ (E_ (sm_T S) (bm_X (sm_B S)) 0 0 all) (tm_n (sm_T S)) all k (below ||| 2 ^ t1) i)) ∧ ∀ Q, wp (d + k + 9) 83 9 [some (v_R (some 1000)), some (v_I (Int32.ofNat below)), some (v_I (Int32.ofNat all)), some (v_I (Int32.ofNat t))] [] w Q = Q (Sum.inl (some (v_I (b_v (ff_ (fun t => decide (0 < dn_ (E_ (sm_T S) (bm_X (sm_B S)) 0 0 all) (tm_n (sm_T S)) all k below t)) t m).isSome)))) w1 := by
      intro m
      induction m with
      | zero =>
        intro t w h ht
        refine ⟨w, fr_rf _ _, fun _ _ => rfl, fun t1 z => (by cases z), fun Q => ?_⟩
        have ctb := fun d Q => c_tables h hV (d := d) (Q := Q)
        have t0 : w_t w 1000 = 20 := h.1.1
        have et : t = tm_n (sm_T S) := by omega
        subst et
        rw [x_83_9]
        simp (disch := first | omega | decide | exact ko_b _ | assumption | (simp only [t_si, t_sl, t_sr, t_sI, t_sR, n_si, n_sl, n_sr, n_sI, n_sR, r_si, r_sl, r_sI]; first | done | omega)) only [x_83_e, x_83_b, x_83_10, x_83_11, x_83_14, x_83_e, x_83_b, x_83_78, x_83_79, bk_v, bk_n, nl_I, nl_R, nl_L, nl_0, oo_lt, oo_le, oo_eq, oo_add, oo_sub, oo_tn, oo_ir, nn_leT, nn_leF, nn_ltT, nn_ltF, nn_eqT, nn_eqF, bv_0, bv_1, ko_b, ko_1, ko_0, true_and, and_true, if_true, if_false, not_true_eq_false, not_false_eq_true, oo_02, decide_eq_true_eq, decide_eq_false_iff_not, ite_not, Nat.reduceAdd, Nat.reduceLT, Nat.reduceSub, Nat.reduceLeDiff, reduceIte, Bool.true_eq_false, Bool.false_eq_true, reduceCtorEq, eq_self, decide_true, decide_false, bv_t, bv_f, and_self, t_si, t_sl, t_sr, t_sI, t_sR, n_si, n_sl, n_sr, n_sI, n_sR, r_si, r_sl, r_sI, ctb]
        rfl
      | succ m ihm =>
        intro t w h ht
        have htn : t < tm_n (sm_T S) := by omega
        have ctb := fun d Q => c_tables h hV (d := d) (Q := Q)
        have hta := sb_tb (s := all) (t := t) ha1024 (by omega)
        have htb := sb_tb (s := below) (t := t) hbl (by omega)
        have chl := fun Q => c_hl h hV (d := d + k + 2) (t := t) (below := below) (all := all) (Q := Q) htn hbl ha1024
        have ss := sb_s (t := t) (by omega)
        have so := sb_o below (2 ^ t)
        have hh := h.1
        unfold sh_C at hh
        have t0 : w_t w 1000 = 20 := hh.1
        have r10 : w_r w 1000 10 = some 1436 := by simp only [hh]
        have t36 : w_t w 1436 = 1 := by simp only [hh]
        have n36 : w_n w 1436 = 10 := by simp only [hh]
        clear hh
        have jb := fun d Q => j_bits (w := w) (d := d) (Q := Q) hbl
        -- passing over
        have over : dn_ (E_ (sm_T S) (bm_X (sm_B S)) 0 0 all) (tm_n (sm_T S)) all k below t = 0 → (∀ Q, wp (d + k + 9) 83 9 [some (v_R (some 1000)), some (v_I (Int32.ofNat below)), some (v_I (Int32.ofNat all)), some (v_I (Int32.ofNat t))] [] w Q = wp (d + k + 9) 83 9 [some (v_R (some 1000)), some (v_I (Int32.ofNat below)), some (v_I (Int32.ofNat all)), some (v_I (Int32.ofNat (t + 1)))] [] w Q) → ∃ w1, Fr_ P36_ w w1 ∧ (∀ j, j < bt_n below → w_i w1 1436 j = w_i w 1436 j) ∧ (∀ t1, ff_ (fun t => decide (0 < dn_ (E_ (sm_T S) (bm_X (sm_B S)) 0 0 all) (tm_n (sm_T S)) all k below t)) t (m + 1) = some t1 → w_i w1 1436 (bt_n below) = Int32.ofNat t1 ∧ ∀ i, i < k → w_i w1 1436 (bt_n below + 1 + i) = Int32.ofNat (rw_ (E_ (sm_T S) (bm_X (sm_B S)) 0 0 all) (tm_n (sm_T S)) all k (below ||| 2 ^ t1) i)) ∧ ∀ Q, wp (d + k + 9) 83 9 [some (v_R (some 1000)), some (v_I (Int32.ofNat below)), some (v_I (Int32.ofNat all)), some (v_I (Int32.ofNat t))] [] w Q = Q (Sum.inl (some (v_I (b_v (ff_ (fun t => decide (0 < dn_ (E_ (sm_T S) (bm_X (sm_B S)) 0 0 all) (tm_n (sm_T S)) all k below t)) t (m + 1)).isSome)))) w1 := fun hz hq => by
          obtain ⟨w1, g1, g2, g3, g4⟩ := ihm (t + 1) w h (by omega)
          have e : ff_ (fun t => decide (0 < dn_ (E_ (sm_T S) (bm_X (sm_B S)) 0 0 all) (tm_n (sm_T S)) all k below t)) t (m + 1) = ff_ (fun t => decide (0 < dn_ (E_ (sm_T S) (bm_X (sm_B S)) 0 0 all) (tm_n (sm_T S)) all k below t)) (t + 1) m := by
            rw [ff_, if_neg (by rw [hz]; decide)]
          rw [e]
          exact ⟨w1, g1, g2, g3, fun Q => (hq Q).trans (g4 Q)⟩
        cases e1 : all.testBit t with
        | false =>
          rw [e1] at hta
          refine over ?_ (fun Q => ?_)
          · unfold dn_ E_
            rw [e1, Bool.false_and, Bool.false_and, Bool.and_false, if_neg (by decide)]
          · rw [x_83_9]
            simp (disch := first | omega | decide | exact ko_b _ | assumption | (simp only [t_si, t_sl, t_sr, t_sI, t_sR, n_si, n_sl, n_sr, n_sI, n_sR, r_si, r_sl, r_sI]; first | done | omega)) only [x_83_e, x_83_b, x_83_10, x_83_11, x_83_14, x_83_17, x_83_18, x_83_19, x_83_20, x_83_21, x_83_22, x_83_25, x_83_26, x_83_27, x_83_28, x_83_29, x_83_30, x_83_31, x_83_34, x_83_35, x_83_36, x_83_37, x_83_38, x_83_41, x_83_44, x_83_47, x_83_48, x_83_51, x_83_52, x_83_55, x_83_56, x_83_57, x_83_58, x_83_59, x_83_60, x_83_61, x_83_62, x_83_63, x_83_64, x_83_67, x_83_70, x_83_71, x_83_72, x_83_75, bk_v, bk_n, nl_I, nl_R, nl_L, nl_0, oo_lt, oo_le, oo_eq, oo_add, oo_sub, oo_tn, oo_ir, nn_leT, nn_leF, nn_ltT, nn_ltF, nn_eqT, nn_eqF, bv_0, bv_1, ko_b, ko_1, ko_0, true_and, and_true, if_true, if_false, not_true_eq_false, not_false_eq_true, oo_02, decide_eq_true_eq, decide_eq_false_iff_not, ite_not, Nat.reduceAdd, Nat.reduceLT, Nat.reduceSub, Nat.reduceLeDiff, reduceIte, Bool.true_eq_false, Bool.false_eq_true, reduceCtorEq, eq_self, decide_true, decide_false, bv_t, bv_f, and_self, t_si, t_sl, t_sr, t_sI, t_sR, n_si, n_sl, n_sr, n_sI, n_sR, r_si, r_sl, r_sI, ctb, hta]
        | true =>
          rw [e1] at hta
          cases e2 : below.testBit t with
          | true =>
            rw [e2] at htb
            refine over ?_ (fun Q => ?_)
            · unfold dn_
              rw [e2, Bool.not_true, Bool.false_and, if_neg (by decide)]
            · rw [x_83_9]
              simp (disch := first | omega | decide | exact ko_b _ | assumption | (simp only [t_si, t_sl, t_sr, t_sI, t_sR, n_si, n_sl, n_sr, n_sI, n_sR, r_si, r_sl, r_sI]; first | done | omega)) only [x_83_e, x_83_b, x_83_10, x_83_11, x_83_14, x_83_17, x_83_18, x_83_19, x_83_20, x_83_21, x_83_22, x_83_25, x_83_26, x_83_27, x_83_28, x_83_29, x_83_30, x_83_31, x_83_34, x_83_35, x_83_36, x_83_37, x_83_38, x_83_41, x_83_44, x_83_47, x_83_48, x_83_51, x_83_52, x_83_55, x_83_56, x_83_57, x_83_58, x_83_59, x_83_60, x_83_61, x_83_62, x_83_63, x_83_64, x_83_67, x_83_70, x_83_71, x_83_72, x_83_75, bk_v, bk_n, nl_I, nl_R, nl_L, nl_0, oo_lt, oo_le, oo_eq, oo_add, oo_sub, oo_tn, oo_ir, nn_leT, nn_leF, nn_ltT, nn_ltF, nn_eqT, nn_eqF, bv_0, bv_1, ko_b, ko_1, ko_0, true_and, and_true, if_true, if_false, not_true_eq_false, not_false_eq_true, oo_02, decide_eq_true_eq, decide_eq_false_iff_not, ite_not, Nat.reduceAdd, Nat.reduceLT, Nat.reduceSub, Nat.reduceLeDiff, reduceIte, Bool.true_eq_false, Bool.false_eq_true, reduceCtorEq, eq_self, decide_true, decide_false, bv_t, bv_f, and_self, t_si, t_sl, t_sr, t_sI, t_sR, n_si, n_sl, n_sr, n_sI, n_sR, r_si, r_sl, r_sI, ctb, hta, htb]
          | false =>
            rw [e2] at htb
            cases e3 : f_hl (sm_T S) (bm_X (sm_B S)) all below t with
            | false =>
              rw [e3] at chl
              refine over ?_ (fun Q => ?_)
              · unfold dn_ E_
                rw [e3, Bool.and_false, Bool.and_false, if_neg (by decide)]
              · rw [x_83_9]
                simp (disch := first | omega | decide | exact ko_b _ | assumption | (simp only [t_si, t_sl, t_sr, t_sI, t_sR, n_si, n_sl, n_sr, n_sI, n_sR, r_si, r_sl, r_sI]; first | done | omega)) only [x_83_e, x_83_b, x_83_10, x_83_11, x_83_14, x_83_17, x_83_18, x_83_19, x_83_20, x_83_21, x_83_22, x_83_25, x_83_26, x_83_27, x_83_28, x_83_29, x_83_30, x_83_31, x_83_34, x_83_35, x_83_36, x_83_37, x_83_38, x_83_41, x_83_44, x_83_47, x_83_48, x_83_51, x_83_52, x_83_55, x_83_56, x_83_57, x_83_58, x_83_59, x_83_60, x_83_61, x_83_62, x_83_63, x_83_64, x_83_67, x_83_70, x_83_71, x_83_72, x_83_75, bk_v, bk_n, nl_I, nl_R, nl_L, nl_0, oo_lt, oo_le, oo_eq, oo_add, oo_sub, oo_tn, oo_ir, nn_leT, nn_leF, nn_ltT, nn_ltF, nn_eqT, nn_eqF, bv_0, bv_1, ko_b, ko_1, ko_0, true_and, and_true, if_true, if_false, not_true_eq_false, not_false_eq_true, oo_02, decide_eq_true_eq, decide_eq_false_iff_not, ite_not, Nat.reduceAdd, Nat.reduceLT, Nat.reduceSub, Nat.reduceLeDiff, reduceIte, Bool.true_eq_false, Bool.false_eq_true, reduceCtorEq, eq_self, decide_true, decide_false, bv_t, bv_f, and_self, t_si, t_sl, t_sr, t_sI, t_sR, n_si, n_sl, n_sr, n_sI, n_sR, r_si, r_sl, r_sI, ctb, hta, htb, chl]
            | true =>
              rw [e3] at chl
              have ed : dn_ (E_ (sm_T S) (bm_X (sm_B S)) 0 0 all) (tm_n (sm_T S)) all k below t = wk_ (E_ (sm_T S) (bm_X (sm_B S)) 0 0 all) (tm_n (sm_T S)) all k (below ||| 2 ^ t) := by
                unfold dn_
                rw [if_pos]
                unfold E_
                rw [e1, e2, e3, Nat.zero_testBit, Bool.false_and]; rfl
              have hb2 : (below ||| 2 ^ t) &&& all = below ||| 2 ^ t := tb_sub (fun i hi => by
                rw [Nat.testBit_or] at hi
                by_cases c : i = t
                · rw [c]; exact e1
                · rw [Nat.testBit_two_pow_of_ne (fun z => c z.symm), Bool.or_false] at hi
                  exact sub_tb hb hi)
              have hbt := bt_or e2 (by omega : t < 10)
              have f1 : Fr_ P36_ w (s_i w 1436 (bt_n below) (Int32.ofNat t)) := fr_si (fr_rf _ _) rfl
              obtain ⟨w2, g1, g2, g3, g4⟩ := ih (below ||| 2 ^ t) (s_i w 1436 (bt_n below) (Int32.ofNat t)) (RC_36 h hV f1) hb2 (by omega)
              have pre : ∀ Q, wp (d + k + 9) 83 9 [some (v_R (some 1000)), some (v_I (Int32.ofNat below)), some (v_I (Int32.ofNat all)), some (v_I (Int32.ofNat t))] [] w Q = if 0 < wk_ (E_ (sm_T S) (bm_X (sm_B S)) 0 0 all) (tm_n (sm_T S)) all k (below ||| 2 ^ t) then Q (Sum.inl (some (v_I (Int32.ofNat 1)))) w2 else wp (d + k + 9) 83 9 [some (v_R (some 1000)), some (v_I (Int32.ofNat below)), some (v_I (Int32.ofNat all)), some (v_I (Int32.ofNat (t + 1)))] [] w2 Q := fun Q => by
                rw [x_83_9]
                by_cases c : 0 < wk_ (E_ (sm_T S) (bm_X (sm_B S)) 0 0 all) (tm_n (sm_T S)) all k (below ||| 2 ^ t)
                · have g4 : ∀ Q, cl (d + k + 8) 83 _ _ Q = _ := g4
                  rw [decide_eq_true c] at g4
                  rw [if_pos c]
                  simp (disch := first | omega | decide | exact ko_b _ | assumption | (simp only [t_si, t_sl, t_sr, t_sI, t_sR, n_si, n_sl, n_sr, n_sI, n_sR, r_si, r_sl, r_sI]; first | done | omega)) only [x_83_e, x_83_b, x_83_10, x_83_11, x_83_14, x_83_17, x_83_18, x_83_19, x_83_20, x_83_21, x_83_22, x_83_25, x_83_26, x_83_27, x_83_28, x_83_29, x_83_30, x_83_31, x_83_34, x_83_35, x_83_36, x_83_37, x_83_38, x_83_41, x_83_44, x_83_47, x_83_48, x_83_51, x_83_52, x_83_55, x_83_56, x_83_57, x_83_58, x_83_59, x_83_60, x_83_61, x_83_62, x_83_63, x_83_64, x_83_67, x_83_70, x_83_71, x_83_72, x_83_75, bk_v, bk_n, nl_I, nl_R, nl_L, nl_0, oo_lt, oo_le, oo_eq, oo_add, oo_sub, oo_tn, oo_ir, nn_leT, nn_leF, nn_ltT, nn_ltF, nn_eqT, nn_eqF, bv_0, bv_1, ko_b, ko_1, ko_0, true_and, and_true, if_true, if_false, not_true_eq_false, not_false_eq_true, oo_02, decide_eq_true_eq, decide_eq_false_iff_not, ite_not, Nat.reduceAdd, Nat.reduceLT, Nat.reduceSub, Nat.reduceLeDiff, reduceIte, Bool.true_eq_false, Bool.false_eq_true, reduceCtorEq, eq_self, decide_true, decide_false, bv_t, bv_f, and_self, t_si, t_sl, t_sr, t_sI, t_sR, n_si, n_sl, n_sr, n_sI, n_sR, r_si, r_sl, r_sI, ctb, hta, htb, chl, r10, n36, jb, ss, so, g4]
                · have g4 : ∀ Q, cl (d + k + 8) 83 _ _ Q = _ := g4
                  rw [decide_eq_false c] at g4
                  rw [if_neg c]
                  simp (disch := first | omega | decide | exact ko_b _ | assumption | (simp only [t_si, t_sl, t_sr, t_sI, t_sR, n_si, n_sl, n_sr, n_sI, n_sR, r_si, r_sl, r_sI]; first | done | omega)) only [x_83_e, x_83_b, x_83_10, x_83_11, x_83_14, x_83_17, x_83_18, x_83_19, x_83_20, x_83_21, x_83_22, x_83_25, x_83_26, x_83_27, x_83_28, x_83_29, x_83_30, x_83_31, x_83_34, x_83_35, x_83_36, x_83_37, x_83_38, x_83_41, x_83_44, x_83_47, x_83_48, x_83_51, x_83_52, x_83_55, x_83_56, x_83_57, x_83_58, x_83_59, x_83_60, x_83_61, x_83_62, x_83_63, x_83_64, x_83_67, x_83_70, x_83_71, x_83_72, x_83_75, bk_v, bk_n, nl_I, nl_R, nl_L, nl_0, oo_lt, oo_le, oo_eq, oo_add, oo_sub, oo_tn, oo_ir, nn_leT, nn_leF, nn_ltT, nn_ltF, nn_eqT, nn_eqF, bv_0, bv_1, ko_b, ko_1, ko_0, true_and, and_true, if_true, if_false, not_true_eq_false, not_false_eq_true, oo_02, decide_eq_true_eq, decide_eq_false_iff_not, ite_not, Nat.reduceAdd, Nat.reduceLT, Nat.reduceSub, Nat.reduceLeDiff, reduceIte, Bool.true_eq_false, Bool.false_eq_true, reduceCtorEq, eq_self, decide_true, decide_false, bv_t, bv_f, and_self, t_si, t_sl, t_sr, t_sI, t_sR, n_si, n_sl, n_sr, n_sI, n_sR, r_si, r_sl, r_sI, ctb, hta, htb, chl, r10, n36, jb, ss, so, g4]
              have ecell : w_i w2 1436 (bt_n below) = Int32.ofNat t := by rw [g2 _ (by omega), i_si, if_pos ⟨rfl, rfl⟩]
              have low : ∀ j, j < bt_n below → w_i w2 1436 j = w_i w 1436 j := fun j hj => by rw [g2 _ (by omega), i_si, if_neg (by omega)]
              by_cases c : 0 < wk_ (E_ (sm_T S) (bm_X (sm_B S)) 0 0 all) (tm_n (sm_T S)) all k (below ||| 2 ^ t)
              · have e : ff_ (fun t => decide (0 < dn_ (E_ (sm_T S) (bm_X (sm_B S)) 0 0 all) (tm_n (sm_T S)) all k below t)) t (m + 1) = some t := by
                  rw [ff_, if_pos (decide_eq_true (by rw [ed]; exact c))]
                rw [e]
                refine ⟨w2, fr_tr f1 g1, low, fun t1 z => ?_, fun Q => ?_⟩
                · cases z
                  refine ⟨ecell, fun i hi => ?_⟩
                  rw [← hbt]
                  exact g3 c i hi
                · rw [pre, if_pos c]; rfl
              · have e : ff_ (fun t => decide (0 < dn_ (E_ (sm_T S) (bm_X (sm_B S)) 0 0 all) (tm_n (sm_T S)) all k below t)) t (m + 1) = ff_ (fun t => decide (0 < dn_ (E_ (sm_T S) (bm_X (sm_B S)) 0 0 all) (tm_n (sm_T S)) all k below t)) (t + 1) m := by
                  rw [ff_, if_neg (by rw [ed, decide_eq_false c]; decide)]
                rw [e]
                obtain ⟨w3, k1, k2, k3, k4⟩ := ihm (t + 1) w2 (RC_36 h hV (fr_tr f1 g1)) (by omega)
                refine ⟨w3, fr_tr (fr_tr f1 g1) k1, fun j hj => by rw [k2 j hj, low j hj], k3, fun Q => ?_⟩
                rw [pre, if_neg c, k4]
    obtain ⟨w1, g1, g2, g3, g4⟩ := step (tm_n (sm_T S)) 0 w h (Nat.zero_add _)
    have eg : ff_ (fun t => decide (0 < dn_ (E_ (sm_T S) (bm_X (sm_B S)) 0 0 all) (tm_n (sm_T S)) all k below t)) 0 (tm_n (sm_T S)) = gr_ (E_ (sm_T S) (bm_X (sm_B S)) 0 0 all) (tm_n (sm_T S)) all k below := rfl
    rw [eg] at g3 g4
    refine ⟨w1, g1, g2, fun hp i hi => ?_, fun Q => ?_⟩
    · have h1 := gr_p (E := E_ (sm_T S) (bm_X (sm_B S)) 0 0 all) (n := tm_n (sm_T S)) (B := all) (k := k) (A := below)
      rw [decide_eq_true hp] at h1
      obtain ⟨t1, ht1⟩ := Option.isSome_iff_exists.mp h1.symm
      obtain ⟨a1, a2⟩ := g3 t1 ht1
      rw [rw_, ht1]
      cases i with
      | zero => exact a1
      | succ i =>
        have := a2 i (by omega)
        rw [show bt_n below + (i + 1) = bt_n below + 1 + i by omega, this]
        rfl
    · rw [gr_p, ← g4 Q]
      have e9 : d + (k + 1) + 8 = d + k + 9 := by omega
      rw [e9]
      simp (disch := first | omega | decide | exact ko_b _ | assumption | (simp only [t_si, t_sl, t_sr, t_sI, t_sR, n_si, n_sl, n_sr, n_sI, n_sR, r_si, r_sl, r_sI]; first | done | omega)) only [x_83_e, x_83_b, x_83_0, x_83_1, x_83_2, x_83_5, x_83_6, x_83_7, x_83_8, bk_v, bk_n, nl_I, nl_R, nl_L, nl_0, oo_lt, oo_le, oo_eq, oo_add, oo_sub, oo_tn, oo_ir, nn_leT, nn_leF, nn_ltT, nn_ltF, nn_eqT, nn_eqF, bv_0, bv_1, ko_b, ko_1, ko_0, true_and, and_true, if_true, if_false, not_true_eq_false, not_false_eq_true, oo_02, decide_eq_true_eq, decide_eq_false_iff_not, ite_not, Nat.reduceAdd, Nat.reduceLT, Nat.reduceSub, Nat.reduceLeDiff, reduceIte, Bool.true_eq_false, Bool.false_eq_true, reduceCtorEq, eq_self, decide_true, decide_false, bv_t, bv_f, and_self, t_si, t_sl, t_sr, t_sI, t_sR, n_si, n_sl, n_sr, n_sI, n_sR, r_si, r_sl, r_sI, hne]
def q_row (T : Tm) (X : Xm) (i : Nat) : Nat := rw_ (E_ T X 0 0 (f_mst T X)) (tm_n T) (f_mst T X) (bt_n (f_mst T X)) 0 i
theorem c_row (h : RC_ w G σ S) (hV : WS_ S) {d i : Nat} (hi : i < bt_n (f_mst (sm_T S) (bm_X (sm_B S)))) : CR_ G (d + 20) 82 [v_R (some 1000), v_I (Int32.ofNat i)] w (v_I (Int32.ofNat (q_row (sm_T S) (bm_X (sm_B S)) i))) := by
  have hn10 := hV.1.1
  obtain ⟨w1, f1, q1⟩ := c_mostOf h hV (d := d + 9)
  have hm1 := mst_lt (sm_T S) (bm_X (sm_B S))
  have hm : f_mst (sm_T S) (bm_X (sm_B S)) < 1024 := Nat.lt_of_lt_of_le hm1.1 (p2_le hn10)
  have hb10 := bt_10 hm
  have jb := fun d Q => j_bits (w := w1) (d := d) (Q := Q) hm
  have r1 := RC_n h hV f1
  obtain ⟨w2, f2, -, g3, q2⟩ := c_rows hV (d := d + 11 - bt_n (f_mst (sm_T S) (bm_X (sm_B S)))) hm1.1 (bt_n (f_mst (sm_T S) (bm_X (sm_B S)))) 0 w1 r1 (Nat.zero_and _) (Nat.zero_add _)
  have hpos : 0 < wk_ (E_ (sm_T S) (bm_X (sm_B S)) 0 0 (f_mst (sm_T S) (bm_X (sm_B S)))) (tm_n (sm_T S)) (f_mst (sm_T S) (bm_X (sm_B S))) (bt_n (f_mst (sm_T S) (bm_X (sm_B S)))) 0 := by
    rcases hm1.2 with z | z
    · rw [z] at hi
      exact absurd hi (Nat.not_lt_zero i)
    · exact z
  have g3 := g3 hpos i hi
  have b0 : bt_n 0 = 0 := rfl
  rw [b0, Nat.zero_add] at g3
  rw [show d + 11 - bt_n (f_mst (sm_T S) (bm_X (sm_B S))) + bt_n (f_mst (sm_T S) (bm_X (sm_B S))) + 8 = d + 19 by omega] at q2
  refine ⟨w2, fr_mo (fr_tr (fr_mo f1 (fun a k z => z.elim)) f2) (fun a k z => by unfold P36_ at z; unfold pc_; omega), fun Q => ?_⟩
  have t0 : w_t w 1000 = 20 := h.1.1
  have t1 : w_t w1 1000 = 20 := r1.1.1
  have r2 := RC_36 r1 hV f2
  have hh := r2.1
  unfold sh_C at hh
  have t2 : w_t w2 1000 = 20 := hh.1
  have r10 : w_r w2 1000 10 = some 1436 := by simp only [hh]
  have t36 : w_t w2 1436 = 1 := by simp only [hh]
  have n36 : w_n w2 1436 = 10 := by simp only [hh]
  clear hh
  unfold q_row
  simp (disch := first | omega | decide | exact ko_b _ | assumption | (simp only [t_si, t_sl, t_sr, t_sI, t_sR, n_si, n_sl, n_sr, n_sI, n_sR, r_si, r_sl, r_sI]; first | done | omega)) only [x_82_e, x_82_b, x_82_0, x_82_1, x_82_4, x_82_5, x_82_6, x_82_9, x_82_10, x_82_11, x_82_14, x_82_17, x_82_18, x_82_21, x_82_22, x_82_25, x_82_26, x_82_27, x_82_28, x_82_31, x_82_32, x_82_33, x_82_36, x_82_37, x_82_38, bk_v, bk_n, nl_I, nl_R, nl_L, nl_0, oo_lt, oo_le, oo_eq, oo_add, oo_sub, oo_tn, oo_ir, nn_leT, nn_leF, nn_ltT, nn_ltF, nn_eqT, nn_eqF, bv_0, bv_1, ko_b, ko_1, ko_0, true_and, and_true, if_true, if_false, not_true_eq_false, not_false_eq_true, oo_02, decide_eq_true_eq, decide_eq_false_iff_not, ite_not, Nat.reduceAdd, Nat.reduceLT, Nat.reduceSub, Nat.reduceLeDiff, reduceIte, Bool.true_eq_false, Bool.false_eq_true, reduceCtorEq, eq_self, decide_true, decide_false, bv_t, bv_f, and_self, t_si, t_sl, t_sr, t_sI, t_sR, n_si, n_sl, n_sr, n_sI, n_sR, r_si, r_sl, r_sI, q1, jb, c_th1, q2, r10, n36, g3]
def no_row (x : Int32) (n : Nat) : Prop := x < Int32.ofNat 0 ∨ ¬ x < Int32.ofNat n
theorem c_row_x (h : RC_ w G σ S) (hV : WS_ S) {d : Nat} {x : Int32} (hx : no_row x (bt_n (f_mst (sm_T S) (bm_X (sm_B S))))) : CX_ G (d + 20) 82 [v_R (some 1000), v_I x] w 40 := by
  have hn10 := hV.1.1
  obtain ⟨w1, f1, q1⟩ := c_mostOf h hV (d := d + 9)
  have hm1 := mst_lt (sm_T S) (bm_X (sm_B S))
  have hm : f_mst (sm_T S) (bm_X (sm_B S)) < 1024 := Nat.lt_of_lt_of_le hm1.1 (p2_le hn10)
  have hb10 := bt_10 hm
  have jb := fun d Q => j_bits (w := w1) (d := d) (Q := Q) hm
  have t0 : w_t w 1000 = 20 := h.1.1
  refine ⟨w1, fr_mo f1 (fun a k z => z.elim), fun Q => ?_⟩
  by_cases c1 : x < Int32.ofNat 0
  · simp (disch := first | omega | decide | exact ko_b _ | assumption | (simp only [t_si, t_sl, t_sr, t_sI, t_sR, n_si, n_sl, n_sr, n_sI, n_sR, r_si, r_sl, r_sI]; first | done | omega)) only [x_82_e, x_82_b, x_82_0, x_82_1, x_82_4, x_82_5, x_82_6, x_82_9, x_82_10, x_82_11, x_82_14, x_82_17, x_82_18, x_82_21, x_82_22, bk_v, bk_n, nl_I, nl_R, nl_L, nl_0, oo_lt, oo_le, oo_eq, oo_add, oo_sub, oo_tn, oo_ir, nn_leT, nn_leF, nn_ltT, nn_ltF, nn_eqT, nn_eqF, bv_0, bv_1, ko_b, ko_1, ko_0, true_and, and_true, if_true, if_false, not_true_eq_false, not_false_eq_true, oo_02, decide_eq_true_eq, decide_eq_false_iff_not, ite_not, Nat.reduceAdd, Nat.reduceLT, Nat.reduceSub, Nat.reduceLeDiff, reduceIte, Bool.true_eq_false, Bool.false_eq_true, reduceCtorEq, eq_self, decide_true, decide_false, bv_t, bv_f, and_self, t_si, t_sl, t_sr, t_sI, t_sR, n_si, n_sl, n_sr, n_sI, n_sR, r_si, r_sl, r_sI, q1, c1, c_th0]
  · have c2 := Int32.not_lt.mp (hx.resolve_left c1)
    simp (disch := first | omega | decide | exact ko_b _ | assumption | (simp only [t_si, t_sl, t_sr, t_sI, t_sR, n_si, n_sl, n_sr, n_sI, n_sR, r_si, r_sl, r_sI]; first | done | omega)) only [x_82_e, x_82_b, x_82_0, x_82_1, x_82_4, x_82_5, x_82_6, x_82_9, x_82_10, x_82_11, x_82_14, x_82_17, x_82_18, x_82_21, x_82_22, bk_v, bk_n, nl_I, nl_R, nl_L, nl_0, oo_lt, oo_le, oo_eq, oo_add, oo_sub, oo_tn, oo_ir, nn_leT, nn_leF, nn_ltT, nn_ltF, nn_eqT, nn_eqF, bv_0, bv_1, ko_b, ko_1, ko_0, true_and, and_true, if_true, if_false, not_true_eq_false, not_false_eq_true, oo_02, decide_eq_true_eq, decide_eq_false_iff_not, ite_not, Nat.reduceAdd, Nat.reduceLT, Nat.reduceSub, Nat.reduceLeDiff, reduceIte, Bool.true_eq_false, Bool.false_eq_true, reduceCtorEq, eq_self, decide_true, decide_false, bv_t, bv_f, and_self, t_si, t_sl, t_sr, t_sI, t_sR, n_si, n_sl, n_sr, n_sI, n_sR, r_si, r_sl, r_sI, q1, c1, c2, jb, c_th0]
end
