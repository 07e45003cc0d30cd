/-! WHAT FITS: which, look; both halves -/
set_option maxRecDepth 100000
def p_fit (T : Tm) (X : Xm) (B : Bm) (l j : Nat) : Bool := !decide (wv_ j = xm_l X (xm_t X l)) && f_seen T (x_lea X (xm_t X l) (wv_ j)) B
def ft1_ (p : Nat → Nat → Bool) (l j : Nat) (s : List Nat) : List Nat := if p l j = true then s ++ [19 * l + j] else s
def f_fits (T : Tm) (X : Xm) (B : Bm) : List Nat := it_ (fun l s => it_ (ft1_ (p_fit T X B) l) 0 19 s) 0 (xm_L X) []
theorem fits_flat (T : Tm) (X : Xm) (B : Bm) : f_fits T X B = it_ (fun k s => if p_fit T X B (k / 19) (k % 19) = true then s ++ [k] else s) 0 (19 * xm_L X) [] := by
  unfold f_fits
  rw [← it_nest (ft1_ (p_fit T X B)) (m := 19) (by decide) (xm_L X)]
  refine it_c (fun k s _ _ => ?_)
  unfold ft1_
  rw [Nat.div_add_mod]
def h_one (X : Xm) (s : List Nat) : Int32 := r_oneO X s.head?
def q_which (T : Tm) (X : Xm) (B : Bm) (x : Int32) : Int32 := if x = Int32.ofNat 2 then b_v (f_seen T X B) else if x = Int32.ofNat 0 then Int32.ofNat (f_fits T X B).length else h_one X (f_fits T X B)
def ft_ok (L : Nat) (s : List Nat) : Prop := ∀ k, k ∈ s → k < 19 * L
theorem ft_ok1 {L k : Nat} {s : List Nat} (h : ft_ok L s) (hk : k < 19 * L) : ft_ok L (s ++ [k]) := by
  intro x hx
  rcases List.mem_append.mp hx with h1 | h1
  · exact h x h1
  · rw [List.mem_singleton.mp h1]; exact hk
theorem wv_a (a j : Nat) : Int32.ofNat (a + j) - Int32.ofNat 9 = Int32.ofNat a + wv_ j := by
  unfold wv_
  rw [← oo_add, Int32.sub_eq_add_neg, Int32.sub_eq_add_neg, Int32.add_assoc]
theorem r_one_ne {X : Xm} {n k : Nat} (hX : WX_ n X) (hn : n ≤ 10) (hk : k < 19 * xm_L X) : (r_one X k = Int32.ofInt (-1)) = False := by
  have ht := hX.2.1 (k / 19) (by omega)
  unfold r_one
  exact r_ne (by omega) (Nat.mod_lt _ (by decide))
section
variable {w : Wd} {S : Sm} {G : Gm} {σ : Nat → Nat}
theorem c_gs2 (h : RC_ w G σ S) (hV : WS_ S) (hS2 : CS_ w 1429 (tm_n (sm_T S)) (bm_X (sm_B S))) {d t : Nat} {k v : Int32} {Q : Q_} (ht : t < tm_n (sm_T S)) : wp (d + 12) 60 47 [some (v_R (some 1000)), some (v_I k), some (v_I (Int32.ofNat t)), some (v_I v)] [] w Q = Q (Sum.inl (some (v_I (b_v (f_seen (sm_T S) (x_lea (bm_X (sm_B S)) t v) (sm_B S)))))) (s_i w 1433 t v) := by
  have f1 : Fr_ tz_ w (s_i w 1433 t v) := fr_si (fr_rf _ _) (by unfold tz_; omega)
  have hs := fun Q => c_seen (RC_tz h hV f1) hV (CS_lea (t := t) (v := v) hS2) (WX_lea hV.2.2.2.1.1) (d := d + 5) (Q := Q)
  have hq := RC_CQ h hV
  have hC := h.1
  unfold sh_C at hC
  have hr0 : w_r _ 1000 0 = some (gm_b G) := h.2.2.1
  have hT := h.2.2.2.1
  unfold CT_ at hT
  have hA : SO_ _ 1008 := h.2.1.2.1.1
  unfold SO_ at hA
  have hA2 : SO_ _ 1429 := h.2.1.2.2.2.2
  unfold SO_ at hA2
  have hS : CS_ _ 1008 (tm_n (sm_T S)) (bm_X (sm_B S)) := h.2.2.2.2.2.2.2.1.1
  unfold CS_ at hS
  have hK : sh_B _ 1007 := h.2.1.1
  unfold sh_B at hK
  have hB := h.2.2.2.2.2.2.2.1.2
  have hR := h.2.2.2.2.2.2.2.2.2
  simp only [Nat.reduceAdd] at hA hA2 hS hK hB
  obtain ⟨hn, hk4⟩ := hV.1
  obtain ⟨hW1, hW2, hW3⟩ := hV.2.2.2.1.1
  simp (disch := first | omega | decide | exact ko_b _ | assumption | (simp only [t_si, t_sl, t_sr, t_sI, t_sR, n_si, n_sl, n_sr, n_sI, n_sR, r_si, r_sl, r_sI]; first | done | omega)) only [x_60_e, x_60_b, x_60_47, x_60_48, x_60_51, x_60_54, x_60_55, x_60_56, x_60_57, x_60_58, x_60_61, bk_v, bk_n, nl_I, nl_R, nl_L, nl_0, oo_lt, oo_le, oo_eq, oo_add, oo_sub, oo_tn, oo_ir, nn_leT, nn_leF, nn_ltT, nn_ltF, nn_eqT, nn_eqF, bv_0, bv_1, ko_b, ko_1, ko_0, true_and, and_true, if_true, if_false, not_true_eq_false, not_false_eq_true, oo_02, decide_eq_true_eq, decide_eq_false_iff_not, ite_not, Nat.reduceAdd, Nat.reduceLT, Nat.reduceSub, Nat.reduceLeDiff, reduceIte, Bool.true_eq_false, Bool.false_eq_true, reduceCtorEq, eq_self, decide_true, decide_false, bv_t, bv_f, and_self, t_si, t_sl, t_sr, t_sI, t_sR, n_si, n_sl, n_sr, n_sI, n_sR, r_si, r_sl, r_sI, hC, hA2, hs]
theorem c_gs (h : RC_ w G σ S) (hV : WS_ S) {d k : Nat} (hk : k < 19 * xm_L (bm_X (sm_B S))) : ∃ w1, Fr_ tz_ w w1 ∧ (p_fit (sm_T S) (bm_X (sm_B S)) (sm_B S) (k / 19) (k % 19) = true → CS_ w1 1429 (tm_n (sm_T S)) (x_lea (bm_X (sm_B S)) (xm_t (bm_X (sm_B S)) (k / 19)) (wv_ (k % 19)))) ∧ ∀ Q, cl (d + 12) 60 [v_R (some 1000), v_I (Int32.ofNat k)] w Q = Q (Sum.inl (some (v_I (b_v (p_fit (sm_T S) (bm_X (sm_B S)) (sm_B S) (k / 19) (k % 19)))))) w1 := by
  have hX9 := hV.2.2.2.1.1
  have hk19 : k / 19 < xm_L (bm_X (sm_B S)) := by omega
  have ht := hX9.2.1 _ hk19
  by_cases c1 : wv_ (k % 19) = xm_l (bm_X (sm_B S)) (xm_t (bm_X (sm_B S)) (k / 19))
  · have e : p_fit (sm_T S) (bm_X (sm_B S)) (sm_B S) (k / 19) (k % 19) = false := by
      unfold p_fit
      rw [decide_eq_true c1]; rfl
    rw [e]
    refine ⟨w, fr_rf _ _, fun z => (by cases z), fun Q => ?_⟩
    have hq := RC_CQ h hV
    have hC := h.1
    unfold sh_C at hC
    have hr0 : w_r _ 1000 0 = some (gm_b G) := h.2.2.1
    have hT := h.2.2.2.1
    unfold CT_ at hT
    have hA : SO_ _ 1008 := h.2.1.2.1.1
    unfold SO_ at hA
    have hA2 : SO_ _ 1429 := h.2.1.2.2.2.2
    unfold SO_ at hA2
    have hS : CS_ _ 1008 (tm_n (sm_T S)) (bm_X (sm_B S)) := h.2.2.2.2.2.2.2.1.1
    unfold CS_ at hS
    have hK : sh_B _ 1007 := h.2.1.1
    unfold sh_B at hK
    have hB := h.2.2.2.2.2.2.2.1.2
    have hR := h.2.2.2.2.2.2.2.2.2
    simp only [Nat.reduceAdd] at hA hA2 hS hK hB
    obtain ⟨hn, hk4⟩ := hV.1
    obtain ⟨hW1, hW2, hW3⟩ := hV.2.2.2.1.1
    simp (disch := first | omega | decide | exact ko_b _ | assumption | (simp only [t_si, t_sl, t_sr, t_sI, t_sR, n_si, n_sl, n_sr, n_sI, n_sR, r_si, r_sl, r_sI]; first | done | omega)) only [x_60_e, x_60_b, x_60_0, x_60_1, x_60_4, x_60_7, x_60_8, x_60_10, x_60_11, x_60_12, x_60_13, x_60_14, x_60_16, x_60_17, x_60_19, x_60_20, x_60_21, x_60_22, x_60_23, x_60_26, x_60_29, x_60_30, x_60_31, x_60_34, x_60_35, x_60_36, x_60_37, x_60_40, x_60_41, x_60_44, bk_v, bk_n, nl_I, nl_R, nl_L, nl_0, oo_lt, oo_le, oo_eq, oo_add, oo_sub, oo_tn, oo_ir, nn_leT, nn_leF, nn_ltT, nn_ltF, nn_eqT, nn_eqF, bv_0, bv_1, ko_b, ko_1, ko_0, true_and, and_true, if_true, if_false, not_true_eq_false, not_false_eq_true, oo_02, decide_eq_true_eq, decide_eq_false_iff_not, ite_not, Nat.reduceAdd, Nat.reduceLT, Nat.reduceSub, Nat.reduceLeDiff, reduceIte, Bool.true_eq_false, Bool.false_eq_true, reduceCtorEq, eq_self, decide_true, decide_false, bv_t, bv_f, and_self, t_si, t_sl, t_sr, t_sI, t_sR, n_si, n_sl, n_sr, n_sI, n_sR, r_si, r_sl, r_sI, hC, hr0, hT, hA, hS, hK, hB, hR, oo_div, oo_rem, oo_rem2, nmd_r, wv_f, c1]
  · obtain ⟨w1, f1, r1, s1, q1⟩ := c_tr h hV (d := d + 11)
    have e : p_fit (sm_T S) (bm_X (sm_B S)) (sm_B S) (k / 19) (k % 19) = f_seen (sm_T S) (x_lea (bm_X (sm_B S)) (xm_t (bm_X (sm_B S)) (k / 19)) (wv_ (k % 19))) (sm_B S) := by
      unfold p_fit
      rw [decide_eq_false c1]; rfl
    rw [e]
    refine ⟨s_i w1 1433 (xm_t (bm_X (sm_B S)) (k / 19)) (wv_ (k % 19)), fr_si f1 (by unfold tz_; omega), fun _ => CS_lea s1, fun Q => ?_⟩
    refine Eq.trans ?_ (c_gs2 (d := d) (k := Int32.ofNat k) r1 hV s1 ht)
    have hq := RC_CQ h hV
    have hC := h.1
    unfold sh_C at hC
    have hr0 : w_r _ 1000 0 = some (gm_b G) := h.2.2.1
    have hT := h.2.2.2.1
    unfold CT_ at hT
    have hA : SO_ _ 1008 := h.2.1.2.1.1
    unfold SO_ at hA
    have hA2 : SO_ _ 1429 := h.2.1.2.2.2.2
    unfold SO_ at hA2
    have hS : CS_ _ 1008 (tm_n (sm_T S)) (bm_X (sm_B S)) := h.2.2.2.2.2.2.2.1.1
    unfold CS_ at hS
    have hK : sh_B _ 1007 := h.2.1.1
    unfold sh_B at hK
    have hB := h.2.2.2.2.2.2.2.1.2
    have hR := h.2.2.2.2.2.2.2.2.2
    simp only [Nat.reduceAdd] at hA hA2 hS hK hB
    obtain ⟨hn, hk4⟩ := hV.1
    obtain ⟨hW1, hW2, hW3⟩ := hV.2.2.2.1.1
    simp (disch := first | omega | decide | exact ko_b _ | assumption | (simp only [t_si, t_sl, t_sr, t_sI, t_sR, n_si, n_sl, n_sr, n_sI, n_sR, r_si, r_sl, r_sI]; first | done | omega)) only [x_60_e, x_60_b, x_60_0, x_60_1, x_60_4, x_60_7, x_60_8, x_60_10, x_60_11, x_60_12, x_60_13, x_60_14, x_60_16, x_60_17, x_60_19, x_60_20, x_60_21, x_60_22, x_60_23, x_60_26, x_60_29, x_60_30, x_60_31, x_60_34, x_60_35, x_60_36, x_60_37, x_60_40, x_60_41, x_60_44, bk_v, bk_n, nl_I, nl_R, nl_L, nl_0, oo_lt, oo_le, oo_eq, oo_add, oo_sub, oo_tn, oo_ir, nn_leT, nn_leF, nn_ltT, nn_ltF, nn_eqT, nn_eqF, bv_0, bv_1, ko_b, ko_1, ko_0, true_and, and_true, if_true, if_false, not_true_eq_false, not_false_eq_true, oo_02, decide_eq_true_eq, decide_eq_false_iff_not, ite_not, Nat.reduceAdd, Nat.reduceLT, Nat.reduceSub, Nat.reduceLeDiff, reduceIte, Bool.true_eq_false, Bool.false_eq_true, reduceCtorEq, eq_self, decide_true, decide_false, bv_t, bv_f, and_self, t_si, t_sl, t_sr, t_sI, t_sR, n_si, n_sl, n_sr, n_sI, n_sR, r_si, r_sl, r_sI, hC, hr0, hT, hA, hS, hK, hB, hR, oo_div, oo_rem, oo_rem2, nmd_r, wv_f, c1, q1]
theorem c_wh2 (h : RC_ w G σ S) (hV : WS_ S) {d : Nat} : CR_ G (d + 13) 91 [v_R (some 1000), v_I (Int32.ofNat 2)] w (v_I (b_v (f_seen (sm_T S) (bm_X (sm_B S)) (sm_B S)))) := by
  obtain ⟨w1, f1, r1, s1, q1⟩ := c_tr h hV (d := d + 12)
  refine ⟨w1, fr_mo f1 (fun a k z => tz_pc z), fun Q => ?_⟩
  have hs := fun Q => c_seen r1 hV s1 hV.2.2.2.1.1 (d := d + 6) (Q := Q)
  have t1 : w_t w1 1000 = 20 := r1.1.1
  have hq := RC_CQ h hV
  have hC := h.1
  unfold sh_C at hC
  have hr0 : w_r _ 1000 0 = some (gm_b G) := h.2.2.1
  have hT := h.2.2.2.1
  unfold CT_ at hT
  have hA : SO_ _ 1008 := h.2.1.2.1.1
  unfold SO_ at hA
  have hA2 : SO_ _ 1429 := h.2.1.2.2.2.2
  unfold SO_ at hA2
  have hS : CS_ _ 1008 (tm_n (sm_T S)) (bm_X (sm_B S)) := h.2.2.2.2.2.2.2.1.1
  unfold CS_ at hS
  have hK : sh_B _ 1007 := h.2.1.1
  unfold sh_B at hK
  have hB := h.2.2.2.2.2.2.2.1.2
  have hR := h.2.2.2.2.2.2.2.2.2
  simp only [Nat.reduceAdd] at hA hA2 hS hK hB
  obtain ⟨hn, hk4⟩ := hV.1
  obtain ⟨hW1, hW2, hW3⟩ := hV.2.2.2.1.1
  cases e : f_seen (sm_T S) (bm_X (sm_B S)) (sm_B S) with
  | false =>
    rw [e] at hs
    simp (disch := first | omega | decide | exact ko_b _ | assumption | (simp only [t_si, t_sl, t_sr, t_sI, t_sR, n_si, n_sl, n_sr, n_sI, n_sR, r_si, r_sl, r_sI]; first | done | omega)) only [x_91_e, x_91_b, x_91_0, x_91_1, x_91_2, x_91_3, x_91_6, x_91_9, x_91_10, x_91_11, x_91_14, x_91_15, x_91_18, x_91_19, x_91_22, x_91_25, x_91_26, x_91_29, x_91_32, x_91_33, x_91_36, x_91_37, x_91_38, x_91_39, x_91_40, bk_v, bk_n, nl_I, nl_R, nl_L, nl_0, oo_lt, oo_le, oo_eq, oo_add, oo_sub, oo_tn, oo_ir, nn_leT, nn_leF, nn_ltT, nn_ltF, nn_eqT, nn_eqF, bv_0, bv_1, ko_b, ko_1, ko_0, true_and, and_true, if_true, if_false, not_true_eq_false, not_false_eq_true, oo_02, decide_eq_true_eq, decide_eq_false_iff_not, ite_not, Nat.reduceAdd, Nat.reduceLT, Nat.reduceSub, Nat.reduceLeDiff, reduceIte, Bool.true_eq_false, Bool.false_eq_true, reduceCtorEq, eq_self, decide_true, decide_false, bv_t, bv_f, and_self, t_si, t_sl, t_sr, t_sI, t_sR, n_si, n_sl, n_sr, n_sI, n_sR, r_si, r_sl, r_sI, hC, hr0, hT, hA, hS, hK, hB, hR, c_in, c_th1, q1, hs]
  | true =>
    rw [e] at hs
    simp (disch := first | omega | decide | exact ko_b _ | assumption | (simp only [t_si, t_sl, t_sr, t_sI, t_sR, n_si, n_sl, n_sr, n_sI, n_sR, r_si, r_sl, r_sI]; first | done | omega)) only [x_91_e, x_91_b, x_91_0, x_91_1, x_91_2, x_91_3, x_91_6, x_91_9, x_91_10, x_91_11, x_91_14, x_91_15, x_91_18, x_91_19, x_91_22, x_91_25, x_91_26, x_91_29, x_91_32, x_91_33, x_91_36, x_91_37, x_91_38, x_91_39, x_91_40, bk_v, bk_n, nl_I, nl_R, nl_L, nl_0, oo_lt, oo_le, oo_eq, oo_add, oo_sub, oo_tn, oo_ir, nn_leT, nn_leF, nn_ltT, nn_ltF, nn_eqT, nn_eqF, bv_0, bv_1, ko_b, ko_1, ko_0, true_and, and_true, if_true, if_false, not_true_eq_false, not_false_eq_true, oo_02, decide_eq_true_eq, decide_eq_false_iff_not, ite_not, Nat.reduceAdd, Nat.reduceLT, Nat.reduceSub, Nat.reduceLeDiff, reduceIte, Bool.true_eq_false, Bool.false_eq_true, reduceCtorEq, eq_self, decide_true, decide_false, bv_t, bv_f, and_self, t_si, t_sl, t_sr, t_sI, t_sR, n_si, n_sl, n_sr, n_sI, n_sR, r_si, r_sl, r_sI, hC, hr0, hT, hA, hS, hK, hB, hR, c_in, c_th1, q1, hs]
theorem c_wh (h : RC_ w G σ S) (hV : WS_ S) {d : Nat} {x : Int32} (hx : Int32.ofNat 0 ≤ x ∧ x ≤ Int32.ofNat 2) : CR_ G (d + 13) 91 [v_R (some 1000), v_I x] w (v_I (q_which (sm_T S) (bm_X (sm_B S)) (sm_B S) x)) := by
  have hX9 := hV.2.2.2.1.1
  have hn10 := hV.1.1
  unfold q_which
  by_cases h2 : x = Int32.ofNat 2
  · subst h2
    rw [if_pos rfl]
    exact c_wh2 h hV
  · rw [if_neg h2, fits_flat]
    obtain ⟨w1, hC, q1⟩ := lp_ig (fun k (s : List Nat) (t : Wd) Q => wp (d + 13) 91 45 [some (v_R (some 1000)), some (v_I x), some (v_I (Int32.ofNat s.length)), some (v_I (h_one (bm_X (sm_B S)) s)), some (v_I (Int32.ofNat k))] [] t Q) (fun k s t => Fr_ tz_ w t ∧ ft_ok (xm_L (bm_X (sm_B S))) s) (fun k s => if p_fit (sm_T S) (bm_X (sm_B S)) (sm_B S) (k / 19) (k % 19) = true then s ++ [k] else s) (19 * xm_L (bm_X (sm_B S))) 0 [] w (fun k s t _ hk hD => by
      have h := RC_tz h hV hD.1
      have hk : k < 19 * xm_L (bm_X (sm_B S)) := by omega
      have hk19 : k / 19 < xm_L (bm_X (sm_B S)) := by omega
      obtain ⟨w1, f1, -, q1⟩ := c_gs h hV (d := d) hk
      have r1 := RC_tz h hV f1
      have hg := fun d Q => c_ges h hV (d := d) (Q := Q)
      refine ⟨w1, ⟨fr_tr hD.1 f1, ?_⟩, fun Q => ?_⟩
      · split
        · exact ft_ok1 hD.2 hk
        · exact hD.2
      · have t0 : w_t t 1000 = 20 := h.1.1
        show wp (d + 13) 91 45 [some (v_R (some 1000)), some (v_I x), some (v_I (Int32.ofNat s.length)), some (v_I (h_one (bm_X (sm_B S)) s)), some (v_I (Int32.ofNat k))] [] t Q = _
        rw [x_91_45]
        simp (disch := first | omega | decide | exact ko_b _ | assumption | (simp only [t_si, t_sl, t_sr, t_sI, t_sR, n_si, n_sl, n_sr, n_sI, n_sR, r_si, r_sl, r_sI]; first | done | omega)) only [x_91_e, x_91_b, x_91_47, x_91_48, x_91_51, x_91_54, x_91_55, x_91_57, x_91_60, bk_v, bk_n, nl_I, nl_R, nl_L, nl_0, oo_lt, oo_le, oo_eq, oo_add, oo_sub, oo_tn, oo_ir, nn_leT, nn_leF, nn_ltT, nn_ltF, nn_eqT, nn_eqF, bv_0, bv_1, ko_b, ko_1, ko_0, true_and, and_true, if_true, if_false, not_true_eq_false, not_false_eq_true, oo_02, decide_eq_true_eq, decide_eq_false_iff_not, ite_not, Nat.reduceAdd, Nat.reduceLT, Nat.reduceSub, Nat.reduceLeDiff, reduceIte, Bool.true_eq_false, Bool.false_eq_true, reduceCtorEq, eq_self, decide_true, decide_false, bv_t, bv_f, and_self, t_si, t_sl, t_sr, t_sI, t_sR, n_si, n_sl, n_sr, n_sI, n_sR, r_si, r_sl, r_sI, hg, q1]
        have h := r1
        have hq := RC_CQ h hV
        have hC := h.1
        unfold sh_C at hC
        have hr0 : w_r _ 1000 0 = some (gm_b G) := h.2.2.1
        have hT := h.2.2.2.1
        unfold CT_ at hT
        have hA : SO_ _ 1008 := h.2.1.2.1.1
        unfold SO_ at hA
        have hA2 : SO_ _ 1429 := h.2.1.2.2.2.2
        unfold SO_ at hA2
        have hS : CS_ _ 1008 (tm_n (sm_T S)) (bm_X (sm_B S)) := h.2.2.2.2.2.2.2.1.1
        unfold CS_ at hS
        have hK : sh_B _ 1007 := h.2.1.1
        unfold sh_B at hK
        have hB := h.2.2.2.2.2.2.2.1.2
        have hR := h.2.2.2.2.2.2.2.2.2
        simp only [Nat.reduceAdd] at hA hA2 hS hK hB
        obtain ⟨hn, hk4⟩ := hV.1
        obtain ⟨hW1, hW2, hW3⟩ := hV.2.2.2.1.1
        cases e : p_fit (sm_T S) (bm_X (sm_B S)) (sm_B S) (k / 19) (k % 19) with
        | false => simp (disch := first | omega | decide | exact ko_b _ | assumption | (simp only [t_si, t_sl, t_sr, t_sI, t_sR, n_si, n_sl, n_sr, n_sI, n_sR, r_si, r_sl, r_sI]; first | done | omega)) only [x_91_e, x_91_b, x_91_60, x_91_63, x_91_66, x_91_69, x_91_70, x_91_71, x_91_74, x_91_76, x_91_77, x_91_80, x_91_83, x_91_85, x_91_87, x_91_88, x_91_89, x_91_90, x_91_92, x_91_94, x_91_95, x_91_96, x_91_98, x_91_99, x_91_101, x_91_102, x_91_103, x_91_106, bk_v, bk_n, nl_I, nl_R, nl_L, nl_0, oo_lt, oo_le, oo_eq, oo_add, oo_sub, oo_tn, oo_ir, nn_leT, nn_leF, nn_ltT, nn_ltF, nn_eqT, nn_eqF, bv_0, bv_1, ko_b, ko_1, ko_0, true_and, and_true, if_true, if_false, not_true_eq_false, not_false_eq_true, oo_02, decide_eq_true_eq, decide_eq_false_iff_not, ite_not, Nat.reduceAdd, Nat.reduceLT, Nat.reduceSub, Nat.reduceLeDiff, reduceIte, Bool.true_eq_false, Bool.false_eq_true, reduceCtorEq, eq_self, decide_true, decide_false, bv_t, bv_f, and_self, t_si, t_sl, t_sr, t_sI, t_sR, n_si, n_sl, n_sr, n_sI, n_sR, r_si, r_sl, r_sI]
        | true =>
          cases s with
          | nil => simp (disch := first | omega | decide | exact ko_b _ | assumption | (simp only [t_si, t_sl, t_sr, t_sI, t_sR, n_si, n_sl, n_sr, n_sI, n_sR, r_si, r_sl, r_sI]; first | done | omega)) only [x_91_e, x_91_b, x_91_60, x_91_63, x_91_66, x_91_69, x_91_70, x_91_71, x_91_74, x_91_76, x_91_77, x_91_80, x_91_83, x_91_85, x_91_87, x_91_88, x_91_89, x_91_90, x_91_92, x_91_94, x_91_95, x_91_96, x_91_98, x_91_99, x_91_101, x_91_102, x_91_103, x_91_106, bk_v, bk_n, nl_I, nl_R, nl_L, nl_0, oo_lt, oo_le, oo_eq, oo_add, oo_sub, oo_tn, oo_ir, nn_leT, nn_leF, nn_ltT, nn_ltF, nn_eqT, nn_eqF, bv_0, bv_1, ko_b, ko_1, ko_0, true_and, and_true, if_true, if_false, not_true_eq_false, not_false_eq_true, oo_02, decide_eq_true_eq, decide_eq_false_iff_not, ite_not, Nat.reduceAdd, Nat.reduceLT, Nat.reduceSub, Nat.reduceLeDiff, reduceIte, Bool.true_eq_false, Bool.false_eq_true, reduceCtorEq, eq_self, decide_true, decide_false, bv_t, bv_f, and_self, t_si, t_sl, t_sr, t_sI, t_sR, n_si, n_sl, n_sr, n_sI, n_sR, r_si, r_sl, r_sI, hC, hr0, hT, hA, hS, hK, hB, hR, h_one, List.head?_nil, r_oneN, oo_div, oo_rem, oo_rem2, nmd_r, oo_mul, wv_a, List.nil_append, List.length_nil, List.length_cons, List.head?_cons, r_oneS, r_one]
          | cons y s =>
            have hy := r_one_ne (X := bm_X (sm_B S)) hX9 hn10 (hD.2 y List.mem_cons_self)
            simp (disch := first | omega | decide | exact ko_b _ | assumption | (simp only [t_si, t_sl, t_sr, t_sI, t_sR, n_si, n_sl, n_sr, n_sI, n_sR, r_si, r_sl, r_sI]; first | done | omega)) only [x_91_e, x_91_b, x_91_60, x_91_63, x_91_66, x_91_69, x_91_70, x_91_71, x_91_74, x_91_76, x_91_77, x_91_80, x_91_83, x_91_85, x_91_87, x_91_88, x_91_89, x_91_90, x_91_92, x_91_94, x_91_95, x_91_96, x_91_98, x_91_99, x_91_101, x_91_102, x_91_103, x_91_106, bk_v, bk_n, nl_I, nl_R, nl_L, nl_0, oo_lt, oo_le, oo_eq, oo_add, oo_sub, oo_tn, oo_ir, nn_leT, nn_leF, nn_ltT, nn_ltF, nn_eqT, nn_eqF, bv_0, bv_1, ko_b, ko_1, ko_0, true_and, and_true, if_true, if_false, not_true_eq_false, not_false_eq_true, oo_02, decide_eq_true_eq, decide_eq_false_iff_not, ite_not, Nat.reduceAdd, Nat.reduceLT, Nat.reduceSub, Nat.reduceLeDiff, reduceIte, Bool.true_eq_false, Bool.false_eq_true, reduceCtorEq, eq_self, decide_true, decide_false, bv_t, bv_f, and_self, t_si, t_sl, t_sr, t_sI, t_sR, n_si, n_sl, n_sr, n_sI, n_sR, r_si, r_sl, r_sI, h_one, List.head?_cons, List.cons_append, List.length_cons, List.length_append, List.length_nil, r_oneS, hy]) ⟨fr_rf _ _, fun k hk => by cases hk⟩
    refine ⟨w1, fr_mo hC.1 (fun a k z => tz_pc z), fun Q => ?_⟩
    have h1 := RC_tz h hV hC.1
    have hg := fun d Q => c_ges h1 hV (d := d) (Q := Q)
    have t0 : w_t w1 1000 = 20 := h1.1.1
    generalize it_ (fun k s => if p_fit (sm_T S) (bm_X (sm_B S)) (sm_B S) (k / 19) (k % 19) = true then s ++ [k] else s) 0 (19 * xm_L (bm_X (sm_B S))) [] = fl at *
    have hL9 := hX9.1
    have fin : wp (d + 13) 91 45 [some (v_R (some 1000)), some (v_I x), some (v_I (Int32.ofNat fl.length)), some (v_I (h_one (bm_X (sm_B S)) fl)), some (v_I (Int32.ofNat (0 + 19 * xm_L (bm_X (sm_B S)))))] [] w1 Q = Q (Sum.inl (some (v_I (if x = Int32.ofNat 0 then Int32.ofNat fl.length else h_one (bm_X (sm_B S)) fl)))) w1 := by
      rw [x_91_45]
      by_cases hz : x = Int32.ofNat 0
      · simp (disch := first | omega | decide | exact ko_b _ | assumption | (simp only [t_si, t_sl, t_sr, t_sI, t_sR, n_si, n_sl, n_sr, n_sI, n_sR, r_si, r_sl, r_sI]; first | done | omega)) only [x_91_e, x_91_b, x_91_47, x_91_48, x_91_51, x_91_54, x_91_e, x_91_b, x_91_109, x_91_110, x_91_113, x_91_114, x_91_117, x_91_118, bk_v, bk_n, nl_I, nl_R, nl_L, nl_0, oo_lt, oo_le, oo_eq, oo_add, oo_sub, oo_tn, oo_ir, nn_leT, nn_leF, nn_ltT, nn_ltF, nn_eqT, nn_eqF, bv_0, bv_1, ko_b, ko_1, ko_0, true_and, and_true, if_true, if_false, not_true_eq_false, not_false_eq_true, oo_02, decide_eq_true_eq, decide_eq_false_iff_not, ite_not, Nat.reduceAdd, Nat.reduceLT, Nat.reduceSub, Nat.reduceLeDiff, reduceIte, Bool.true_eq_false, Bool.false_eq_true, reduceCtorEq, eq_self, decide_true, decide_false, bv_t, bv_f, and_self, t_si, t_sl, t_sr, t_sI, t_sR, n_si, n_sl, n_sr, n_sI, n_sR, r_si, r_sl, r_sI, hg, hz]
      · simp (disch := first | omega | decide | exact ko_b _ | assumption | (simp only [t_si, t_sl, t_sr, t_sI, t_sR, n_si, n_sl, n_sr, n_sI, n_sR, r_si, r_sl, r_sI]; first | done | omega)) only [x_91_e, x_91_b, x_91_47, x_91_48, x_91_51, x_91_54, x_91_e, x_91_b, x_91_109, x_91_110, x_91_113, x_91_114, x_91_117, x_91_118, bk_v, bk_n, nl_I, nl_R, nl_L, nl_0, oo_lt, oo_le, oo_eq, oo_add, oo_sub, oo_tn, oo_ir, nn_leT, nn_leF, nn_ltT, nn_ltF, nn_eqT, nn_eqF, bv_0, bv_1, ko_b, ko_1, ko_0, true_and, and_true, if_true, if_false, not_true_eq_false, not_false_eq_true, oo_02, decide_eq_true_eq, decide_eq_false_iff_not, ite_not, Nat.reduceAdd, Nat.reduceLT, Nat.reduceSub, Nat.reduceLeDiff, reduceIte, Bool.true_eq_false, Bool.false_eq_true, reduceCtorEq, eq_self, decide_true, decide_false, bv_t, bv_f, and_self, t_si, t_sl, t_sr, t_sI, t_sR, n_si, n_sl, n_sr, n_sI, n_sR, r_si, r_sl, r_sI, hg, hz]
    refine Eq.trans ?_ ((q1 Q).trans fin)
    simp (disch := first | omega | decide | exact ko_b _ | assumption | (simp only [t_si, t_sl, t_sr, t_sI, t_sR, n_si, n_sl, n_sr, n_sI, n_sR, r_si, r_sl, r_sI]; first | done | omega)) only [x_91_e, x_91_b, x_91_0, x_91_1, x_91_2, x_91_3, x_91_6, x_91_9, x_91_10, x_91_11, x_91_e, x_91_b, x_91_38, x_91_39, x_91_40, x_91_41, x_91_42, x_91_43, bk_v, bk_n, nl_I, nl_R, nl_L, nl_0, oo_lt, oo_le, oo_eq, oo_add, oo_sub, oo_tn, oo_ir, nn_leT, nn_leF, nn_ltT, nn_ltF, nn_eqT, nn_eqF, bv_0, bv_1, ko_b, ko_1, ko_0, true_and, and_true, if_true, if_false, not_true_eq_false, not_false_eq_true, oo_02, decide_eq_true_eq, decide_eq_false_iff_not, ite_not, Nat.reduceAdd, Nat.reduceLT, Nat.reduceSub, Nat.reduceLeDiff, reduceIte, Bool.true_eq_false, Bool.false_eq_true, reduceCtorEq, eq_self, decide_true, decide_false, bv_t, bv_f, and_self, t_si, t_sl, t_sr, t_sI, t_sR, n_si, n_sl, n_sr, n_sI, n_sR, r_si, r_sl, r_sI, c_in, hx, c_th1, h2, h_one, List.head?_nil, r_oneN, List.length_nil]
theorem c_wh_x (h : RC_ w G σ S) (hV : WS_ S) {d : Nat} {x : Int32} (hx : ¬ (Int32.ofNat 0 ≤ x ∧ x ≤ Int32.ofNat 2)) : CX_ G (d + 13) 91 [v_R (some 1000), v_I x] w 40 := cx_0 fun Q => by
  simp (disch := first | omega | decide | exact ko_b _ | assumption | (simp only [t_si, t_sl, t_sr, t_sI, t_sR, n_si, n_sl, n_sr, n_sI, n_sR, r_si, r_sl, r_sI]; first | done | omega)) only [x_91_e, x_91_b, x_91_0, x_91_1, x_91_2, x_91_3, x_91_6, x_91_9, bk_v, bk_n, nl_I, nl_R, nl_L, nl_0, oo_lt, oo_le, oo_eq, oo_add, oo_sub, oo_tn, oo_ir, nn_leT, nn_leF, nn_ltT, nn_ltF, nn_eqT, nn_eqF, bv_0, bv_1, ko_b, ko_1, ko_0, true_and, and_true, if_true, if_false, not_true_eq_false, not_false_eq_true, oo_02, decide_eq_true_eq, decide_eq_false_iff_not, ite_not, Nat.reduceAdd, Nat.reduceLT, Nat.reduceSub, Nat.reduceLeDiff, reduceIte, Bool.true_eq_false, Bool.false_eq_true, reduceCtorEq, eq_self, decide_true, decide_false, bv_t, bv_f, and_self, t_si, t_sl, t_sr, t_sI, t_sR, n_si, n_sl, n_sr, n_sI, n_sR, r_si, r_sl, r_sI, c_in, hx, c_th0]
/-! the model -/
/-- a state under the model's scratch and its own cells -/
theorem MQ_Y {T : Tm} {X X1 : Xm} {w1 : Wd} (h : MQ_ w T X) (hf : Fr_ (fun a k => pm_ a k ∨ p_st a k) w w1) (hS : MS_ w1 (tm_n T) X1) (hX : WX_ (tm_n T) X1) : MQ_ w1 T X1 := by
  obtain ⟨h1, h2, -, h4, -⟩ := h
  have f6 : ∀ a k, (a ≠ 1440 ∨ (k ≠ 3 ∧ k ≠ 39 ∧ k ≠ 40 ∧ k ≠ 47 ∧ k ≠ 49 ∧ (k < 28 ∨ 30 < k))) ∧ (a < 1458 ∨ 1465 < a) ∧ (a < 1468 ∨ 1470 < a) ∧ (a < 1453 ∨ 1456 < a) → w_i w1 a k = w_i w a k := fun a k z => hf.2.2.2.2.2 a k (by unfold pm_ p_st; omega)
  refine ⟨sh_fr h1 hf, ?_, hS, h4, hX⟩
  unfold MT_ at h2 ⊢
  simp (disch := omega) only [f6]
  exact h2
def pmf_ (a k : Nat) : Prop := (a = 1440 ∧ k = 47) ∨ (1468 ≤ a ∧ a ≤ 1470)
theorem pmf_pm {a k : Nat} (h : pmf_ a k) : pm_ a k := by unfold pmf_ at h; unfold pm_; omega
def plt_ (t a k : Nat) : Prop := pmf_ a k ∨ (a = 1456 ∧ k = t)
/-- a lean changed under the model's scratch -/
theorem MS_plt {n t : Nat} {X : Xm} {v : Int32} {w1 : Wd} (h : MS_ w n X) (hn : n ≤ 10) (hL : xm_L X ≤ 10) (hf : Fr_ (plt_ t) w w1) : MS_ (s_i w1 1456 t v) n (x_lea X t v) := by
  have f6 : ∀ a k, (a ≠ 1440 ∨ (k ≠ 3 ∧ k ≠ 39 ∧ k ≠ 40 ∧ k ≠ 47 ∧ k ≠ 49)) ∧ (a < 1458 ∨ 1465 < a) ∧ (a < 1468 ∨ 1470 < a) ∧ (a < 1453 ∨ 1456 < a ∨ k < 10) ∧ (a ≠ 1456 ∨ k ≠ t) → w_i w1 a k = w_i w a k := fun a k z => hf.2.2.2.2.2 a k (by unfold plt_ pmf_; omega)
  obtain ⟨h1, h2, h3, h4, h5, h6, h7⟩ := h
  unfold MS_
  simp only [i_si, Nat.reduceEqDiff, false_and, if_false, true_and]
  refine ⟨(f6 _ _ (by omega)).trans h1, (f6 _ _ (by omega)).trans h2, (f6 _ _ (by omega)).trans h3, fun k (hk : k < xm_L X) => (f6 _ _ (by omega)).trans (h4 k hk), fun k hk => (f6 _ _ (by omega)).trans (h5 k hk), fun k hk => (f6 _ _ (by omega)).trans (h6 k hk), fun k hk => ?_⟩
  show _ = if k = t then v else xm_l X k
  by_cases e : k = t
  · rw [if_pos e, if_pos e]
  · rw [if_neg e, if_neg e]; exact (f6 _ _ (by omega)).trans (h7 k hk)
def FT_ (w : Wd) (X : Xm) (s : List Nat) : Prop := w_i w 1440 47 = Int32.ofNat s.length ∧ (∀ i, i < s.length → w_i w 1468 i = Int32.ofNat (xm_t X (s.getD i 0 / 19))) ∧ ∀ i, i < s.length → w_i w 1469 i = wv_ (s.getD i 0 % 19)
/-- what m_seen asks of the book -/
def MZ_ (w : Wd) (B : Bm) : Prop := w_i w 1440 32 = Int32.ofNat (bm_m B) ∧ (∀ k, k < bm_m B → w_i w 1466 k = Int32.ofNat (bm_l B k)) ∧ ∀ k, k < bm_m B → w_i w 1467 k = bm_t B k
theorem MZ_fr {B : Bm} {w1 : Wd} (h : MZ_ w B) (hf : Fr_ (fun a k => pm_ a k ∨ p_st a k) w w1) : MZ_ w1 B := by
  have f6 : ∀ a k, (a = 1440 ∧ k = 32) ∨ a = 1466 ∨ a = 1467 → w_i w1 a k = w_i w a k := fun a k z => hf.2.2.2.2.2 a k (by unfold pm_ p_st; omega)
  unfold MZ_ at h ⊢
  simp (disch := omega) only [f6]
  exact h
theorem plt_o {t a k : Nat} (h : plt_ t a k) : pm_ a k ∨ p_st a k := h.elim (fun z => Or.inl (pmf_pm z)) (fun z => Or.inr (by unfold p_st; omega))
theorem sl_get {s : List Nat} {x i : Nat} (h : i < s.length) : (s ++ [x]).getD i 0 = s.getD i 0 := by
  rw [List.getD_eq_getElem?_getD, List.getD_eq_getElem?_getD, List.getElem?_append_left h]
theorem sl_last {s : List Nat} {x : Nat} : (s ++ [x]).getD s.length 0 = x := by
  rw [List.getD_eq_getElem?_getD, List.getElem?_append_right (Nat.le_refl _), Nat.sub_self]; rfl
theorem ft1_len (p : Nat → Nat → Bool) (l : Nat) : ∀ (n k : Nat) (s : List Nat), (it_ (ft1_ p l) k n s).length ≤ s.length + n := by
  intro n
  induction n with
  | zero => intro k s; exact Nat.le_refl _
  | succ n ih =>
    intro k s
    have := ih (k + 1) (ft1_ p l k s)
    rw [it_]
    have : (ft1_ p l k s).length ≤ s.length + 1 := by
      unfold ft1_
      split
      · rw [List.length_append]; exact Nat.le_refl _
      · omega
    omega
theorem m_fit1 (h : MQ_ w (sm_T S) (bm_X (sm_B S))) (hV : WS_ S) (hZ : MZ_ w (sm_B S)) {d l : Nat} (hl : l < xm_L (bm_X (sm_B S))) {s : List Nat} (hs : s.length ≤ 19 * l) (hF : FT_ w (bm_X (sm_B S)) s) {a2 a3 a4 : Option Vl} : ∃ t : (Option Vl × Option Vl × Option Vl) × Wd, (Fr_ pmf_ w t.2 ∧ FT_ t.2 (bm_X (sm_B S)) (it_ (ft1_ (p_fit (sm_T S) (bm_X (sm_B S)) (sm_B S)) l) 0 19 s)) ∧ ∀ Q, wp (d + 3) 251 7 [some (v_R (some 1440)), some (v_I (Int32.ofNat l)), a2, a3, a4] [] w Q = wp (d + 3) 251 7 [some (v_R (some 1440)), some (v_I (Int32.ofNat (l + 1))), t.1.1, t.1.2.1, t.1.2.2] [] t.2 Q := by
  have h0 := h
  have hX9 := h.2.2.2.2
  have hn9 := h.2.2.2.1.1
  have hL9 := hX9.1
  have ht := hX9.2.1 _ hl
  have hm8 := hV.2.2.2.1.2.2.2.2.2.1
  have hbl := hV.2.2.2.1.2.2.2.2.2.2
  obtain ⟨v, hC, q1⟩ := lp_ig (fun j (s : List Nat) (v : Wd) Q => wp (d + 3) 251 33 [some (v_R (some 1440)), some (v_I (Int32.ofNat l)), some (v_I (Int32.ofNat (xm_t (bm_X (sm_B S)) l))), some (v_I (xm_l (bm_X (sm_B S)) (xm_t (bm_X (sm_B S)) l))), some (v_I (wv_ j))] [] v Q) (fun j s v => Fr_ (plt_ (xm_t (bm_X (sm_B S)) l)) w v ∧ FT_ v (bm_X (sm_B S)) s ∧ s.length ≤ 19 * l + j) (ft1_ (p_fit (sm_T S) (bm_X (sm_B S)) (sm_B S)) l) 19 0 s w (fun j s v _ hj hC => by
    obtain ⟨i1, i2, i3⟩ := hC
    have fv : Fr_ (plt_ (xm_t (bm_X (sm_B S)) l)) w (s_i v 1456 (xm_t (bm_X (sm_B S)) l) (wv_ j)) := fr_si i1 (Or.inr ⟨rfl, rfl⟩)
    have hq1 := MQ_Y h0 (fr_mo fv (fun a k z => plt_o z)) (MS_plt (v := wv_ j) h0.2.2.1 hn9 (by omega) i1) (WX_lea hX9)
    have hz1 := MZ_fr hZ (fr_mo fv (fun a k z => plt_o z))
    have hsn := fun Q => m_seen hq1 (d := d) (Q := Q) hz1.1 hm8 hz1.2.1 hz1.2.2 hbl
    have g1 := wv_s (j := j) (by omega)
    have g2 := wv_g (j := j) (by omega)
    have hM := h0.1
    unfold sh_M at hM
    have u0 : w_t v 1440 = 25 := by rw [i1.1]; exact hM.1
    have u26 : w_r v 1440 26 = some 1456 := by rw [i1.2.2.1]; simp only [hM]
    have u45 : w_r v 1440 45 = some 1468 := by rw [i1.2.2.1]; simp only [hM]
    have u46 : w_r v 1440 46 = some 1469 := by rw [i1.2.2.1]; simp only [hM]
    have ta : w_t v 1456 = 1 := by rw [i1.1]; simp only [hM]
    have tb : w_t v 1468 = 1 := by rw [i1.1]; simp only [hM]
    have tc : w_t v 1469 = 1 := by rw [i1.1]; simp only [hM]
    have na : w_n v 1456 = 10 := by rw [i1.2.1]; simp only [hM]
    have nb : w_n v 1468 = 200 := by rw [i1.2.1]; simp only [hM]
    have nc : w_n v 1469 = 200 := by rw [i1.2.1]; simp only [hM]
    have hMq := hM
    clear hM
    have e47 : w_i v 1440 47 = Int32.ofNat s.length := i2.1
    unfold ft1_ p_fit
    by_cases c1 : wv_ j = xm_l (bm_X (sm_B S)) (xm_t (bm_X (sm_B S)) l)
    · refine ⟨s_i v 1456 (xm_t (bm_X (sm_B S)) l) (wv_ j), ⟨fv, ?_, ?_⟩, fun Q => ?_⟩
      · rw [decide_eq_true c1, Bool.not_true, Bool.false_and, if_neg (by decide)]
        exact ⟨by rw [i_si, if_neg (by omega)]; exact i2.1, fun i hi => by rw [i_si, if_neg (by omega)]; exact i2.2.1 i hi, fun i hi => by rw [i_si, if_neg (by omega)]; exact i2.2.2 i hi⟩
      · rw [decide_eq_true c1, Bool.not_true, Bool.false_and, if_neg (by decide)]; omega
      · rw [c1] at g1 g2
        rw [x_251_33]
        simp (disch := first | omega | decide | exact ko_b _ | assumption | (simp only [t_si, t_sl, t_sr, t_sI, t_sR, n_si, n_sl, n_sr, n_sI, n_sR, r_si, r_sl, r_sI]; first | done | omega)) only [x_251_e, x_251_b, x_251_35, x_251_37, x_251_40, x_251_41, x_251_44, x_251_45, x_251_47, x_251_48, x_251_50, x_251_51, x_251_54, x_251_55, x_251_58, x_251_61, x_251_64, x_251_65, x_251_68, x_251_69, x_251_72, x_251_73, x_251_74, x_251_75, x_251_78, x_251_79, x_251_82, x_251_84, x_251_85, x_251_86, x_251_87, x_251_90, x_251_91, x_251_92, x_251_95, x_251_98, bk_v, bk_n, nl_I, nl_R, nl_L, nl_0, oo_lt, oo_le, oo_eq, oo_add, oo_sub, oo_tn, oo_ir, nn_leT, nn_leF, nn_ltT, nn_ltF, nn_eqT, nn_eqF, bv_0, bv_1, ko_b, ko_1, ko_0, true_and, and_true, if_true, if_false, not_true_eq_false, not_false_eq_true, oo_02, decide_eq_true_eq, decide_eq_false_iff_not, ite_not, Nat.reduceAdd, Nat.reduceLT, Nat.reduceSub, Nat.reduceLeDiff, reduceIte, Bool.true_eq_false, Bool.false_eq_true, reduceCtorEq, eq_self, decide_true, decide_false, bv_t, bv_f, and_self, t_si, t_sl, t_sr, t_sI, t_sR, n_si, n_sl, n_sr, n_sI, n_sR, r_si, r_sl, r_sI, u26, na, g1, g2, c1]
    · cases c2 : f_seen (sm_T S) (x_lea (bm_X (sm_B S)) (xm_t (bm_X (sm_B S)) l) (wv_ j)) (sm_B S) with
      | false =>
        refine ⟨s_i v 1456 (xm_t (bm_X (sm_B S)) l) (wv_ j), ⟨fv, ?_, ?_⟩, fun Q => ?_⟩
        · rw [Bool.and_false, if_neg (by decide)]
          exact ⟨by rw [i_si, if_neg (by omega)]; exact i2.1, fun i hi => by rw [i_si, if_neg (by omega)]; exact i2.2.1 i hi, fun i hi => by rw [i_si, if_neg (by omega)]; exact i2.2.2 i hi⟩
        · rw [Bool.and_false, if_neg (by decide)]; omega
        · rw [c2] at hsn
          rw [x_251_33]
          simp (disch := first | omega | decide | exact ko_b _ | assumption | (simp only [t_si, t_sl, t_sr, t_sI, t_sR, n_si, n_sl, n_sr, n_sI, n_sR, r_si, r_sl, r_sI]; first | done | omega)) only [x_251_e, x_251_b, x_251_35, x_251_37, x_251_40, x_251_41, x_251_44, x_251_45, x_251_47, x_251_48, x_251_50, x_251_51, x_251_54, x_251_55, x_251_58, x_251_61, x_251_64, x_251_65, x_251_68, x_251_69, x_251_72, x_251_73, x_251_74, x_251_75, x_251_78, x_251_79, x_251_82, x_251_84, x_251_85, x_251_86, x_251_87, x_251_90, x_251_91, x_251_92, x_251_95, x_251_98, bk_v, bk_n, nl_I, nl_R, nl_L, nl_0, oo_lt, oo_le, oo_eq, oo_add, oo_sub, oo_tn, oo_ir, nn_leT, nn_leF, nn_ltT, nn_ltF, nn_eqT, nn_eqF, bv_0, bv_1, ko_b, ko_1, ko_0, true_and, and_true, if_true, if_false, not_true_eq_false, not_false_eq_true, oo_02, decide_eq_true_eq, decide_eq_false_iff_not, ite_not, Nat.reduceAdd, Nat.reduceLT, Nat.reduceSub, Nat.reduceLeDiff, reduceIte, Bool.true_eq_false, Bool.false_eq_true, reduceCtorEq, eq_self, decide_true, decide_false, bv_t, bv_f, and_self, t_si, t_sl, t_sr, t_sI, t_sR, n_si, n_sl, n_sr, n_sI, n_sR, r_si, r_sl, r_sI, u26, na, g1, g2, c1, hsn]
      | true =>
        have er : 19 * l + j < 200 := by omega
        refine ⟨s_i (s_i (s_i (s_i v 1456 (xm_t (bm_X (sm_B S)) l) (wv_ j)) 1468 s.length (Int32.ofNat (xm_t (bm_X (sm_B S)) l))) 1469 s.length (wv_ j)) 1440 47 (Int32.ofNat (s.length + 1)), ⟨?_, ?_, ?_⟩, fun Q => ?_⟩
        · exact fr_si (fr_si (fr_si fv (Or.inl (by unfold pmf_; omega))) (Or.inl (by unfold pmf_; omega))) (Or.inl (by unfold pmf_; omega))
        · rw [decide_eq_false c1, Bool.not_false, Bool.true_and, if_pos rfl]
          refine ⟨?_, fun i hi => ?_, fun i hi => ?_⟩
          · simp only [i_si, and_self, if_true, List.length_append, List.length_cons, List.length_nil]
          · rw [List.length_append] at hi
            have hi : i < s.length + 1 := hi
            simp only [i_si, Nat.reduceEqDiff, false_and, if_false, true_and]
            by_cases e : i = s.length
            · subst e
              rw [if_pos rfl, sl_last, show (19 * l + j) / 19 = l by omega]
            · rw [if_neg e, sl_get (by omega)]; exact i2.2.1 i (by omega)
          · rw [List.length_append] at hi
            have hi : i < s.length + 1 := hi
            simp only [i_si, Nat.reduceEqDiff, false_and, if_false, true_and]
            by_cases e : i = s.length
            · subst e
              rw [if_pos rfl, sl_last, show (19 * l + j) % 19 = j by omega]
            · rw [if_neg e, sl_get (by omega)]; exact i2.2.2 i (by omega)
        · rw [decide_eq_false c1, Bool.not_false, Bool.true_and, if_pos rfl, List.length_append]
          show s.length + 1 ≤ _
          omega
        · rw [c2] at hsn
          rw [x_251_33]
          simp (disch := first | omega | decide | exact ko_b _ | assumption | (simp only [t_si, t_sl, t_sr, t_sI, t_sR, n_si, n_sl, n_sr, n_sI, n_sR, r_si, r_sl, r_sI]; first | done | omega)) only [x_251_e, x_251_b, x_251_35, x_251_37, x_251_40, x_251_41, x_251_44, x_251_45, x_251_47, x_251_48, x_251_50, x_251_51, x_251_54, x_251_55, x_251_58, x_251_61, x_251_64, x_251_65, x_251_68, x_251_69, x_251_72, x_251_73, x_251_74, x_251_75, x_251_78, x_251_79, x_251_82, x_251_84, x_251_85, x_251_86, x_251_87, x_251_90, x_251_91, x_251_92, x_251_95, x_251_98, bk_v, bk_n, nl_I, nl_R, nl_L, nl_0, oo_lt, oo_le, oo_eq, oo_add, oo_sub, oo_tn, oo_ir, nn_leT, nn_leF, nn_ltT, nn_ltF, nn_eqT, nn_eqF, bv_0, bv_1, ko_b, ko_1, ko_0, true_and, and_true, if_true, if_false, not_true_eq_false, not_false_eq_true, oo_02, decide_eq_true_eq, decide_eq_false_iff_not, ite_not, Nat.reduceAdd, Nat.reduceLT, Nat.reduceSub, Nat.reduceLeDiff, reduceIte, Bool.true_eq_false, Bool.false_eq_true, reduceCtorEq, eq_self, decide_true, decide_false, bv_t, bv_f, and_self, t_si, t_sl, t_sr, t_sI, t_sR, n_si, n_sl, n_sr, n_sI, n_sR, r_si, r_sl, r_sI, u26, u45, u46, na, nb, nc, g1, g2, c1, hsn, i_si, Nat.reduceEqDiff, false_and, and_false, e47]) ⟨fr_rf _ _, hF, by omega⟩
  obtain ⟨i1, i2, -⟩ := hC
  refine ⟨((some (v_I (Int32.ofNat (xm_t (bm_X (sm_B S)) l))), some (v_I (xm_l (bm_X (sm_B S)) (xm_t (bm_X (sm_B S)) l))), some (v_I (wv_ 19))), s_i v 1456 (xm_t (bm_X (sm_B S)) l) (xm_l (bm_X (sm_B S)) (xm_t (bm_X (sm_B S)) l))), ⟨⟨i1.1, i1.2.1, i1.2.2.1, i1.2.2.2.1, i1.2.2.2.2.1, fun a k hp => ?_⟩, ?_⟩, fun Q => ?_⟩
  · rw [i_si]
    by_cases c : a = 1456 ∧ k = xm_t (bm_X (sm_B S)) l
    · rw [if_pos c, c.1, c.2]
      exact (h0.2.2.1.2.2.2.2.2.2 _ ht).symm
    · rw [if_neg c]
      exact i1.2.2.2.2.2 a k (fun z => z.elim hp c)
  · exact ⟨by rw [i_si, if_neg (by omega)]; exact i2.1, fun i hi => by rw [i_si, if_neg (by omega)]; exact i2.2.1 i hi, fun i hi => by rw [i_si, if_neg (by omega)]; exact i2.2.2 i hi⟩
  · have hM := h0.1
    unfold sh_M at hM
    have u0 : w_t v 1440 = 25 := by rw [i1.1]; exact hM.1
    have u26 : w_r v 1440 26 = some 1456 := by rw [i1.2.2.1]; simp only [hM]
    have ta : w_t v 1456 = 1 := by rw [i1.1]; simp only [hM]
    have na : w_n v 1456 = 10 := by rw [i1.2.1]; simp only [hM]
    clear hM
    have g2 := wv_g (j := 0 + 19) (by omega)
    have fin : wp (d + 3) 251 33 [some (v_R (some 1440)), some (v_I (Int32.ofNat l)), some (v_I (Int32.ofNat (xm_t (bm_X (sm_B S)) l))), some (v_I (xm_l (bm_X (sm_B S)) (xm_t (bm_X (sm_B S)) l))), some (v_I (wv_ (0 + 19)))] [] v Q = wp (d + 3) 251 7 [some (v_R (some 1440)), some (v_I (Int32.ofNat (l + 1))), some (v_I (Int32.ofNat (xm_t (bm_X (sm_B S)) l))), some (v_I (xm_l (bm_X (sm_B S)) (xm_t (bm_X (sm_B S)) l))), some (v_I (wv_ 19))] [] (s_i v 1456 (xm_t (bm_X (sm_B S)) l) (xm_l (bm_X (sm_B S)) (xm_t (bm_X (sm_B S)) l))) Q := by
      rw [x_251_33]
      simp (disch := first | omega | decide | exact ko_b _ | assumption | (simp only [t_si, t_sl, t_sr, t_sI, t_sR, n_si, n_sl, n_sr, n_sI, n_sR, r_si, r_sl, r_sI]; first | done | omega)) only [x_251_e, x_251_b, x_251_35, x_251_37, x_251_e, x_251_b, x_251_101, x_251_102, x_251_105, x_251_106, x_251_107, x_251_108, x_251_111, bk_v, bk_n, nl_I, nl_R, nl_L, nl_0, oo_lt, oo_le, oo_eq, oo_add, oo_sub, oo_tn, oo_ir, nn_leT, nn_leF, nn_ltT, nn_ltF, nn_eqT, nn_eqF, bv_0, bv_1, ko_b, ko_1, ko_0, true_and, and_true, if_true, if_false, not_true_eq_false, not_false_eq_true, oo_02, decide_eq_true_eq, decide_eq_false_iff_not, ite_not, Nat.reduceAdd, Nat.reduceLT, Nat.reduceSub, Nat.reduceLeDiff, reduceIte, Bool.true_eq_false, Bool.false_eq_true, reduceCtorEq, eq_self, decide_true, decide_false, bv_t, bv_f, and_self, t_si, t_sl, t_sr, t_sI, t_sR, n_si, n_sl, n_sr, n_sI, n_sR, r_si, r_sl, r_sI, u26, na, g2]
    refine Eq.trans ?_ ((q1 Q).trans fin)
    have hq := h
    obtain ⟨hM, hT, hS, ⟨hn, hk4⟩, hW1, hW2, hW3⟩ := hq
    unfold sh_M at hM
    unfold MT_ at hT
    unfold MS_ at hS
    rw [x_251_7]
    simp (disch := first | omega | decide | exact ko_b _ | assumption | (simp only [t_si, t_sl, t_sr, t_sI, t_sR, n_si, n_sl, n_sr, n_sI, n_sR, r_si, r_sl, r_sI]; first | done | omega)) only [x_251_e, x_251_b, x_251_8, x_251_9, x_251_12, x_251_15, x_251_16, x_251_19, x_251_20, x_251_21, x_251_22, x_251_23, x_251_26, x_251_27, x_251_28, x_251_29, x_251_31, bk_v, bk_n, nl_I, nl_R, nl_L, nl_0, oo_lt, oo_le, oo_eq, oo_add, oo_sub, oo_tn, oo_ir, nn_leT, nn_leF, nn_ltT, nn_ltF, nn_eqT, nn_eqF, bv_0, bv_1, ko_b, ko_1, ko_0, true_and, and_true, if_true, if_false, not_true_eq_false, not_false_eq_true, oo_02, decide_eq_true_eq, decide_eq_false_iff_not, ite_not, Nat.reduceAdd, Nat.reduceLT, Nat.reduceSub, Nat.reduceLeDiff, reduceIte, Bool.true_eq_false, Bool.false_eq_true, reduceCtorEq, eq_self, decide_true, decide_false, bv_t, bv_f, and_self, t_si, t_sl, t_sr, t_sI, t_sR, n_si, n_sl, n_sr, n_sI, n_sR, r_si, r_sl, r_sI, hM, hT, hS, wv_0]
end
