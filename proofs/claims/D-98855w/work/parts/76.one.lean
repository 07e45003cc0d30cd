/-! ONE WEDGE: both halves -/
set_option maxRecDepth 100000
/-- a lean, a wedge by its number -/
def wv_ (j : Nat) : Int32 := Int32.ofNat j - Int32.ofNat 9
theorem wv_f (j : Nat) : Int32.ofNat j - Int32.ofNat 9 = wv_ j := rfl
theorem wv_0 : wv_ 0 = Int32.ofInt (-9) := by decide
theorem wv_s0 : ∀ j : Fin 40, wv_ j.val + Int32.ofNat 1 = wv_ (j.val + 1) := by decide +kernel
theorem wv_s {j : Nat} (h : j < 40) : wv_ j + Int32.ofNat 1 = wv_ (j + 1) := wv_s0 ⟨j, h⟩
theorem wv_g0 : ∀ j : Fin 40, (Int32.ofNat 9 < wv_ j.val) ↔ 18 < j.val := by decide +kernel
theorem wv_g {j : Nat} (h : j < 40) : (Int32.ofNat 9 < wv_ j) = (18 < j) := propext (wv_g0 ⟨j, h⟩)
theorem wv_90 : ∀ j : Fin 19, -9 ≤ (wv_ j.val).toInt ∧ (wv_ j.val).toInt ≤ 9 := by decide +kernel
theorem wv_9 {j : Nat} (h : j < 19) : in_9 (wv_ j) := wv_90 ⟨j, h⟩
theorem r_ne0 : ∀ t : Fin 10, ∀ j : Fin 19, Int32.ofNat (100 * t.val) + wv_ j.val + Int32.ofNat 50 ≠ Int32.ofInt (-1) := by decide +kernel
theorem r_ne {t j : Nat} (ht : t < 10) (hj : j < 19) : (Int32.ofNat (100 * t) + wv_ j + Int32.ofNat 50 = Int32.ofInt (-1)) = False := eq_false (r_ne0 ⟨t, ht⟩ ⟨j, hj⟩)
theorem nmd_r (k m : Nat) : k - k / m * m = k % m := Nat.mod_eq_sub_div_mul.symm
theorem oo_rem2 (k m : Nat) : Int32.ofNat k - Int32.ofNat (k / m) * Int32.ofNat m = Int32.ofNat (k % m) := by
  rw [oo_mul, oo_sub (Nat.div_mul_le_self k m), nmd_r]
def p_one (T : Tm) (X : Xm) (l j : Nat) : Bool := !decide (wv_ j = xm_w X (xm_t X l)) && f_st T (x_wed X (xm_t X l) (wv_ j))
def r_one (X : Xm) (k : Nat) : Int32 := Int32.ofNat (100 * xm_t X (k / 19)) + wv_ (k % 19) + Int32.ofNat 50
def r_oneO (X : Xm) (o : Option Nat) : Int32 := match o with
  | some k => r_one X k
  | none => Int32.ofInt (-1)
theorem r_oneS (X : Xm) (k : Nat) : r_oneO X (some k) = r_one X k := rfl
theorem r_oneN (X : Xm) : r_oneO X none = Int32.ofInt (-1) := rfl
theorem r_one_k {X : Xm} {l j : Nat} (hj : j < 19) : r_one X (19 * l + j) = Int32.ofNat (100 * xm_t X l) + wv_ j + Int32.ofNat 50 := by
  unfold r_one
  rw [show (19 * l + j) / 19 = l by omega, show (19 * l + j) % 19 = j by omega]
def f_one (T : Tm) (X : Xm) : Int32 := if f_st T X = true then Int32.ofInt (-1) else r_oneO X (ff_ (fun k => p_one T X (k / 19) (k % 19)) 0 (19 * xm_L X))
theorem WX_wed {n t : Nat} {X : Xm} {v : Int32} (h : WX_ n X) : WX_ n (x_wed X t v) := h
theorem WX_lea {n t : Nat} {X : Xm} {v : Int32} (h : WX_ n X) : WX_ n (x_lea X t v) := h
section
variable {w : Wd} {S : Sm} {G : Gm} {σ : Nat → Nat}
theorem MS_wed {n t : Nat} {X : Xm} {v : Int32} (h : MS_ w n X) : MS_ (s_i w 1455 t v) n (x_wed X t v) := by
  obtain ⟨h1, h2, h3, h4, h5, h6, h7⟩ := h
  unfold MS_
  simp only [i_si, Nat.reduceEqDiff, false_and, if_false, true_and]
  refine ⟨h1, h2, h3, h4, h5, fun k hk => ?_, h7⟩
  show _ = if k = t then v else xm_w X k
  by_cases e : k = t
  · rw [if_pos e, if_pos e]
  · rw [if_neg e, if_neg e]; exact h6 k hk
theorem MS_lea {n t : Nat} {X : Xm} {v : Int32} (h : MS_ w n X) : MS_ (s_i w 1456 t v) n (x_lea X t v) := by
  obtain ⟨h1, h2, h3, h4, h5, h6, h7⟩ := h
  unfold MS_
  simp only [i_si, Nat.reduceEqDiff, false_and, if_false, true_and]
  refine ⟨h1, h2, h3, h4, h5, h6, fun k hk => ?_⟩
  show _ = if k = t then v else xm_l X k
  by_cases e : k = t
  · rw [if_pos e, if_pos e]
  · rw [if_neg e, if_neg e]; exact h7 k hk
theorem CS_wed {n t : Nat} {X : Xm} {v : Int32} (h : CS_ w 1429 n X) : CS_ (s_i w 1432 t v) 1429 n (x_wed X t v) := by
  obtain ⟨h1, h2, h3, h4, h5, h6, h7⟩ := h
  unfold CS_
  simp only [i_si, Nat.reduceEqDiff, Nat.reduceAdd, false_and, if_false, true_and] at *
  refine ⟨h1, h2, h3, h4, h5, fun k hk => ?_, h7⟩
  show _ = if k = t then v else xm_w X k
  by_cases e : k = t
  · rw [if_pos e, if_pos e]
  · rw [if_neg e, if_neg e]; exact h6 k hk
theorem CS_lea {n t : Nat} {X : Xm} {v : Int32} (h : CS_ w 1429 n X) : CS_ (s_i w 1433 t v) 1429 n (x_lea X t v) := by
  obtain ⟨h1, h2, h3, h4, h5, h6, h7⟩ := h
  unfold CS_
  simp only [i_si, Nat.reduceEqDiff, Nat.reduceAdd, false_and, if_false, true_and] at *
  refine ⟨h1, h2, h3, h4, h5, h6, fun k hk => ?_⟩
  show _ = if k = t then v else xm_l X k
  by_cases e : k = t
  · rw [if_pos e, if_pos e]
  · rw [if_neg e, if_neg e]; exact h7 k hk
theorem c_ges (h : RC_ w G σ S) (hV : WS_ S) {d : Nat} {Q : Q_} : cl d 51 [v_R (some 1000)] w Q = Q (Sum.inl (some (v_I (Int32.ofNat (xm_L (bm_X (sm_B S)) * 19))))) w := by
  have hq := RC_CQ h hV
  have hC := h.1
  unfold sh_C at hC
  have hr0 : w_r _ 1000 0 = some (gm_b G) := h.2.2.1
  have hT := h.2.2.2.1
  unfold CT_ at hT
  have hA : SO_ _ 1008 := h.2.1.2.1.1
  unfold SO_ at hA
  have hA2 : SO_ _ 1429 := h.2.1.2.2.2.2
  unfold SO_ at hA2
  have hS : CS_ _ 1008 (tm_n (sm_T S)) (bm_X (sm_B S)) := h.2.2.2.2.2.2.2.1.1
  unfold CS_ at hS
  have hK : sh_B _ 1007 := h.2.1.1
  unfold sh_B at hK
  have hB := h.2.2.2.2.2.2.2.1.2
  have hR := h.2.2.2.2.2.2.2.2.2
  simp only [Nat.reduceAdd] at hA hA2 hS hK hB
  obtain ⟨hn, hk4⟩ := hV.1
  obtain ⟨hW1, hW2, hW3⟩ := hV.2.2.2.1.1
  simp (disch := first | omega | decide | exact ko_b _ | assumption | (simp only [t_si, t_sl, t_sr, t_sI, t_sR, n_si, n_sl, n_sr, n_sI, n_sR, r_si, r_sl, r_sI]; first | done | omega)) only [x_51_e, x_51_b, x_51_0, x_51_1, x_51_4, x_51_7, x_51_9, x_51_10, bk_v, bk_n, nl_I, nl_R, nl_L, nl_0, oo_lt, oo_le, oo_eq, oo_add, oo_sub, oo_tn, oo_ir, nn_leT, nn_leF, nn_ltT, nn_ltF, nn_eqT, nn_eqF, bv_0, bv_1, ko_b, ko_1, ko_0, true_and, and_true, if_true, if_false, not_true_eq_false, not_false_eq_true, oo_02, decide_eq_true_eq, decide_eq_false_iff_not, ite_not, Nat.reduceAdd, Nat.reduceLT, Nat.reduceSub, Nat.reduceLeDiff, reduceIte, Bool.true_eq_false, Bool.false_eq_true, reduceCtorEq, eq_self, decide_true, decide_false, bv_t, bv_f, and_self, t_si, t_sl, t_sr, t_sI, t_sR, n_si, n_sl, n_sr, n_sI, n_sR, r_si, r_sl, r_sI, hC, hr0, hT, hA, hS, hK, hB, hR, oo_mul]
theorem c_one2 (h : RC_ w G σ S) (hV : WS_ S) (hS2 : CS_ w 1429 (tm_n (sm_T S)) (bm_X (sm_B S))) {d k : Nat} {Q : Q_} (hk : k < 19 * xm_L (bm_X (sm_B S))) : wp (d + 12) 50 50 [some (v_R (some 1000)), some (v_I (Int32.ofNat k)), some (v_I (Int32.ofNat (xm_t (bm_X (sm_B S)) (k / 19))))] [] w Q = if p_one (sm_T S) (bm_X (sm_B S)) (k / 19) (k % 19) = true then Q (Sum.inl (some (v_I (r_one (bm_X (sm_B S)) k)))) (s_i w 1432 (xm_t (bm_X (sm_B S)) (k / 19)) (wv_ (k % 19))) else wp (d + 12) 50 18 [some (v_R (some 1000)), some (v_I (Int32.ofNat (k + 1))), some (v_I (Int32.ofNat (xm_t (bm_X (sm_B S)) (k / 19))))] [] (s_i w 1432 (xm_t (bm_X (sm_B S)) (k / 19)) (wv_ (k % 19))) Q := by
  have hX9 := hV.2.2.2.1.1
  have hk19 : k / 19 < xm_L (bm_X (sm_B S)) := by omega
  have ht := hX9.2.1 _ hk19
  have hr : k % 19 < 19 := Nat.mod_lt _ (by decide)
  have f1 : Fr_ tz_ w (s_i w 1432 (xm_t (bm_X (sm_B S)) (k / 19)) (wv_ (k % 19))) := fr_si (fr_rf _ _) (by unfold tz_; omega)
  have hq1 := tr_q (RC_tz h hV f1) hV (CS_wed (t := xm_t (bm_X (sm_B S)) (k / 19)) (v := wv_ (k % 19)) hS2) (WX_wed hX9)
  unfold p_one r_one
  have hq := RC_CQ h hV
  have hC := h.1
  unfold sh_C at hC
  have hr0 : w_r _ 1000 0 = some (gm_b G) := h.2.2.1
  have hT := h.2.2.2.1
  unfold CT_ at hT
  have hA : SO_ _ 1008 := h.2.1.2.1.1
  unfold SO_ at hA
  have hA2 : SO_ _ 1429 := h.2.1.2.2.2.2
  unfold SO_ at hA2
  have hS : CS_ _ 1008 (tm_n (sm_T S)) (bm_X (sm_B S)) := h.2.2.2.2.2.2.2.1.1
  unfold CS_ at hS
  have hK : sh_B _ 1007 := h.2.1.1
  unfold sh_B at hK
  have hB := h.2.2.2.2.2.2.2.1.2
  have hR := h.2.2.2.2.2.2.2.2.2
  simp only [Nat.reduceAdd] at hA hA2 hS hK hB
  obtain ⟨hn, hk4⟩ := hV.1
  obtain ⟨hW1, hW2, hW3⟩ := hV.2.2.2.1.1
  by_cases c1 : wv_ (k % 19) = xm_w (bm_X (sm_B S)) (xm_t (bm_X (sm_B S)) (k / 19))
  · simp (disch := first | omega | decide | exact ko_b _ | assumption | (simp only [t_si, t_sl, t_sr, t_sI, t_sR, n_si, n_sl, n_sr, n_sI, n_sR, r_si, r_sl, r_sI]; first | done | omega)) only [x_50_e, x_50_b, x_50_50, x_50_51, x_50_54, x_50_57, x_50_58, x_50_59, x_50_61, x_50_62, x_50_64, x_50_65, x_50_66, x_50_67, x_50_70, x_50_73, x_50_74, x_50_75, x_50_76, x_50_79, x_50_82, x_50_83, x_50_84, x_50_87, x_50_88, x_50_91, x_50_92, x_50_95, x_50_98, x_50_101, x_50_103, x_50_104, x_50_105, x_50_106, x_50_109, x_50_112, x_50_113, x_50_114, x_50_115, x_50_117, x_50_118, x_50_119, x_50_122, bk_v, bk_n, nl_I, nl_R, nl_L, nl_0, oo_lt, oo_le, oo_eq, oo_add, oo_sub, oo_tn, oo_ir, nn_leT, nn_leF, nn_ltT, nn_ltF, nn_eqT, nn_eqF, bv_0, bv_1, ko_b, ko_1, ko_0, true_and, and_true, if_true, if_false, not_true_eq_false, not_false_eq_true, oo_02, decide_eq_true_eq, decide_eq_false_iff_not, ite_not, Nat.reduceAdd, Nat.reduceLT, Nat.reduceSub, Nat.reduceLeDiff, reduceIte, Bool.true_eq_false, Bool.false_eq_true, reduceCtorEq, eq_self, decide_true, decide_false, bv_t, bv_f, and_self, t_si, t_sl, t_sr, t_sI, t_sR, n_si, n_sl, n_sr, n_sI, n_sR, r_si, r_sl, r_sI, hC, hr0, hA, hA2, hS, i_si, Nat.reduceEqDiff, false_and, oo_rem, oo_rem2, nmd_r, wv_f, c1, Bool.not_true, Bool.false_and]
  · cases c2 : f_st (sm_T S) (x_wed (bm_X (sm_B S)) (xm_t (bm_X (sm_B S)) (k / 19)) (wv_ (k % 19))) with
    | false => simp (disch := first | omega | decide | exact ko_b _ | assumption | (simp only [t_si, t_sl, t_sr, t_sI, t_sR, n_si, n_sl, n_sr, n_sI, n_sR, r_si, r_sl, r_sI]; first | done | omega)) only [x_50_e, x_50_b, x_50_50, x_50_51, x_50_54, x_50_57, x_50_58, x_50_59, x_50_61, x_50_62, x_50_64, x_50_65, x_50_66, x_50_67, x_50_70, x_50_73, x_50_74, x_50_75, x_50_76, x_50_79, x_50_82, x_50_83, x_50_84, x_50_87, x_50_88, x_50_91, x_50_92, x_50_95, x_50_98, x_50_101, x_50_103, x_50_104, x_50_105, x_50_106, x_50_109, x_50_112, x_50_113, x_50_114, x_50_115, x_50_117, x_50_118, x_50_119, x_50_122, bk_v, bk_n, nl_I, nl_R, nl_L, nl_0, oo_lt, oo_le, oo_eq, oo_add, oo_sub, oo_tn, oo_ir, nn_leT, nn_leF, nn_ltT, nn_ltF, nn_eqT, nn_eqF, bv_0, bv_1, ko_b, ko_1, ko_0, true_and, and_true, if_true, if_false, not_true_eq_false, not_false_eq_true, oo_02, decide_eq_true_eq, decide_eq_false_iff_not, ite_not, Nat.reduceAdd, Nat.reduceLT, Nat.reduceSub, Nat.reduceLeDiff, reduceIte, Bool.true_eq_false, Bool.false_eq_true, reduceCtorEq, eq_self, decide_true, decide_false, bv_t, bv_f, and_self, t_si, t_sl, t_sr, t_sI, t_sR, n_si, n_sl, n_sr, n_sI, n_sR, r_si, r_sl, r_sI, hC, hr0, hA, hA2, hS, i_si, Nat.reduceEqDiff, false_and, oo_rem, oo_rem2, nmd_r, wv_f, c1, c_st hq1, c2, Bool.not_false, Bool.true_and]
    | true => simp (disch := first | omega | decide | exact ko_b _ | assumption | (simp only [t_si, t_sl, t_sr, t_sI, t_sR, n_si, n_sl, n_sr, n_sI, n_sR, r_si, r_sl, r_sI]; first | done | omega)) only [x_50_e, x_50_b, x_50_50, x_50_51, x_50_54, x_50_57, x_50_58, x_50_59, x_50_61, x_50_62, x_50_64, x_50_65, x_50_66, x_50_67, x_50_70, x_50_73, x_50_74, x_50_75, x_50_76, x_50_79, x_50_82, x_50_83, x_50_84, x_50_87, x_50_88, x_50_91, x_50_92, x_50_95, x_50_98, x_50_101, x_50_103, x_50_104, x_50_105, x_50_106, x_50_109, x_50_112, x_50_113, x_50_114, x_50_115, x_50_117, x_50_118, x_50_119, x_50_122, bk_v, bk_n, nl_I, nl_R, nl_L, nl_0, oo_lt, oo_le, oo_eq, oo_add, oo_sub, oo_tn, oo_ir, nn_leT, nn_leF, nn_ltT, nn_ltF, nn_eqT, nn_eqF, bv_0, bv_1, ko_b, ko_1, ko_0, true_and, and_true, if_true, if_false, not_true_eq_false, not_false_eq_true, oo_02, decide_eq_true_eq, decide_eq_false_iff_not, ite_not, Nat.reduceAdd, Nat.reduceLT, Nat.reduceSub, Nat.reduceLeDiff, reduceIte, Bool.true_eq_false, Bool.false_eq_true, reduceCtorEq, eq_self, decide_true, decide_false, bv_t, bv_f, and_self, t_si, t_sl, t_sr, t_sI, t_sR, n_si, n_sl, n_sr, n_sI, n_sR, r_si, r_sl, r_sI, hC, hr0, hA, hA2, hS, i_si, Nat.reduceEqDiff, false_and, oo_rem, oo_rem2, nmd_r, oo_mul, wv_f, c1, c_st hq1, c2, Bool.not_false, Bool.true_and]
theorem c_one (h : RC_ w G σ S) (hV : WS_ S) {d : Nat} : CR_ G (d + 12) 50 [v_R (some 1000)] w (v_I (f_one (sm_T S) (bm_X (sm_B S)))) := by
  have hX9 := hV.2.2.2.1.1
  unfold f_one
  by_cases hst : f_st (sm_T S) (bm_X (sm_B S)) = true
  · rw [if_pos hst]
    refine cr_0 fun Q => ?_
    have hq := RC_CQ h hV
    have hC := h.1
    unfold sh_C at hC
    have hr0 : w_r _ 1000 0 = some (gm_b G) := h.2.2.1
    have hT := h.2.2.2.1
    unfold CT_ at hT
    have hA : SO_ _ 1008 := h.2.1.2.1.1
    unfold SO_ at hA
    have hA2 : SO_ _ 1429 := h.2.1.2.2.2.2
    unfold SO_ at hA2
    have hS : CS_ _ 1008 (tm_n (sm_T S)) (bm_X (sm_B S)) := h.2.2.2.2.2.2.2.1.1
    unfold CS_ at hS
    have hK : sh_B _ 1007 := h.2.1.1
    unfold sh_B at hK
    have hB := h.2.2.2.2.2.2.2.1.2
    have hR := h.2.2.2.2.2.2.2.2.2
    simp only [Nat.reduceAdd] at hA hA2 hS hK hB
    obtain ⟨hn, hk4⟩ := hV.1
    obtain ⟨hW1, hW2, hW3⟩ := hV.2.2.2.1.1
    simp (disch := first | omega | decide | exact ko_b _ | assumption | (simp only [t_si, t_sl, t_sr, t_sI, t_sR, n_si, n_sl, n_sr, n_sI, n_sR, r_si, r_sl, r_sI]; first | done | omega)) only [x_50_e, x_50_b, x_50_0, x_50_1, x_50_4, x_50_5, x_50_8, x_50_11, x_50_14, x_50_15, x_50_16, x_50_17, bk_v, bk_n, nl_I, nl_R, nl_L, nl_0, oo_lt, oo_le, oo_eq, oo_add, oo_sub, oo_tn, oo_ir, nn_leT, nn_leF, nn_ltT, nn_ltF, nn_eqT, nn_eqF, bv_0, bv_1, ko_b, ko_1, ko_0, true_and, and_true, if_true, if_false, not_true_eq_false, not_false_eq_true, oo_02, decide_eq_true_eq, decide_eq_false_iff_not, ite_not, Nat.reduceAdd, Nat.reduceLT, Nat.reduceSub, Nat.reduceLeDiff, reduceIte, Bool.true_eq_false, Bool.false_eq_true, reduceCtorEq, eq_self, decide_true, decide_false, bv_t, bv_f, and_self, t_si, t_sl, t_sr, t_sI, t_sR, n_si, n_sl, n_sr, n_sI, n_sR, r_si, r_sl, r_sI, hC, hr0, hT, hA, hS, hK, hB, hR, c_st hq, hst]
  · rw [if_neg hst]
    have hst := Bool.eq_false_iff.mpr hst
    obtain ⟨s1, f1, q1⟩ := lp_fg (fun k (s : Option Vl × Wd) Q => wp (d + 12) 50 18 [some (v_R (some 1000)), some (v_I (Int32.ofNat k)), s.1] [] s.2 Q) (fun o s Q => Q (Sum.inl (some (v_I (r_oneO (bm_X (sm_B S)) o)))) s.2) (fun s => Fr_ tz_ w s.2) (fun k => p_one (sm_T S) (bm_X (sm_B S)) (k / 19) (k % 19)) (19 * xm_L (bm_X (sm_B S))) 0 (none, w) (fun k s _ hk hC => by
      obtain ⟨w2, f2, r2, s2, q2⟩ := c_tr (RC_tz h hV hC) hV (d := d + 11)
      refine ⟨(some (v_I (Int32.ofNat (xm_t (bm_X (sm_B S)) (k / 19)))), s_i w2 1432 (xm_t (bm_X (sm_B S)) (k / 19)) (wv_ (k % 19))), fr_si (fr_tr hC f2) (by unfold tz_; omega), fun Q => ?_⟩
      refine Eq.trans ?_ (c_one2 (d := d) r2 hV s2 (by omega))
      have h := RC_tz h hV hC
      have hk19 : k / 19 < xm_L (bm_X (sm_B S)) := by omega
      have hg := fun d Q => c_ges h hV (d := d) (Q := Q)
      have hq := RC_CQ h hV
      have hC := h.1
      unfold sh_C at hC
      have hr0 : w_r _ 1000 0 = some (gm_b G) := h.2.2.1
      have hT := h.2.2.2.1
      unfold CT_ at hT
      have hA : SO_ _ 1008 := h.2.1.2.1.1
      unfold SO_ at hA
      have hA2 : SO_ _ 1429 := h.2.1.2.2.2.2
      unfold SO_ at hA2
      have hS : CS_ _ 1008 (tm_n (sm_T S)) (bm_X (sm_B S)) := h.2.2.2.2.2.2.2.1.1
      unfold CS_ at hS
      have hK : sh_B _ 1007 := h.2.1.1
      unfold sh_B at hK
      have hB := h.2.2.2.2.2.2.2.1.2
      have hR := h.2.2.2.2.2.2.2.2.2
      simp only [Nat.reduceAdd] at hA hA2 hS hK hB
      obtain ⟨hn, hk4⟩ := hV.1
      obtain ⟨hW1, hW2, hW3⟩ := hV.2.2.2.1.1
      show wp (d + 12) 50 18 [some (v_R (some 1000)), some (v_I (Int32.ofNat k)), s.1] [] s.2 Q = _
      rw [x_50_18]
      simp (disch := first | omega | decide | exact ko_b _ | assumption | (simp only [t_si, t_sl, t_sr, t_sI, t_sR, n_si, n_sl, n_sr, n_sI, n_sR, r_si, r_sl, r_sI]; first | done | omega)) only [x_50_e, x_50_b, x_50_19, x_50_20, x_50_23, x_50_26, x_50_27, x_50_30, x_50_33, x_50_34, x_50_36, x_50_37, x_50_38, x_50_39, x_50_40, x_50_43, x_50_44, x_50_47, bk_v, bk_n, nl_I, nl_R, nl_L, nl_0, oo_lt, oo_le, oo_eq, oo_add, oo_sub, oo_tn, oo_ir, nn_leT, nn_leF, nn_ltT, nn_ltF, nn_eqT, nn_eqF, bv_0, bv_1, ko_b, ko_1, ko_0, true_and, and_true, if_true, if_false, not_true_eq_false, not_false_eq_true, oo_02, decide_eq_true_eq, decide_eq_false_iff_not, ite_not, Nat.reduceAdd, Nat.reduceLT, Nat.reduceSub, Nat.reduceLeDiff, reduceIte, Bool.true_eq_false, Bool.false_eq_true, reduceCtorEq, eq_self, decide_true, decide_false, bv_t, bv_f, and_self, t_si, t_sl, t_sr, t_sI, t_sR, n_si, n_sl, n_sr, n_sI, n_sR, r_si, r_sl, r_sI, hC, hr0, hT, hA, hS, hK, hB, hR, hg, oo_div, q2]) (fun s hC => by
      refine ⟨s, hC, fun Q => ?_⟩
      have h := RC_tz h hV hC
      have hg := fun d Q => c_ges h hV (d := d) (Q := Q)
      have hq := RC_CQ h hV
      have hC := h.1
      unfold sh_C at hC
      have hr0 : w_r _ 1000 0 = some (gm_b G) := h.2.2.1
      have hT := h.2.2.2.1
      unfold CT_ at hT
      have hA : SO_ _ 1008 := h.2.1.2.1.1
      unfold SO_ at hA
      have hA2 : SO_ _ 1429 := h.2.1.2.2.2.2
      unfold SO_ at hA2
      have hS : CS_ _ 1008 (tm_n (sm_T S)) (bm_X (sm_B S)) := h.2.2.2.2.2.2.2.1.1
      unfold CS_ at hS
      have hK : sh_B _ 1007 := h.2.1.1
      unfold sh_B at hK
      have hB := h.2.2.2.2.2.2.2.1.2
      have hR := h.2.2.2.2.2.2.2.2.2
      simp only [Nat.reduceAdd] at hA hA2 hS hK hB
      obtain ⟨hn, hk4⟩ := hV.1
      obtain ⟨hW1, hW2, hW3⟩ := hV.2.2.2.1.1
      show wp (d + 12) 50 18 [some (v_R (some 1000)), some (v_I (Int32.ofNat (0 + 19 * xm_L (bm_X (sm_B S))))), s.1] [] s.2 Q = _
      rw [x_50_18]
      simp (disch := first | omega | decide | exact ko_b _ | assumption | (simp only [t_si, t_sl, t_sr, t_sI, t_sR, n_si, n_sl, n_sr, n_sI, n_sR, r_si, r_sl, r_sI]; first | done | omega)) only [x_50_e, x_50_b, x_50_19, x_50_20, x_50_23, x_50_26, x_50_27, x_50_30, x_50_33, x_50_34, x_50_36, x_50_37, x_50_38, x_50_39, x_50_40, x_50_43, x_50_44, x_50_47, x_50_50, x_50_51, x_50_54, x_50_57, x_50_58, x_50_59, x_50_61, x_50_62, x_50_64, x_50_65, x_50_66, x_50_67, x_50_70, x_50_73, x_50_74, x_50_75, x_50_76, x_50_79, x_50_82, x_50_83, x_50_84, x_50_87, x_50_88, x_50_91, x_50_92, x_50_95, x_50_98, x_50_101, x_50_103, x_50_104, x_50_105, x_50_106, x_50_109, x_50_112, x_50_113, x_50_114, x_50_115, x_50_117, x_50_118, x_50_119, x_50_122, x_50_125, x_50_126, bk_v, bk_n, nl_I, nl_R, nl_L, nl_0, oo_lt, oo_le, oo_eq, oo_add, oo_sub, oo_tn, oo_ir, nn_leT, nn_leF, nn_ltT, nn_ltF, nn_eqT, nn_eqF, bv_0, bv_1, ko_b, ko_1, ko_0, true_and, and_true, if_true, if_false, not_true_eq_false, not_false_eq_true, oo_02, decide_eq_true_eq, decide_eq_false_iff_not, ite_not, Nat.reduceAdd, Nat.reduceLT, Nat.reduceSub, Nat.reduceLeDiff, reduceIte, Bool.true_eq_false, Bool.false_eq_true, reduceCtorEq, eq_self, decide_true, decide_false, bv_t, bv_f, and_self, t_si, t_sl, t_sr, t_sI, t_sR, n_si, n_sl, n_sr, n_sI, n_sR, r_si, r_sl, r_sI, hC, hr0, hT, hA, hS, hK, hB, hR, hg, r_oneN]) (fr_rf _ _)
    refine ⟨s1.2, fr_mo f1 (fun a k z => tz_pc z), fun Q => ?_⟩
    refine Eq.trans ?_ (q1 Q)
    have hq := RC_CQ h hV
    have hC := h.1
    unfold sh_C at hC
    have hr0 : w_r _ 1000 0 = some (gm_b G) := h.2.2.1
    have hT := h.2.2.2.1
    unfold CT_ at hT
    have hA : SO_ _ 1008 := h.2.1.2.1.1
    unfold SO_ at hA
    have hA2 : SO_ _ 1429 := h.2.1.2.2.2.2
    unfold SO_ at hA2
    have hS : CS_ _ 1008 (tm_n (sm_T S)) (bm_X (sm_B S)) := h.2.2.2.2.2.2.2.1.1
    unfold CS_ at hS
    have hK : sh_B _ 1007 := h.2.1.1
    unfold sh_B at hK
    have hB := h.2.2.2.2.2.2.2.1.2
    have hR := h.2.2.2.2.2.2.2.2.2
    simp only [Nat.reduceAdd] at hA hA2 hS hK hB
    obtain ⟨hn, hk4⟩ := hV.1
    obtain ⟨hW1, hW2, hW3⟩ := hV.2.2.2.1.1
    simp (disch := first | omega | decide | exact ko_b _ | assumption | (simp only [t_si, t_sl, t_sr, t_sI, t_sR, n_si, n_sl, n_sr, n_sI, n_sR, r_si, r_sl, r_sI]; first | done | omega)) only [x_50_e, x_50_b, x_50_0, x_50_1, x_50_4, x_50_5, x_50_8, x_50_11, x_50_14, x_50_15, x_50_16, x_50_17, bk_v, bk_n, nl_I, nl_R, nl_L, nl_0, oo_lt, oo_le, oo_eq, oo_add, oo_sub, oo_tn, oo_ir, nn_leT, nn_leF, nn_ltT, nn_ltF, nn_eqT, nn_eqF, bv_0, bv_1, ko_b, ko_1, ko_0, true_and, and_true, if_true, if_false, not_true_eq_false, not_false_eq_true, oo_02, decide_eq_true_eq, decide_eq_false_iff_not, ite_not, Nat.reduceAdd, Nat.reduceLT, Nat.reduceSub, Nat.reduceLeDiff, reduceIte, Bool.true_eq_false, Bool.false_eq_true, reduceCtorEq, eq_self, decide_true, decide_false, bv_t, bv_f, and_self, t_si, t_sl, t_sr, t_sI, t_sR, n_si, n_sl, n_sr, n_sI, n_sR, r_si, r_sl, r_sI, hC, hr0, hT, hA, hS, hK, hB, hR, c_st hq, hst]
theorem m_one1 (h : MQ_ w (sm_T S) (bm_X (sm_B S))) {d l : Nat} {Q : Q_} {a3 a4 a5 : Option Vl} (hl : l < xm_L (bm_X (sm_B S))) : wp (d + 6) 244 18 [some (v_R (some 1440)), some (v_I (Int32.ofInt (-1))), some (v_I (Int32.ofNat l)), a3, a4, a5] [] w Q = wp (d + 6) 244 18 [some (v_R (some 1440)), some (v_I (match ff_ (p_one (sm_T S) (bm_X (sm_B S)) l) 0 19 with | some j => r_one (bm_X (sm_B S)) (19 * l + j) | none => Int32.ofInt (-1))), some (v_I (Int32.ofNat (l + 1))), some (v_I (Int32.ofNat (xm_t (bm_X (sm_B S)) l))), some (v_I (xm_w (bm_X (sm_B S)) (xm_t (bm_X (sm_B S)) l))), some (v_I (wv_ (match ff_ (p_one (sm_T S) (bm_X (sm_B S)) l) 0 19 with | some j => j + 1 | none => 19)))] [] w Q := by
  have h9 := h
  have hX9 := h.2.2.2.2
  have hn9 := h.2.2.2.1.1
  have ht := hX9.2.1 _ hl
  have e6 : w_i w 1455 (xm_t (bm_X (sm_B S)) l) = xm_w (bm_X (sm_B S)) (xm_t (bm_X (sm_B S)) l) := h.2.2.1.2.2.2.2.2.1 _ ht
  have e7 := s_id e6
  have hq := h
  obtain ⟨hM, hT, hS, ⟨hn, hk4⟩, hW1, hW2, hW3⟩ := hq
  unfold sh_M at hM
  unfold MT_ at hT
  unfold MS_ at hS
  have key := fun y => lp_fs (fun j (y : Int32) => wp (d + 6) 244 50 [some (v_R (some 1440)), some (v_I (Int32.ofInt (-1))), some (v_I (Int32.ofNat l)), some (v_I (Int32.ofNat (xm_t (bm_X (sm_B S)) l))), some (v_I (xm_w (bm_X (sm_B S)) (xm_t (bm_X (sm_B S)) l))), some (v_I (wv_ j))] [] (s_i w 1455 (xm_t (bm_X (sm_B S)) l) y) Q) (fun o => wp (d + 6) 244 18 [some (v_R (some 1440)), some (v_I (match o with | some j => r_one (bm_X (sm_B S)) (19 * l + j) | none => Int32.ofInt (-1))), some (v_I (Int32.ofNat (l + 1))), some (v_I (Int32.ofNat (xm_t (bm_X (sm_B S)) l))), some (v_I (xm_w (bm_X (sm_B S)) (xm_t (bm_X (sm_B S)) l))), some (v_I (wv_ (match o with | some j => j + 1 | none => 19)))] [] w Q) (p_one (sm_T S) (bm_X (sm_B S)) l) 19 0 y (fun j y _ hj => ?_) (fun y => ?_)
  · have := key (xm_w (bm_X (sm_B S)) (xm_t (bm_X (sm_B S)) l))
    rw [e7] at this
    refine Eq.trans ?_ this
    rw [x_244_18]
    simp (disch := first | omega | decide | exact ko_b _ | assumption | (simp only [t_si, t_sl, t_sr, t_sI, t_sR, n_si, n_sl, n_sr, n_sI, n_sR, r_si, r_sl, r_sI]; first | done | omega)) only [x_244_e, x_244_b, x_244_19, x_244_20, x_244_23, x_244_26, x_244_27, x_244_28, x_244_31, x_244_32, x_244_35, x_244_36, x_244_37, x_244_38, x_244_39, x_244_42, x_244_43, x_244_44, x_244_46, x_244_48, bk_v, bk_n, nl_I, nl_R, nl_L, nl_0, oo_lt, oo_le, oo_eq, oo_add, oo_sub, oo_tn, oo_ir, nn_leT, nn_leF, nn_ltT, nn_ltF, nn_eqT, nn_eqF, bv_0, bv_1, ko_b, ko_1, ko_0, true_and, and_true, if_true, if_false, not_true_eq_false, not_false_eq_true, oo_02, decide_eq_true_eq, decide_eq_false_iff_not, ite_not, Nat.reduceAdd, Nat.reduceLT, Nat.reduceSub, Nat.reduceLeDiff, reduceIte, Bool.true_eq_false, Bool.false_eq_true, reduceCtorEq, eq_self, decide_true, decide_false, bv_t, bv_f, and_self, t_si, t_sl, t_sr, t_sI, t_sR, n_si, n_sl, n_sr, n_sI, n_sR, r_si, r_sl, r_sI, hM, hT, hS, wv_0]
  · have hq1 : MQ_ (s_i w 1455 (xm_t (bm_X (sm_B S)) l) (wv_ j)) (sm_T S) (x_wed (bm_X (sm_B S)) (xm_t (bm_X (sm_B S)) l) (wv_ j)) := MQ_X h9 (fr_si (fr_rf _ _) (by unfold p_st; omega)) (MS_wed h9.2.2.1)
      (WX_wed hX9)
    have g1 := wv_s (j := j) (by omega)
    have g2 := wv_g (j := j) (by omega)
    have g3 := wv_g (j := j + 1) (by omega)
    have g4 := r_ne (t := xm_t (bm_X (sm_B S)) l) (j := j) (by omega) (by omega)
    unfold p_one
    by_cases c1 : wv_ j = xm_w (bm_X (sm_B S)) (xm_t (bm_X (sm_B S)) l)
    · refine Or.inr ⟨by rw [decide_eq_true c1]; rfl, wv_ j, ?_⟩
      rw [c1] at g1 g2
      rw [x_244_50]
      simp (disch := first | omega | decide | exact ko_b _ | assumption | (simp only [t_si, t_sl, t_sr, t_sI, t_sR, n_si, n_sl, n_sr, n_sI, n_sR, r_si, r_sl, r_sI]; first | done | omega)) only [x_244_e, x_244_b, x_244_52, x_244_54, x_244_57, x_244_58, x_244_59, x_244_62, x_244_63, x_244_66, x_244_67, x_244_69, x_244_70, x_244_72, x_244_74, x_244_77, x_244_78, x_244_81, x_244_84, x_244_86, x_244_87, x_244_88, x_244_90, x_244_91, x_244_93, x_244_94, x_244_95, x_244_98, x_244_101, x_244_102, x_244_105, x_244_106, x_244_108, x_244_109, x_244_112, bk_v, bk_n, nl_I, nl_R, nl_L, nl_0, oo_lt, oo_le, oo_eq, oo_add, oo_sub, oo_tn, oo_ir, nn_leT, nn_leF, nn_ltT, nn_ltF, nn_eqT, nn_eqF, bv_0, bv_1, ko_b, ko_1, ko_0, true_and, and_true, if_true, if_false, not_true_eq_false, not_false_eq_true, oo_02, decide_eq_true_eq, decide_eq_false_iff_not, ite_not, Nat.reduceAdd, Nat.reduceLT, Nat.reduceSub, Nat.reduceLeDiff, reduceIte, Bool.true_eq_false, Bool.false_eq_true, reduceCtorEq, eq_self, decide_true, decide_false, bv_t, bv_f, and_self, t_si, t_sl, t_sr, t_sI, t_sR, n_si, n_sl, n_sr, n_sI, n_sR, r_si, r_sl, r_sI, hM, s_ss, g1, g2, c1]
    · cases c2 : f_st (sm_T S) (x_wed (bm_X (sm_B S)) (xm_t (bm_X (sm_B S)) l) (wv_ j)) with
      | false =>
        refine Or.inr ⟨by rw [Bool.and_false], wv_ j, ?_⟩
        rw [x_244_50]
        simp (disch := first | omega | decide | exact ko_b _ | assumption | (simp only [t_si, t_sl, t_sr, t_sI, t_sR, n_si, n_sl, n_sr, n_sI, n_sR, r_si, r_sl, r_sI]; first | done | omega)) only [x_244_e, x_244_b, x_244_52, x_244_54, x_244_57, x_244_58, x_244_59, x_244_62, x_244_63, x_244_66, x_244_67, x_244_69, x_244_70, x_244_72, x_244_74, x_244_77, x_244_78, x_244_81, x_244_84, x_244_86, x_244_87, x_244_88, x_244_90, x_244_91, x_244_93, x_244_94, x_244_95, x_244_98, x_244_101, x_244_102, x_244_105, x_244_106, x_244_108, x_244_109, x_244_112, bk_v, bk_n, nl_I, nl_R, nl_L, nl_0, oo_lt, oo_le, oo_eq, oo_add, oo_sub, oo_tn, oo_ir, nn_leT, nn_leF, nn_ltT, nn_ltF, nn_eqT, nn_eqF, bv_0, bv_1, ko_b, ko_1, ko_0, true_and, and_true, if_true, if_false, not_true_eq_false, not_false_eq_true, oo_02, decide_eq_true_eq, decide_eq_false_iff_not, ite_not, Nat.reduceAdd, Nat.reduceLT, Nat.reduceSub, Nat.reduceLeDiff, reduceIte, Bool.true_eq_false, Bool.false_eq_true, reduceCtorEq, eq_self, decide_true, decide_false, bv_t, bv_f, and_self, t_si, t_sl, t_sr, t_sI, t_sR, n_si, n_sl, n_sr, n_sI, n_sR, r_si, r_sl, r_sI, hM, s_ss, g1, g2, c1, m_st hq1, c2]
      | true =>
        refine Or.inl ⟨by rw [decide_eq_false c1]; rfl, ?_⟩
        simp only [r_one_k (X := bm_X (sm_B S)) (l := l) (show j < 19 by omega)]
        rw [x_244_50]
        simp (disch := first | omega | decide | exact ko_b _ | assumption | (simp only [t_si, t_sl, t_sr, t_sI, t_sR, n_si, n_sl, n_sr, n_sI, n_sR, r_si, r_sl, r_sI]; first | done | omega)) only [x_244_e, x_244_b, x_244_52, x_244_54, x_244_57, x_244_58, x_244_59, x_244_62, x_244_63, x_244_66, x_244_67, x_244_69, x_244_70, x_244_72, x_244_74, x_244_77, x_244_78, x_244_81, x_244_84, x_244_86, x_244_87, x_244_88, x_244_90, x_244_91, x_244_93, x_244_94, x_244_95, x_244_98, x_244_101, x_244_102, x_244_105, x_244_106, x_244_108, x_244_109, x_244_112, bk_v, bk_n, nl_I, nl_R, nl_L, nl_0, oo_lt, oo_le, oo_eq, oo_add, oo_sub, oo_tn, oo_ir, nn_leT, nn_leF, nn_ltT, nn_ltF, nn_eqT, nn_eqF, bv_0, bv_1, ko_b, ko_1, ko_0, true_and, and_true, if_true, if_false, not_true_eq_false, not_false_eq_true, oo_02, decide_eq_true_eq, decide_eq_false_iff_not, ite_not, Nat.reduceAdd, Nat.reduceLT, Nat.reduceSub, Nat.reduceLeDiff, reduceIte, Bool.true_eq_false, Bool.false_eq_true, reduceCtorEq, eq_self, decide_true, decide_false, bv_t, bv_f, and_self, t_si, t_sl, t_sr, t_sI, t_sR, n_si, n_sl, n_sr, n_sI, n_sR, r_si, r_sl, r_sI, hM, s_ss, g1, g2, c1, m_st hq1, c2, oo_mul]
        rw [x_244_50]
        by_cases c3 : 18 < j + 1
        · simp (disch := first | omega | decide | exact ko_b _ | assumption | (simp only [t_si, t_sl, t_sr, t_sI, t_sR, n_si, n_sl, n_sr, n_sI, n_sR, r_si, r_sl, r_sI]; first | done | omega)) only [x_244_e, x_244_b, x_244_52, x_244_54, x_244_57, x_244_58, x_244_59, x_244_62, x_244_63, x_244_66, x_244_67, x_244_69, x_244_70, x_244_72, x_244_74, x_244_77, x_244_78, x_244_81, x_244_84, x_244_86, x_244_87, x_244_88, x_244_90, x_244_91, x_244_93, x_244_94, x_244_95, x_244_98, x_244_101, x_244_102, x_244_105, x_244_106, x_244_108, x_244_109, x_244_112, bk_v, bk_n, nl_I, nl_R, nl_L, nl_0, oo_lt, oo_le, oo_eq, oo_add, oo_sub, oo_tn, oo_ir, nn_leT, nn_leF, nn_ltT, nn_ltF, nn_eqT, nn_eqF, bv_0, bv_1, ko_b, ko_1, ko_0, true_and, and_true, if_true, if_false, not_true_eq_false, not_false_eq_true, oo_02, decide_eq_true_eq, decide_eq_false_iff_not, ite_not, Nat.reduceAdd, Nat.reduceLT, Nat.reduceSub, Nat.reduceLeDiff, reduceIte, Bool.true_eq_false, Bool.false_eq_true, reduceCtorEq, eq_self, decide_true, decide_false, bv_t, bv_f, and_self, t_si, t_sl, t_sr, t_sI, t_sR, n_si, n_sl, n_sr, n_sI, n_sR, r_si, r_sl, r_sI, hM, s_ss, g3, c3, e7]
        · simp (disch := first | omega | decide | exact ko_b _ | assumption | (simp only [t_si, t_sl, t_sr, t_sI, t_sR, n_si, n_sl, n_sr, n_sI, n_sR, r_si, r_sl, r_sI]; first | done | omega)) only [x_244_e, x_244_b, x_244_52, x_244_54, x_244_57, x_244_58, x_244_59, x_244_62, x_244_63, x_244_66, x_244_67, x_244_69, x_244_70, x_244_72, x_244_74, x_244_77, x_244_78, x_244_81, x_244_84, x_244_86, x_244_87, x_244_88, x_244_90, x_244_91, x_244_93, x_244_94, x_244_95, x_244_98, x_244_101, x_244_102, x_244_105, x_244_106, x_244_108, x_244_109, x_244_112, bk_v, bk_n, nl_I, nl_R, nl_L, nl_0, oo_lt, oo_le, oo_eq, oo_add, oo_sub, oo_tn, oo_ir, nn_leT, nn_leF, nn_ltT, nn_ltF, nn_eqT, nn_eqF, bv_0, bv_1, ko_b, ko_1, ko_0, true_and, and_true, if_true, if_false, not_true_eq_false, not_false_eq_true, oo_02, decide_eq_true_eq, decide_eq_false_iff_not, ite_not, Nat.reduceAdd, Nat.reduceLT, Nat.reduceSub, Nat.reduceLeDiff, reduceIte, Bool.true_eq_false, Bool.false_eq_true, reduceCtorEq, eq_self, decide_true, decide_false, bv_t, bv_f, and_self, t_si, t_sl, t_sr, t_sI, t_sR, n_si, n_sl, n_sr, n_sI, n_sR, r_si, r_sl, r_sI, hM, s_ss, g3, c3, g4, e7]
  · rw [x_244_50]
    have g2 := wv_g (j := 0 + 19) (by omega)
    simp (disch := first | omega | decide | exact ko_b _ | assumption | (simp only [t_si, t_sl, t_sr, t_sI, t_sR, n_si, n_sl, n_sr, n_sI, n_sR, r_si, r_sl, r_sI]; first | done | omega)) only [x_244_e, x_244_b, x_244_52, x_244_54, x_244_57, x_244_58, x_244_59, x_244_62, x_244_63, x_244_66, x_244_67, x_244_69, x_244_70, x_244_72, x_244_74, x_244_77, x_244_78, x_244_81, x_244_84, x_244_86, x_244_87, x_244_88, x_244_90, x_244_91, x_244_93, x_244_94, x_244_95, x_244_98, x_244_101, x_244_102, x_244_105, x_244_106, x_244_108, x_244_109, x_244_112, bk_v, bk_n, nl_I, nl_R, nl_L, nl_0, oo_lt, oo_le, oo_eq, oo_add, oo_sub, oo_tn, oo_ir, nn_leT, nn_leF, nn_ltT, nn_ltF, nn_eqT, nn_eqF, bv_0, bv_1, ko_b, ko_1, ko_0, true_and, and_true, if_true, if_false, not_true_eq_false, not_false_eq_true, oo_02, decide_eq_true_eq, decide_eq_false_iff_not, ite_not, Nat.reduceAdd, Nat.reduceLT, Nat.reduceSub, Nat.reduceLeDiff, reduceIte, Bool.true_eq_false, Bool.false_eq_true, reduceCtorEq, eq_self, decide_true, decide_false, bv_t, bv_f, and_self, t_si, t_sl, t_sr, t_sI, t_sR, n_si, n_sl, n_sr, n_sI, n_sR, r_si, r_sl, r_sI, hM, s_ss, g2, e7]
theorem m_one (h9 : RM_ w S) (hV : WS_ S) {d : Nat} : MR_ (d + 6) 244 [v_R (some 1440)] w (v_I (f_one (sm_T S) (bm_X (sm_B S)))) 0 := by
  refine mr_go (ls := [some (v_R (some 1440)), none, none, none, none, none]) (fun Q => ?_) (fun w0 hf hc => mr_0 hc (fun Q => ?_))
  · have h := h9
    have hq := RM_MQ h hV
    have hMM := hq
    obtain ⟨hM, hT, hS, ⟨hn, hk4⟩, hW1, hW2, hW3⟩ := hMM
    unfold sh_M at hM
    unfold MT_ at hT
    unfold MS_ at hS
    have hB := h.2.2.1.2
    unfold PK_ at hB
    have hR := h.2.2.2
    simp (disch := first | omega | decide | exact ko_b _ | assumption | (simp only [t_si, t_sl, t_sr, t_sI, t_sR, n_si, n_sl, n_sr, n_sI, n_sR, r_si, r_sl, r_sI]; first | done | omega)) only [x_244_e, x_244_b, x_244_0, x_244_1, x_244_2, x_244_6, x_244_9, x_244_12, x_244_13, x_244_14, x_244_15, x_244_16, x_244_17, x_244_19, x_244_20, x_244_23, x_244_26, x_244_27, x_244_28, x_244_31, x_244_32, x_244_35, x_244_36, x_244_37, x_244_38, x_244_39, x_244_42, x_244_43, x_244_44, x_244_46, x_244_48, x_244_52, x_244_54, x_244_57, x_244_58, x_244_59, x_244_62, x_244_63, x_244_66, x_244_67, x_244_69, x_244_70, x_244_72, x_244_74, x_244_77, x_244_78, x_244_81, x_244_84, x_244_86, x_244_87, x_244_88, x_244_90, x_244_91, x_244_93, x_244_94, x_244_95, x_244_98, x_244_101, x_244_102, x_244_105, x_244_106, x_244_108, x_244_109, x_244_112, x_244_115, x_244_116, bk_v, bk_n, nl_I, nl_R, nl_L, nl_0, oo_lt, oo_le, oo_eq, oo_add, oo_sub, oo_tn, oo_ir, nn_leT, nn_leF, nn_ltT, nn_ltF, nn_eqT, nn_eqF, bv_0, bv_1, ko_b, ko_1, ko_0, true_and, and_true, if_true, if_false, not_true_eq_false, not_false_eq_true, oo_02, decide_eq_true_eq, decide_eq_false_iff_not, ite_not, Nat.reduceAdd, Nat.reduceLT, Nat.reduceSub, Nat.reduceLeDiff, reduceIte, Bool.true_eq_false, Bool.false_eq_true, reduceCtorEq, eq_self, decide_true, decide_false, bv_t, bv_f, and_self, t_si, t_sl, t_sr, t_sI, t_sR, n_si, n_sl, n_sr, n_sI, n_sR, r_si, r_sl, r_sI, hM, hT, hS, hB, hR]
  · have h := RM_fr h9 hV hf
    have hq9 := RM_MQ h hV
    have hX9 := hV.2.2.2.1.1
    unfold f_one
    by_cases hst : f_st (sm_T S) (bm_X (sm_B S)) = true
    · rw [if_pos hst]
      have hq := RM_MQ h hV
      have hMM := hq
      obtain ⟨hM, hT, hS, ⟨hn, hk4⟩, hW1, hW2, hW3⟩ := hMM
      unfold sh_M at hM
      unfold MT_ at hT
      unfold MS_ at hS
      have hB := h.2.2.1.2
      unfold PK_ at hB
      have hR := h.2.2.2
      simp (disch := first | omega | decide | exact ko_b _ | assumption | (simp only [t_si, t_sl, t_sr, t_sI, t_sR, n_si, n_sl, n_sr, n_sI, n_sR, r_si, r_sl, r_sI]; first | done | omega)) only [x_244_e, x_244_b, x_244_5, x_244_6, x_244_9, x_244_12, x_244_13, x_244_14, x_244_15, x_244_16, x_244_17, bk_v, bk_n, nl_I, nl_R, nl_L, nl_0, oo_lt, oo_le, oo_eq, oo_add, oo_sub, oo_tn, oo_ir, nn_leT, nn_leF, nn_ltT, nn_ltF, nn_eqT, nn_eqF, bv_0, bv_1, ko_b, ko_1, ko_0, true_and, and_true, if_true, if_false, not_true_eq_false, not_false_eq_true, oo_02, decide_eq_true_eq, decide_eq_false_iff_not, ite_not, Nat.reduceAdd, Nat.reduceLT, Nat.reduceSub, Nat.reduceLeDiff, reduceIte, Bool.true_eq_false, Bool.false_eq_true, reduceCtorEq, eq_self, decide_true, decide_false, bv_t, bv_f, and_self, t_si, t_sl, t_sr, t_sI, t_sR, n_si, n_sl, n_sr, n_sI, n_sR, r_si, r_sl, r_sI, hM, hT, hS, hB, hR, m_st hq, hst]
    · rw [if_neg hst]
      have hst := Bool.eq_false_iff.mpr hst
      have key := lp_fs (fun l (s : Option Vl × Option Vl × Option Vl) => wp (d + 6) 244 18 [some (v_R (some 1440)), some (v_I (Int32.ofInt (-1))), some (v_I (Int32.ofNat l)), s.1, s.2.1, s.2.2] [] w0 Q) (fun o => Q (Sum.inl (some (v_I (r_oneO (bm_X (sm_B S)) (o.bind (fun l => (ff_ (p_one (sm_T S) (bm_X (sm_B S)) l) 0 19).map (19 * l + ·))))))) w0) (fun l => (ff_ (p_one (sm_T S) (bm_X (sm_B S)) l) 0 19).isSome) (xm_L (bm_X (sm_B S))) 0 (none, none, none) (fun l s _ hl => ?_) (fun s => ?_)
      · rw [ff_rows _ (by decide)]
        refine Eq.trans ?_ key
        have hq := RM_MQ h hV
        have hMM := hq
        obtain ⟨hM, hT, hS, ⟨hn, hk4⟩, hW1, hW2, hW3⟩ := hMM
        unfold sh_M at hM
        unfold MT_ at hT
        unfold MS_ at hS
        have hB := h.2.2.1.2
        unfold PK_ at hB
        have hR := h.2.2.2
        simp (disch := first | omega | decide | exact ko_b _ | assumption | (simp only [t_si, t_sl, t_sr, t_sI, t_sR, n_si, n_sl, n_sr, n_sI, n_sR, r_si, r_sl, r_sI]; first | done | omega)) only [x_244_e, x_244_b, x_244_5, x_244_6, x_244_9, x_244_12, x_244_13, x_244_14, x_244_15, x_244_16, x_244_17, bk_v, bk_n, nl_I, nl_R, nl_L, nl_0, oo_lt, oo_le, oo_eq, oo_add, oo_sub, oo_tn, oo_ir, nn_leT, nn_leF, nn_ltT, nn_ltF, nn_eqT, nn_eqF, bv_0, bv_1, ko_b, ko_1, ko_0, true_and, and_true, if_true, if_false, not_true_eq_false, not_false_eq_true, oo_02, decide_eq_true_eq, decide_eq_false_iff_not, ite_not, Nat.reduceAdd, Nat.reduceLT, Nat.reduceSub, Nat.reduceLeDiff, reduceIte, Bool.true_eq_false, Bool.false_eq_true, reduceCtorEq, eq_self, decide_true, decide_false, bv_t, bv_f, and_self, t_si, t_sl, t_sr, t_sI, t_sR, n_si, n_sl, n_sr, n_sI, n_sR, r_si, r_sl, r_sI, hM, hT, hS, hB, hR, m_st hq, hst]
      · have hl : l < xm_L (bm_X (sm_B S)) := by omega
        have ht := hX9.2.1 _ hl
        have hn9 := hV.1.1
        rw [m_one1 hq9 hl]
        cases e : ff_ (p_one (sm_T S) (bm_X (sm_B S)) l) 0 19 with
        | none => exact Or.inr ⟨rfl, (some (v_I (Int32.ofNat (xm_t (bm_X (sm_B S)) l))), some (v_I (xm_w (bm_X (sm_B S)) (xm_t (bm_X (sm_B S)) l))), some (v_I (wv_ 19))), rfl⟩
        | some j =>
          refine Or.inl ⟨rfl, ?_⟩
          have hj := (ff_s e).2.1
          simp only [Option.bind_some, e, Option.map_some, r_oneS]
          have g4 := r_ne (t := xm_t (bm_X (sm_B S)) l) (j := j) (by omega) (by omega)
          rw [← r_one_k (X := bm_X (sm_B S)) (l := l) (show j < 19 by omega)] at g4
          have hq := RM_MQ h hV
          have hMM := hq
          obtain ⟨hM, hT, hS, ⟨hn, hk4⟩, hW1, hW2, hW3⟩ := hMM
          unfold sh_M at hM
          unfold MT_ at hT
          unfold MS_ at hS
          have hB := h.2.2.1.2
          unfold PK_ at hB
          have hR := h.2.2.2
          rw [x_244_18]
          by_cases c : l + 1 < xm_L (bm_X (sm_B S))
          · simp (disch := first | omega | decide | exact ko_b _ | assumption | (simp only [t_si, t_sl, t_sr, t_sI, t_sR, n_si, n_sl, n_sr, n_sI, n_sR, r_si, r_sl, r_sI]; first | done | omega)) only [x_244_e, x_244_b, x_244_19, x_244_20, x_244_23, x_244_26, x_244_27, x_244_28, x_244_31, x_244_32, x_244_35, x_244_36, x_244_37, x_244_38, x_244_39, x_244_42, x_244_43, x_244_44, x_244_46, x_244_48, x_244_52, x_244_54, x_244_57, x_244_58, x_244_59, x_244_62, x_244_63, x_244_66, x_244_67, x_244_69, x_244_70, x_244_72, x_244_74, x_244_77, x_244_78, x_244_81, x_244_84, x_244_86, x_244_87, x_244_88, x_244_90, x_244_91, x_244_93, x_244_94, x_244_95, x_244_98, x_244_101, x_244_102, x_244_105, x_244_106, x_244_108, x_244_109, x_244_112, x_244_115, x_244_116, bk_v, bk_n, nl_I, nl_R, nl_L, nl_0, oo_lt, oo_le, oo_eq, oo_add, oo_sub, oo_tn, oo_ir, nn_leT, nn_leF, nn_ltT, nn_ltF, nn_eqT, nn_eqF, bv_0, bv_1, ko_b, ko_1, ko_0, true_and, and_true, if_true, if_false, not_true_eq_false, not_false_eq_true, oo_02, decide_eq_true_eq, decide_eq_false_iff_not, ite_not, Nat.reduceAdd, Nat.reduceLT, Nat.reduceSub, Nat.reduceLeDiff, reduceIte, Bool.true_eq_false, Bool.false_eq_true, reduceCtorEq, eq_self, decide_true, decide_false, bv_t, bv_f, and_self, t_si, t_sl, t_sr, t_sI, t_sR, n_si, n_sl, n_sr, n_sI, n_sR, r_si, r_sl, r_sI, hM, hT, hS, hB, hR, g4]
          · simp (disch := first | omega | decide | exact ko_b _ | assumption | (simp only [t_si, t_sl, t_sr, t_sI, t_sR, n_si, n_sl, n_sr, n_sI, n_sR, r_si, r_sl, r_sI]; first | done | omega)) only [x_244_e, x_244_b, x_244_19, x_244_20, x_244_23, x_244_26, x_244_27, x_244_28, x_244_31, x_244_32, x_244_35, x_244_36, x_244_37, x_244_38, x_244_39, x_244_42, x_244_43, x_244_44, x_244_46, x_244_48, x_244_52, x_244_54, x_244_57, x_244_58, x_244_59, x_244_62, x_244_63, x_244_66, x_244_67, x_244_69, x_244_70, x_244_72, x_244_74, x_244_77, x_244_78, x_244_81, x_244_84, x_244_86, x_244_87, x_244_88, x_244_90, x_244_91, x_244_93, x_244_94, x_244_95, x_244_98, x_244_101, x_244_102, x_244_105, x_244_106, x_244_108, x_244_109, x_244_112, x_244_115, x_244_116, bk_v, bk_n, nl_I, nl_R, nl_L, nl_0, oo_lt, oo_le, oo_eq, oo_add, oo_sub, oo_tn, oo_ir, nn_leT, nn_leF, nn_ltT, nn_ltF, nn_eqT, nn_eqF, bv_0, bv_1, ko_b, ko_1, ko_0, true_and, and_true, if_true, if_false, not_true_eq_false, not_false_eq_true, oo_02, decide_eq_true_eq, decide_eq_false_iff_not, ite_not, Nat.reduceAdd, Nat.reduceLT, Nat.reduceSub, Nat.reduceLeDiff, reduceIte, Bool.true_eq_false, Bool.false_eq_true, reduceCtorEq, eq_self, decide_true, decide_false, bv_t, bv_f, and_self, t_si, t_sl, t_sr, t_sI, t_sR, n_si, n_sl, n_sr, n_sI, n_sR, r_si, r_sl, r_sI, hM, hT, hS, hB, hR]
      · have hq := RM_MQ h hV
        have hMM := hq
        obtain ⟨hM, hT, hS, ⟨hn, hk4⟩, hW1, hW2, hW3⟩ := hMM
        unfold sh_M at hM
        unfold MT_ at hT
        unfold MS_ at hS
        have hB := h.2.2.1.2
        unfold PK_ at hB
        have hR := h.2.2.2
        rw [x_244_18]
        simp (disch := first | omega | decide | exact ko_b _ | assumption | (simp only [t_si, t_sl, t_sr, t_sI, t_sR, n_si, n_sl, n_sr, n_sI, n_sR, r_si, r_sl, r_sI]; first | done | omega)) only [x_244_e, x_244_b, x_244_19, x_244_20, x_244_23, x_244_26, x_244_27, x_244_28, x_244_31, x_244_32, x_244_35, x_244_36, x_244_37, x_244_38, x_244_39, x_244_42, x_244_43, x_244_44, x_244_46, x_244_48, x_244_52, x_244_54, x_244_57, x_244_58, x_244_59, x_244_62, x_244_63, x_244_66, x_244_67, x_244_69, x_244_70, x_244_72, x_244_74, x_244_77, x_244_78, x_244_81, x_244_84, x_244_86, x_244_87, x_244_88, x_244_90, x_244_91, x_244_93, x_244_94, x_244_95, x_244_98, x_244_101, x_244_102, x_244_105, x_244_106, x_244_108, x_244_109, x_244_112, x_244_115, x_244_116, bk_v, bk_n, nl_I, nl_R, nl_L, nl_0, oo_lt, oo_le, oo_eq, oo_add, oo_sub, oo_tn, oo_ir, nn_leT, nn_leF, nn_ltT, nn_ltF, nn_eqT, nn_eqF, bv_0, bv_1, ko_b, ko_1, ko_0, true_and, and_true, if_true, if_false, not_true_eq_false, not_false_eq_true, oo_02, decide_eq_true_eq, decide_eq_false_iff_not, ite_not, Nat.reduceAdd, Nat.reduceLT, Nat.reduceSub, Nat.reduceLeDiff, reduceIte, Bool.true_eq_false, Bool.false_eq_true, reduceCtorEq, eq_self, decide_true, decide_false, bv_t, bv_f, and_self, t_si, t_sl, t_sr, t_sI, t_sR, n_si, n_sl, n_sr, n_sI, n_sR, r_si, r_sl, r_sI, hM, hT, hS, hB, hR, Option.bind_none, r_oneN]
end
