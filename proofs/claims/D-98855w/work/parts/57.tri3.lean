/-! TRIALS, part three: the model's trials put back; without, swap -/
set_option maxRecDepth 100000
theorem lp_iw {σ : Type} (H : Nat → σ → Wd → Q_ → Prop) (C : Wd → Prop) (f : Nat → σ → σ) : ∀ (n k : Nat) (s : σ) (w : Wd), (∀ j s w, k ≤ j → j < k + n → C w → ∃ w1, C w1 ∧ ∀ Q, H j s w Q = H (j + 1) (f j s) w1 Q) → C w → ∃ w1, C w1 ∧ ∀ Q, H k s w Q = H (k + n) (it_ f k n s) w1 Q := by
  intro n
  induction n with
  | zero => intro k s w _ hC; exact ⟨w, hC, fun _ => rfl⟩
  | succ n ih =>
    intro k s w h hC
    obtain ⟨w1, c1, q1⟩ := h k s w (Nat.le_refl _) (by omega) hC
    obtain ⟨w2, c2, q2⟩ := ih (k + 1) (f k s) w1 (fun j s w h1 h2 => h j s w (by omega) (by omega)) c1
    refine ⟨w2, c2, fun Q => ?_⟩
    rw [q1 Q, q2 Q, show k + 1 + n = k + (n + 1) by omega]
    rfl
theorem lp_fw (H : Nat → Wd → Q_ → Prop) (K : Option Nat → Wd → Q_ → Prop) (C : Wd → Prop) (p : Nat → Bool) : ∀ (n k : Nat) (w : Wd), (∀ j w, k ≤ j → j < k + n → C w → ∃ w1, C w1 ∧ ∀ Q, H j w Q = if p j = true then K (some j) w1 Q else H (j + 1) w1 Q) → (∀ w, C w → ∃ w1, C w1 ∧ ∀ Q, H (k + n) w Q = K none w1 Q) → C w → ∃ w1, C w1 ∧ ∀ Q, H k w Q = K (ff_ p k n) w1 Q := by
  intro n
  induction n with
  | zero => intro k w _ e hC; exact e w hC
  | succ n ih =>
    intro k w h e hC
    obtain ⟨w1, c1, q1⟩ := h k w (Nat.le_refl _) (by omega) hC
    rw [ff_]
    by_cases hp : p k = true
    · rw [if_pos hp]
      exact ⟨w1, c1, fun Q => by rw [q1 Q, if_pos hp]⟩
    · rw [if_neg hp]
      obtain ⟨w2, c2, q2⟩ := ih (k + 1) w1 (fun j w h1 h2 => h j w (by omega) (by omega)) (by rw [show k + 1 + n = k + (n + 1) by omega]; exact e) c1
      exact ⟨w2, c2, fun Q => by rw [q1 Q, if_neg hp, q2 Q]⟩
/-- what a trial of the model's may change between pack and unpack -/
def p_tr (a k : Nat) : Prop := p_st a k ∨ (a ≠ 1460 ∧ pm_ a k)
theorem m_back {w0 w1 w2 w3 : Wd} (h1 : Fr_ (fun a k => a = 1460 ∧ 0 ≤ k ∧ k < 0 + 43) w0 w1) (r1 : RR_ w1 w0 1460 0) (h2 : Fr_ p_tr w1 w2) (h3 : Fr_ p_st w2 w3) (r3 : RR_ w2 w3 1460 0) : Fr_ pm_ w0 w3 := by
  refine ⟨by rw [h3.1, h2.1, h1.1], by rw [h3.2.1, h2.2.1, h1.2.1], by rw [h3.2.2.1, h2.2.2.1, h1.2.2.1], by rw [h3.2.2.2.1, h2.2.2.2.1, h1.2.2.2.1], by rw [h3.2.2.2.2.1, h2.2.2.2.2.1, h1.2.2.2.2.1], fun a k hp => ?_⟩
  have g : ∀ k, w_i w2 1460 k = w_i w1 1460 k := fun k => h2.2.2.2.2.2 _ _ (by unfold p_tr p_st; omega)
  obtain ⟨a1, a2, a3, a4, a5, a6, a7⟩ := r1
  obtain ⟨b1, b2, b3, b4, b5, b6, b7⟩ := r3
  simp only [g] at b1 b2 b3 b4 b5 b6 b7
  by_cases hs : p_st a k
  · have hk : a = 1440 ∨ k < 10 := by
      unfold pm_ at hp
      unfold p_st at hs
      omega
    unfold p_st at hs
    rcases (by omega : (a = 1440 ∧ k = 28) ∨ (a = 1440 ∧ k = 29) ∨ (a = 1440 ∧ k = 30) ∨ (a = 1453 ∧ k < 10) ∨ (a = 1454 ∧ k < 10) ∨ (a = 1455 ∧ k < 10) ∨ (a = 1456 ∧ k < 10)) with ⟨rfl, rfl⟩ | ⟨rfl, rfl⟩ | ⟨rfl, rfl⟩ | ⟨rfl, hk2⟩ | ⟨rfl, hk2⟩ | ⟨rfl, hk2⟩ | ⟨rfl, hk2⟩
    · exact b1.symm.trans a1
    · exact b2.symm.trans a2
    · exact b3.symm.trans a3
    · exact (b4 k hk2).symm.trans (a4 k hk2)
    · exact (b5 k hk2).symm.trans (a5 k hk2)
    · exact (b6 k hk2).symm.trans (a6 k hk2)
    · exact (b7 k hk2).symm.trans (a7 k hk2)
  · rw [h3.2.2.2.2.2 _ _ hs, h2.2.2.2.2.2 _ _ (fun z => z.elim hs (fun y => hp y.2)), h1.2.2.2.2.2 _ _ (fun z => hp (by unfold pm_; omega))]
theorem p_st_tr {a k : Nat} (h : p_st a k) : p_tr a k := Or.inl h
def f_sw1 (T : Tm) (X : Xm) (a b : Nat) (s : Int32 × Int32) : Int32 × Int32 := if f_more T (x_swp X a b) ≤ s.2 then s else (Int32.ofNat (10 * a + b), f_more T (x_swp X a b))
def f_swap (T : Tm) (X : Xm) : Int32 := (it_ (fun a s => it_ (f_sw1 T X a) (a + 1) (xm_L X - (a + 1)) s) 0 (xm_L X) (Int32.ofInt (-1), f_more T X)).1
section
variable {w : Wd} {S : Sm} {G : Gm} {σ : Nat → Nat}
theorem MQ_w {T : Tm} {X : Xm} {w1 : Wd} (h : MQ_ w T X) (hf : Fr_ (fun a k => a = 1460 ∧ 0 ≤ k ∧ k < 0 + 43) w w1) : MQ_ w1 T X := MQ_fr h (fr_mo hf (fun a k z => by unfold pm_; omega))
theorem m_wout (h9 : RM_ w S) (hV : WS_ S) {d t l : Nat} (ht : t < tm_n (sm_T S)) (hf9 : f_lv (bm_X (sm_B S)) t = some l) : MR_ (d + 6) 217 [v_R (some 1440), v_I (Int32.ofNat t)] w (v_I (b_v (f_st (sm_T S) (x_take (bm_X (sm_B S)) l)))) 0 := by
  refine mr_go (ls := [some (v_R (some 1440)), some (v_I (Int32.ofNat t)), none]) (fun Q => ?_) (fun w0 hf hc => ?_)
  · have h := h9
    have hq := RM_MQ h hV
    have hMM := hq
    obtain ⟨hM, hT, hS, ⟨hn, hk4⟩, hW1, hW2, hW3⟩ := hMM
    unfold sh_M at hM
    unfold MT_ at hT
    unfold MS_ at hS
    have hB := h.2.2.1.2
    unfold PK_ at hB
    have hR := h.2.2.2
    simp (disch := first | omega | decide | exact ko_b _ | assumption | (simp only [t_si, t_sl, t_sr, t_sI, t_sR, n_si, n_sl, n_sr, n_sI, n_sR, r_si, r_sl, r_sI]; first | done | omega)) only [x_217_e, x_217_b, x_217_0, x_217_1, x_217_2, x_217_6, x_217_7, x_217_10, x_217_13, x_217_14, x_217_15, x_217_18, x_217_19, x_217_20, x_217_21, x_217_24, x_217_25, x_217_28, x_217_29, x_217_30, x_217_31, x_217_32, x_217_35, x_217_36, x_217_39, x_217_40, x_217_41, x_217_44, x_217_45, x_217_48, x_217_49, x_217_50, x_217_51, x_217_54, x_217_55, x_217_58, x_217_59, bk_v, bk_n, nl_I, nl_R, nl_L, nl_0, oo_lt, oo_le, oo_eq, oo_add, oo_sub, oo_tn, oo_ir, nn_leT, nn_leF, nn_ltT, nn_ltF, nn_eqT, nn_eqF, bv_0, bv_1, ko_b, ko_1, ko_0, true_and, and_true, if_true, if_false, not_true_eq_false, not_false_eq_true, oo_02, decide_eq_true_eq, decide_eq_false_iff_not, ite_not, Nat.reduceAdd, Nat.reduceLT, Nat.reduceSub, Nat.reduceLeDiff, reduceIte, Bool.true_eq_false, Bool.false_eq_true, reduceCtorEq, eq_self, decide_true, decide_false, bv_t, bv_f, and_self, t_si, t_sl, t_sr, t_sI, t_sR, n_si, n_sl, n_sr, n_sI, n_sR, r_si, r_sl, r_sI, hM, hT, hS, hB, hR]
  · have h := RM_fr h9 hV hf
    have hq0 := RM_MQ h hV
    have hM9 := h.1
    have hX := hV.2.2.2.1.1
    have hl := flv_lt hf9
    unfold sh_M at hM9
    obtain ⟨w1, f1, r1, q1⟩ := m_pack (d := d + 5) h.1 (A := 1460) (f := 0) (by simp only [hM9]) (by simp only [hM9]; omega) (by simp only [hM9]; omega) (by omega)
    have hq1 := MQ_w hq0 f1
    obtain ⟨w2, f2, s2, q2⟩ := m_toff hq1 (d := d + 4) ht hf9
    have hq2 := MQ_X hq1 f2 s2 (WX_take hX hl)
    have hM2 := hq2.1
    unfold sh_M at hM2
    obtain ⟨w3, f3, r3, q3⟩ := m_unpack (d := d + 5) hq2.1 (A := 1460) (f := 0) (by simp only [hM2]) (by simp only [hM2]; omega) (by simp only [hM2]; omega) (by omega)
    refine ⟨w3, m_back f1 r1 (fr_mo f2 (fun a k z => p_st_tr z)) f3 r3, ?_, fun Q => ?_⟩
    · rw [f3.2.2.2.2.2 _ _ (by unfold p_st; omega), f2.2.2.2.2.2 _ _ (by unfold p_st; omega), f1.2.2.2.2.2 _ _ (by omega)]; exact hc
    · have a1 : w_t w1 1440 = 25 := hq1.1.1
      have a2 : w_t w2 1440 = 25 := hq2.1.1
      have a3 : w_r w2 1440 35 = some 1460 := by simp only [hM2]
      clear hM2 hM9
      have hq := RM_MQ h hV
      have hMM := hq
      obtain ⟨hM, hT, hS, ⟨hn, hk4⟩, hW1, hW2, hW3⟩ := hMM
      unfold sh_M at hM
      unfold MT_ at hT
      unfold MS_ at hS
      have hB := h.2.2.1.2
      unfold PK_ at hB
      have hR := h.2.2.2
      have hy := oo_yes ht (by omega)
      have hb := oi_s1 (by omega : l < 2147483648)
      simp (disch := first | omega | decide | exact ko_b _ | assumption | (simp only [t_si, t_sl, t_sr, t_sI, t_sR, n_si, n_sl, n_sr, n_sI, n_sR, r_si, r_sl, r_sI]; first | done | omega)) only [x_217_e, x_217_b, x_217_0, x_217_1, x_217_2, x_217_5, x_217_6, x_217_7, x_217_10, x_217_13, x_217_14, x_217_15, x_217_18, x_217_19, x_217_20, x_217_21, x_217_24, x_217_25, x_217_28, x_217_29, x_217_30, x_217_31, x_217_32, x_217_35, x_217_36, x_217_39, x_217_40, x_217_41, x_217_44, x_217_45, x_217_48, x_217_49, x_217_50, x_217_51, x_217_54, x_217_55, x_217_58, x_217_59, bk_v, bk_n, nl_I, nl_R, nl_L, nl_0, oo_lt, oo_le, oo_eq, oo_add, oo_sub, oo_tn, oo_ir, nn_leT, nn_leF, nn_ltT, nn_ltF, nn_eqT, nn_eqF, bv_0, bv_1, ko_b, ko_1, ko_0, true_and, and_true, if_true, if_false, not_true_eq_false, not_false_eq_true, oo_02, decide_eq_true_eq, decide_eq_false_iff_not, ite_not, Nat.reduceAdd, Nat.reduceLT, Nat.reduceSub, Nat.reduceLeDiff, reduceIte, Bool.true_eq_false, Bool.false_eq_true, reduceCtorEq, eq_self, decide_true, decide_false, bv_t, bv_f, and_self, t_si, t_sl, t_sr, t_sI, t_sR, n_si, n_sl, n_sr, n_sI, n_sR, r_si, r_sl, r_sI, hM, hT, hS, hB, hR, m_isT h hV, hy, m_lv hq, hf9, o_i_s, hb, q1, q2, m_st hq2, a3, q3]
theorem m_wout_no (h9 : RM_ w S) (hV : WS_ S) {d t : Nat} (ht : t < tm_n (sm_T S)) (hf9 : f_lv (bm_X (sm_B S)) t = none) : MR_ (d + 6) 217 [v_R (some 1440), v_I (Int32.ofNat t)] w (v_I (b_v false)) 0 := by
  refine mr_go (ls := [some (v_R (some 1440)), some (v_I (Int32.ofNat t)), none]) (fun Q => ?_) (fun w0 hf hc => mr_0 hc (fun Q => ?_))
  · have h := h9
    have hq := RM_MQ h hV
    have hMM := hq
    obtain ⟨hM, hT, hS, ⟨hn, hk4⟩, hW1, hW2, hW3⟩ := hMM
    unfold sh_M at hM
    unfold MT_ at hT
    unfold MS_ at hS
    have hB := h.2.2.1.2
    unfold PK_ at hB
    have hR := h.2.2.2
    simp (disch := first | omega | decide | exact ko_b _ | assumption | (simp only [t_si, t_sl, t_sr, t_sI, t_sR, n_si, n_sl, n_sr, n_sI, n_sR, r_si, r_sl, r_sI]; first | done | omega)) only [x_217_e, x_217_b, x_217_0, x_217_1, x_217_2, x_217_6, x_217_7, x_217_10, x_217_13, x_217_14, x_217_15, x_217_18, x_217_19, x_217_20, x_217_21, x_217_24, x_217_25, x_217_28, x_217_29, x_217_30, x_217_31, x_217_32, x_217_35, x_217_36, x_217_39, x_217_40, x_217_41, x_217_44, x_217_45, x_217_48, x_217_49, x_217_50, x_217_51, x_217_54, x_217_55, x_217_58, x_217_59, bk_v, bk_n, nl_I, nl_R, nl_L, nl_0, oo_lt, oo_le, oo_eq, oo_add, oo_sub, oo_tn, oo_ir, nn_leT, nn_leF, nn_ltT, nn_ltF, nn_eqT, nn_eqF, bv_0, bv_1, ko_b, ko_1, ko_0, true_and, and_true, if_true, if_false, not_true_eq_false, not_false_eq_true, oo_02, decide_eq_true_eq, decide_eq_false_iff_not, ite_not, Nat.reduceAdd, Nat.reduceLT, Nat.reduceSub, Nat.reduceLeDiff, reduceIte, Bool.true_eq_false, Bool.false_eq_true, reduceCtorEq, eq_self, decide_true, decide_false, bv_t, bv_f, and_self, t_si, t_sl, t_sr, t_sI, t_sR, n_si, n_sl, n_sr, n_sI, n_sR, r_si, r_sl, r_sI, hM, hT, hS, hB, hR]
  · have h := RM_fr h9 hV hf
    have hq := RM_MQ h hV
    have hMM := hq
    obtain ⟨hM, hT, hS, ⟨hn, hk4⟩, hW1, hW2, hW3⟩ := hMM
    unfold sh_M at hM
    unfold MT_ at hT
    unfold MS_ at hS
    have hB := h.2.2.1.2
    unfold PK_ at hB
    have hR := h.2.2.2
    have hy := oo_yes ht (by omega)
    simp (disch := first | omega | decide | exact ko_b _ | assumption | (simp only [t_si, t_sl, t_sr, t_sI, t_sR, n_si, n_sl, n_sr, n_sI, n_sR, r_si, r_sl, r_sI]; first | done | omega)) only [x_217_e, x_217_b, x_217_0, x_217_1, x_217_2, x_217_5, x_217_6, x_217_7, x_217_10, x_217_13, x_217_14, x_217_15, x_217_18, x_217_19, x_217_20, x_217_21, x_217_24, x_217_25, x_217_28, x_217_29, x_217_30, x_217_31, x_217_32, x_217_35, x_217_36, x_217_39, x_217_40, x_217_41, x_217_44, x_217_45, x_217_48, x_217_49, x_217_50, x_217_51, x_217_54, x_217_55, x_217_58, x_217_59, bk_v, bk_n, nl_I, nl_R, nl_L, nl_0, oo_lt, oo_le, oo_eq, oo_add, oo_sub, oo_tn, oo_ir, nn_leT, nn_leF, nn_ltT, nn_ltF, nn_eqT, nn_eqF, bv_0, bv_1, ko_b, ko_1, ko_0, true_and, and_true, if_true, if_false, not_true_eq_false, not_false_eq_true, oo_02, decide_eq_true_eq, decide_eq_false_iff_not, ite_not, Nat.reduceAdd, Nat.reduceLT, Nat.reduceSub, Nat.reduceLeDiff, reduceIte, Bool.true_eq_false, Bool.false_eq_true, reduceCtorEq, eq_self, decide_true, decide_false, bv_t, bv_f, and_self, t_si, t_sl, t_sr, t_sI, t_sR, n_si, n_sl, n_sr, n_sI, n_sR, r_si, r_sl, r_sI, hM, hT, hS, hB, hR, m_isT h hV, hy, m_lv hq, hf9, o_i_n]
theorem m_wout_y (h9 : RM_ w S) (hV : WS_ S) {d : Nat} {y : Int32} (hx : no_in y (tm_n (sm_T S))) : MR_ (d + 6) 217 [v_R (some 1440), v_I y] w (v_I (b_v false)) 1 := by
  refine mr_go (ls := [some (v_R (some 1440)), some (v_I y), none]) (fun Q => ?_) (fun w0 hf hc => mr_f (fun Q => ?_))
  · have h := h9
    have hq := RM_MQ h hV
    have hMM := hq
    obtain ⟨hM, hT, hS, ⟨hn, hk4⟩, hW1, hW2, hW3⟩ := hMM
    unfold sh_M at hM
    unfold MT_ at hT
    unfold MS_ at hS
    have hB := h.2.2.1.2
    unfold PK_ at hB
    have hR := h.2.2.2
    simp (disch := first | omega | decide | exact ko_b _ | assumption | (simp only [t_si, t_sl, t_sr, t_sI, t_sR, n_si, n_sl, n_sr, n_sI, n_sR, r_si, r_sl, r_sI]; first | done | omega)) only [x_217_e, x_217_b, x_217_0, x_217_1, x_217_2, x_217_6, x_217_7, x_217_10, x_217_13, x_217_14, x_217_15, x_217_18, x_217_19, x_217_20, x_217_21, x_217_24, x_217_25, x_217_28, x_217_29, x_217_30, x_217_31, x_217_32, x_217_35, x_217_36, x_217_39, x_217_40, x_217_41, x_217_44, x_217_45, x_217_48, x_217_49, x_217_50, x_217_51, x_217_54, x_217_55, x_217_58, x_217_59, bk_v, bk_n, nl_I, nl_R, nl_L, nl_0, oo_lt, oo_le, oo_eq, oo_add, oo_sub, oo_tn, oo_ir, nn_leT, nn_leF, nn_ltT, nn_ltF, nn_eqT, nn_eqF, bv_0, bv_1, ko_b, ko_1, ko_0, true_and, and_true, if_true, if_false, not_true_eq_false, not_false_eq_true, oo_02, decide_eq_true_eq, decide_eq_false_iff_not, ite_not, Nat.reduceAdd, Nat.reduceLT, Nat.reduceSub, Nat.reduceLeDiff, reduceIte, Bool.true_eq_false, Bool.false_eq_true, reduceCtorEq, eq_self, decide_true, decide_false, bv_t, bv_f, and_self, t_si, t_sl, t_sr, t_sI, t_sR, n_si, n_sl, n_sr, n_sI, n_sR, r_si, r_sl, r_sI, hM, hT, hS, hB, hR]
  · have h := RM_fr h9 hV hf
    have hq := RM_MQ h hV
    have hMM := hq
    obtain ⟨hM, hT, hS, ⟨hn, hk4⟩, hW1, hW2, hW3⟩ := hMM
    unfold sh_M at hM
    unfold MT_ at hT
    unfold MS_ at hS
    have hB := h.2.2.1.2
    unfold PK_ at hB
    have hR := h.2.2.2
    have hM0 := hM.1
    have hy := decide_eq_false (oo_no (by omega) hx)
    simp (disch := first | omega | decide | exact ko_b _ | assumption | (simp only [t_si, t_sl, t_sr, t_sI, t_sR, n_si, n_sl, n_sr, n_sI, n_sR, r_si, r_sl, r_sI]; first | done | omega)) only [x_217_e, x_217_b, x_217_0, x_217_1, x_217_2, x_217_5, x_217_6, x_217_7, x_217_10, x_217_13, x_217_14, x_217_15, x_217_18, x_217_19, x_217_20, x_217_21, x_217_24, x_217_25, x_217_28, x_217_29, x_217_30, x_217_31, x_217_32, x_217_35, x_217_36, x_217_39, x_217_40, x_217_41, x_217_44, x_217_45, x_217_48, x_217_49, x_217_50, x_217_51, x_217_54, x_217_55, x_217_58, x_217_59, bk_v, bk_n, nl_I, nl_R, nl_L, nl_0, oo_lt, oo_le, oo_eq, oo_add, oo_sub, oo_tn, oo_ir, nn_leT, nn_leF, nn_ltT, nn_ltF, nn_eqT, nn_eqF, bv_0, bv_1, ko_b, ko_1, ko_0, true_and, and_true, if_true, if_false, not_true_eq_false, not_false_eq_true, oo_02, decide_eq_true_eq, decide_eq_false_iff_not, ite_not, Nat.reduceAdd, Nat.reduceLT, Nat.reduceSub, Nat.reduceLeDiff, reduceIte, Bool.true_eq_false, Bool.false_eq_true, reduceCtorEq, eq_self, decide_true, decide_false, bv_t, bv_f, and_self, t_si, t_sl, t_sr, t_sI, t_sR, n_si, n_sl, n_sr, n_sI, n_sR, r_si, r_sl, r_sI, hM, hT, hS, hB, hR, m_isT h hV, hy, m_failb hM0]
/-- exchanged and exchanged back -/
theorem ex_ex {w : Wd} {a b : Nat} : s_i (s_i (s_i (s_i w 1453 a (w_i w 1453 b)) 1453 b (w_i w 1453 a)) 1453 a (w_i (s_i (s_i w 1453 a (w_i w 1453 b)) 1453 b (w_i w 1453 a)) 1453 b)) 1453 b (w_i (s_i (s_i w 1453 a (w_i w 1453 b)) 1453 b (w_i w 1453 a)) 1453 a) = w := by
  have e : ∀ (u v : Nat → Nat → Int32), (∀ x y, u x y = v x y) → u = v := fun u v h => funext fun x => funext fun y => h x y
  have key : ∀ x y, w_i (s_i (s_i (s_i (s_i w 1453 a (w_i w 1453 b)) 1453 b (w_i w 1453 a)) 1453 a (w_i (s_i (s_i w 1453 a (w_i w 1453 b)) 1453 b (w_i w 1453 a)) 1453 b)) 1453 b (w_i (s_i (s_i w 1453 a (w_i w 1453 b)) 1453 b (w_i w 1453 a)) 1453 a)) x y = w_i w x y := fun x y => by
    by_cases c : x = 1453
    · subst c
      simp only [i_si, true_and]
      by_cases c1 : y = b
      · subst c1
        simp only [if_true]
        by_cases c2 : a = y
        · subst c2; simp only [if_true]
        · simp only [c2, if_false, if_true]
      · simp only [c1, if_false]
        by_cases c2 : y = a
        · subst c2; simp only [if_true]
        · simp only [c2, if_false]
    · simp only [i_si, c, false_and, if_false]
  have k2 := e _ _ key
  obtain ⟨t, n, i, l, r, z, s⟩ := w
  unfold s_i w_i at *
  simp only at k2 ⊢
  exact congrArg (fun f => ((t, n, f, l, r, z, s) : Wd)) k2
theorem m_swap (h9 : RM_ w S) (hV : WS_ S) {d : Nat} : MR_ (d + 8) 245 [v_R (some 1440)] w (v_I (f_swap (sm_T S) (bm_X (sm_B S)))) 0 := by
  refine mr_go (ls := [some (v_R (some 1440)), none, none, none, none, none]) (fun Q => ?_) (fun w0 hf hc => mr_0 hc (fun Q => ?_))
  · have h := h9
    have hq := RM_MQ h hV
    have hMM := hq
    obtain ⟨hM, hT, hS, ⟨hn, hk4⟩, hW1, hW2, hW3⟩ := hMM
    unfold sh_M at hM
    unfold MT_ at hT
    unfold MS_ at hS
    have hB := h.2.2.1.2
    unfold PK_ at hB
    have hR := h.2.2.2
    simp (disch := first | omega | decide | exact ko_b _ | assumption | (simp only [t_si, t_sl, t_sr, t_sI, t_sR, n_si, n_sl, n_sr, n_sI, n_sR, r_si, r_sl, r_sI]; first | done | omega)) only [x_245_e, x_245_b, x_245_0, x_245_1, x_245_2, x_245_6, x_245_9, x_245_10, x_245_11, x_245_12, x_245_13, x_245_15, x_245_16, x_245_19, x_245_22, x_245_23, x_245_24, x_245_25, x_245_27, x_245_29, x_245_30, x_245_33, x_245_36, x_245_37, x_245_38, x_245_40, x_245_43, x_245_44, x_245_47, x_245_49, x_245_50, x_245_51, x_245_53, x_245_56, x_245_58, x_245_59, x_245_62, x_245_65, x_245_67, x_245_68, x_245_69, x_245_71, x_245_72, x_245_73, x_245_75, x_245_76, x_245_79, x_245_82, x_245_85, x_245_88, x_245_89, bk_v, bk_n, nl_I, nl_R, nl_L, nl_0, oo_lt, oo_le, oo_eq, oo_add, oo_sub, oo_tn, oo_ir, nn_leT, nn_leF, nn_ltT, nn_ltF, nn_eqT, nn_eqF, bv_0, bv_1, ko_b, ko_1, ko_0, true_and, and_true, if_true, if_false, not_true_eq_false, not_false_eq_true, oo_02, decide_eq_true_eq, decide_eq_false_iff_not, ite_not, Nat.reduceAdd, Nat.reduceLT, Nat.reduceSub, Nat.reduceLeDiff, reduceIte, Bool.true_eq_false, Bool.false_eq_true, reduceCtorEq, eq_self, decide_true, decide_false, bv_t, bv_f, and_self, t_si, t_sl, t_sr, t_sI, t_sR, n_si, n_sl, n_sr, n_sI, n_sR, r_si, r_sl, r_sI, hM, hT, hS, hB, hR]
  · have h := RM_fr h9 hV hf
    have hX9 := hV.2.2.2.1.1
    have hn10 := hV.1.1
    have hL9 := hX9.1
    have hq9 := RM_MQ h hV
    have hL28 : w_i w0 1440 28 = Int32.ofNat (xm_L (bm_X (sm_B S))) := h.2.2.1.1.1
    have t0 : w_t w0 1440 = 25 := h.1.1
    have inner : ∀ a, a < xm_L (bm_X (sm_B S)) → ∀ (s : Int32 × Int32) (v : Option Vl), ∃ v1, wp (d + 8) 245 27 [some (v_R (some 1440)), some (v_I s.2), some (v_I s.1), some (v_I (Int32.ofNat a)), some (v_I (Int32.ofNat (a + 1))), v] [] w0 Q = wp (d + 8) 245 27 [some (v_R (some 1440)), some (v_I (it_ (f_sw1 (sm_T S) (bm_X (sm_B S)) a) (a + 1) (xm_L (bm_X (sm_B S)) - (a + 1)) s).2), some (v_I (it_ (f_sw1 (sm_T S) (bm_X (sm_B S)) a) (a + 1) (xm_L (bm_X (sm_B S)) - (a + 1)) s).1), some (v_I (Int32.ofNat a)), some (v_I (Int32.ofNat (a + 1 + (xm_L (bm_X (sm_B S)) - (a + 1))))), v1] [] w0 Q := by
      intro a ha s v
      have hs : ∀ j (s : (Int32 × Int32) × Option Vl), a + 1 ≤ j → j < a + 1 + (xm_L (bm_X (sm_B S)) - (a + 1)) → wp (d + 8) 245 27 [some (v_R (some 1440)), some (v_I s.1.2), some (v_I s.1.1), some (v_I (Int32.ofNat a)), some (v_I (Int32.ofNat j)), s.2] [] w0 Q = wp (d + 8) 245 27 [some (v_R (some 1440)), some (v_I (f_sw1 (sm_T S) (bm_X (sm_B S)) a j s.1).2), some (v_I (f_sw1 (sm_T S) (bm_X (sm_B S)) a j s.1).1), some (v_I (Int32.ofNat a)), some (v_I (Int32.ofNat (j + 1))), some (v_I (f_more (sm_T S) (x_swp (bm_X (sm_B S)) a j)))] [] w0 Q := by
        intro j s h1 h2
        have e1 : ∀ Q, cl (d + 7) 204 [v_R (some 1440), v_I (Int32.ofNat a), v_I (Int32.ofNat j)] w0 Q = _ := fun Q => m_exch h.1 (by omega) (by omega)
        have f2 : Fr_ p_st w0 (s_i (s_i w0 1453 a (w_i w0 1453 j)) 1453 j (w_i w0 1453 a)) := fr_si (fr_si (fr_rf _ _) (by unfold p_st; omega)) (by unfold p_st; omega)
        have hq2 := MQ_X hq9 f2 (MS_exch hq9.2.2.1 ha (by omega)) (WX_swp hX9 ha (by omega))
        have e2 : ∀ Q, cl (d + 7) 204 [v_R (some 1440), v_I (Int32.ofNat a), v_I (Int32.ofNat j)] (s_i (s_i w0 1453 a (w_i w0 1453 j)) 1453 j (w_i w0 1453 a)) Q = _ := fun Q => m_exch hq2.1 (by omega) (by omega)
        have e3 := fun Q => m_more hq2 (d := d + 1) (Q := Q)
        rw [ex_ex] at e2
        rw [x_245_27]
        unfold f_sw1
        by_cases c : f_more (sm_T S) (x_swp (bm_X (sm_B S)) a j) ≤ s.1.2
        · have c2 := Int32.not_lt.mpr c
          simp (disch := first | omega | decide | exact ko_b _ | assumption | (simp only [t_si, t_sl, t_sr, t_sI, t_sR, n_si, n_sl, n_sr, n_sI, n_sR, r_si, r_sl, r_sI]; first | done | omega)) only [x_245_e, x_245_b, x_245_29, x_245_30, x_245_33, x_245_36, x_245_37, x_245_38, x_245_40, x_245_43, x_245_44, x_245_47, x_245_49, x_245_50, x_245_51, x_245_53, x_245_56, x_245_58, x_245_59, x_245_62, x_245_65, x_245_67, x_245_68, x_245_69, x_245_71, x_245_72, x_245_73, x_245_75, x_245_76, x_245_79, x_245_82, bk_v, bk_n, nl_I, nl_R, nl_L, nl_0, oo_lt, oo_le, oo_eq, oo_add, oo_sub, oo_tn, oo_ir, nn_leT, nn_leF, nn_ltT, nn_ltF, nn_eqT, nn_eqF, bv_0, bv_1, ko_b, ko_1, ko_0, true_and, and_true, if_true, if_false, not_true_eq_false, not_false_eq_true, oo_02, decide_eq_true_eq, decide_eq_false_iff_not, ite_not, Nat.reduceAdd, Nat.reduceLT, Nat.reduceSub, Nat.reduceLeDiff, reduceIte, Bool.true_eq_false, Bool.false_eq_true, reduceCtorEq, eq_self, decide_true, decide_false, bv_t, bv_f, and_self, t_si, t_sl, t_sr, t_sI, t_sR, n_si, n_sl, n_sr, n_sI, n_sR, r_si, r_sl, r_sI, hL28, e1, e2, e3, c, c2]
        · have c2 := Int32.not_le.mp c
          simp (disch := first | omega | decide | exact ko_b _ | assumption | (simp only [t_si, t_sl, t_sr, t_sI, t_sR, n_si, n_sl, n_sr, n_sI, n_sR, r_si, r_sl, r_sI]; first | done | omega)) only [x_245_e, x_245_b, x_245_29, x_245_30, x_245_33, x_245_36, x_245_37, x_245_38, x_245_40, x_245_43, x_245_44, x_245_47, x_245_49, x_245_50, x_245_51, x_245_53, x_245_56, x_245_58, x_245_59, x_245_62, x_245_65, x_245_67, x_245_68, x_245_69, x_245_71, x_245_72, x_245_73, x_245_75, x_245_76, x_245_79, x_245_82, bk_v, bk_n, nl_I, nl_R, nl_L, nl_0, oo_lt, oo_le, oo_eq, oo_add, oo_sub, oo_tn, oo_ir, nn_leT, nn_leF, nn_ltT, nn_ltF, nn_eqT, nn_eqF, bv_0, bv_1, ko_b, ko_1, ko_0, true_and, and_true, if_true, if_false, not_true_eq_false, not_false_eq_true, oo_02, decide_eq_true_eq, decide_eq_false_iff_not, ite_not, Nat.reduceAdd, Nat.reduceLT, Nat.reduceSub, Nat.reduceLeDiff, reduceIte, Bool.true_eq_false, Bool.false_eq_true, reduceCtorEq, eq_self, decide_true, decide_false, bv_t, bv_f, and_self, t_si, t_sl, t_sr, t_sI, t_sR, n_si, n_sl, n_sr, n_sI, n_sR, r_si, r_sl, r_sI, hL28, e1, e2, e3, c, c2, oo_mul]
      have hl := lp_it (fun j (s : (Int32 × Int32) × Option Vl) => wp (d + 8) 245 27 [some (v_R (some 1440)), some (v_I s.1.2), some (v_I s.1.1), some (v_I (Int32.ofNat a)), some (v_I (Int32.ofNat j)), s.2] [] w0 Q) (fun j s => (f_sw1 (sm_T S) (bm_X (sm_B S)) a j s.1, some (v_I (f_more (sm_T S) (x_swp (bm_X (sm_B S)) a j))))) (xm_L (bm_X (sm_B S)) - (a + 1)) (a + 1) (s, v) hs
      have e : ∀ (n k : Nat) (s : (Int32 × Int32) × Option Vl), (it_ (fun j (s : (Int32 × Int32) × Option Vl) => (f_sw1 (sm_T S) (bm_X (sm_B S)) a j s.1, some (v_I (f_more (sm_T S) (x_swp (bm_X (sm_B S)) a j))))) k n s).1 = it_ (f_sw1 (sm_T S) (bm_X (sm_B S)) a) k n s.1 := by
        intro n
        induction n with
        | zero => intro k s; rfl
        | succ n ih => intro k s; exact ih _ _
      refine ⟨(it_ (fun j (s : (Int32 × Int32) × Option Vl) => (f_sw1 (sm_T S) (bm_X (sm_B S)) a j s.1, some (v_I (f_more (sm_T S) (x_swp (bm_X (sm_B S)) a j))))) (a + 1) (xm_L (bm_X (sm_B S)) - (a + 1)) (s, v)).2, ?_⟩
      rw [hl, e]
    have outer := lp_ex (fun k (s : (Int32 × Int32) × Option Vl × Option Vl) (Q' : Q_) => wp (d + 8) 245 14 [some (v_R (some 1440)), some (v_I s.1.2), some (v_I s.1.1), some (v_I (Int32.ofNat k)), s.2.1, s.2.2] [] w0 Q) (fun k s => s.1 = it_ (fun a s => it_ (f_sw1 (sm_T S) (bm_X (sm_B S)) a) (a + 1) (xm_L (bm_X (sm_B S)) - (a + 1)) s) 0 k (Int32.ofInt (-1), f_more (sm_T S) (bm_X (sm_B S)))) (xm_L (bm_X (sm_B S))) (fun k s hk hI => ?_) (xm_L (bm_X (sm_B S))) 0 ((Int32.ofInt (-1), f_more (sm_T S) (bm_X (sm_B S))), none, none) (Nat.zero_add _) rfl
    · obtain ⟨s1, i1, q1⟩ := outer
      have q1 := q1 Q
      refine Eq.trans ?_ (q1.trans ?_)
      · have e3 := fun Q => m_more hq9 (d := d + 1) (Q := Q)
        simp (disch := first | omega | decide | exact ko_b _ | assumption | (simp only [t_si, t_sl, t_sr, t_sI, t_sR, n_si, n_sl, n_sr, n_sI, n_sR, r_si, r_sl, r_sI]; first | done | omega)) only [x_245_e, x_245_b, x_245_5, x_245_6, x_245_9, x_245_10, x_245_11, x_245_12, x_245_13, bk_v, bk_n, nl_I, nl_R, nl_L, nl_0, oo_lt, oo_le, oo_eq, oo_add, oo_sub, oo_tn, oo_ir, nn_leT, nn_leF, nn_ltT, nn_ltF, nn_eqT, nn_eqF, bv_0, bv_1, ko_b, ko_1, ko_0, true_and, and_true, if_true, if_false, not_true_eq_false, not_false_eq_true, oo_02, decide_eq_true_eq, decide_eq_false_iff_not, ite_not, Nat.reduceAdd, Nat.reduceLT, Nat.reduceSub, Nat.reduceLeDiff, reduceIte, Bool.true_eq_false, Bool.false_eq_true, reduceCtorEq, eq_self, decide_true, decide_false, bv_t, bv_f, and_self, t_si, t_sl, t_sr, t_sI, t_sR, n_si, n_sl, n_sr, n_sI, n_sR, r_si, r_sl, r_sI, e3]
      · rw [x_245_14, i1]
        unfold f_swap
        simp (disch := first | omega | decide | exact ko_b _ | assumption | (simp only [t_si, t_sl, t_sr, t_sI, t_sR, n_si, n_sl, n_sr, n_sI, n_sR, r_si, r_sl, r_sI]; first | done | omega)) only [x_245_e, x_245_b, x_245_15, x_245_16, x_245_19, x_245_22, x_245_23, x_245_24, x_245_25, x_245_29, x_245_30, x_245_33, x_245_36, x_245_37, x_245_38, x_245_40, x_245_43, x_245_44, x_245_47, x_245_49, x_245_50, x_245_51, x_245_53, x_245_56, x_245_58, x_245_59, x_245_62, x_245_65, x_245_67, x_245_68, x_245_69, x_245_71, x_245_72, x_245_73, x_245_75, x_245_76, x_245_79, x_245_82, x_245_85, x_245_88, x_245_89, bk_v, bk_n, nl_I, nl_R, nl_L, nl_0, oo_lt, oo_le, oo_eq, oo_add, oo_sub, oo_tn, oo_ir, nn_leT, nn_leF, nn_ltT, nn_ltF, nn_eqT, nn_eqF, bv_0, bv_1, ko_b, ko_1, ko_0, true_and, and_true, if_true, if_false, not_true_eq_false, not_false_eq_true, oo_02, decide_eq_true_eq, decide_eq_false_iff_not, ite_not, Nat.reduceAdd, Nat.reduceLT, Nat.reduceSub, Nat.reduceLeDiff, reduceIte, Bool.true_eq_false, Bool.false_eq_true, reduceCtorEq, eq_self, decide_true, decide_false, bv_t, bv_f, and_self, t_si, t_sl, t_sr, t_sI, t_sR, n_si, n_sl, n_sr, n_sI, n_sR, r_si, r_sl, r_sI, hL28]
    · obtain ⟨v1, q1⟩ := inner k hk s.1 s.2.2
      refine ⟨(it_ (f_sw1 (sm_T S) (bm_X (sm_B S)) k) (k + 1) (xm_L (bm_X (sm_B S)) - (k + 1)) s.1, some (v_I (Int32.ofNat (k + 1 + (xm_L (bm_X (sm_B S)) - (k + 1))))), v1), ?_, fun Q' => ?_⟩
      · rw [it_1, Nat.zero_add, ← hI]
      · rw [x_245_14]
        simp (disch := first | omega | decide | exact ko_b _ | assumption | (simp only [t_si, t_sl, t_sr, t_sI, t_sR, n_si, n_sl, n_sr, n_sI, n_sR, r_si, r_sl, r_sI]; first | done | omega)) only [x_245_e, x_245_b, x_245_15, x_245_16, x_245_19, x_245_22, x_245_23, x_245_24, x_245_25, bk_v, bk_n, nl_I, nl_R, nl_L, nl_0, oo_lt, oo_le, oo_eq, oo_add, oo_sub, oo_tn, oo_ir, nn_leT, nn_leF, nn_ltT, nn_ltF, nn_eqT, nn_eqF, bv_0, bv_1, ko_b, ko_1, ko_0, true_and, and_true, if_true, if_false, not_true_eq_false, not_false_eq_true, oo_02, decide_eq_true_eq, decide_eq_false_iff_not, ite_not, Nat.reduceAdd, Nat.reduceLT, Nat.reduceSub, Nat.reduceLeDiff, reduceIte, Bool.true_eq_false, Bool.false_eq_true, reduceCtorEq, eq_self, decide_true, decide_false, bv_t, bv_f, and_self, t_si, t_sl, t_sr, t_sI, t_sR, n_si, n_sl, n_sr, n_sI, n_sR, r_si, r_sl, r_sI, hL28]
        rw [q1, x_245_27]
        simp (disch := first | omega | decide | exact ko_b _ | assumption | (simp only [t_si, t_sl, t_sr, t_sI, t_sR, n_si, n_sl, n_sr, n_sI, n_sR, r_si, r_sl, r_sI]; first | done | omega)) only [x_245_e, x_245_b, x_245_29, x_245_30, x_245_33, x_245_36, x_245_37, x_245_38, x_245_40, x_245_43, x_245_44, x_245_47, x_245_49, x_245_50, x_245_51, x_245_53, x_245_56, x_245_58, x_245_59, x_245_62, x_245_65, x_245_67, x_245_68, x_245_69, x_245_71, x_245_72, x_245_73, x_245_75, x_245_76, x_245_79, x_245_82, x_245_85, x_245_88, x_245_89, bk_v, bk_n, nl_I, nl_R, nl_L, nl_0, oo_lt, oo_le, oo_eq, oo_add, oo_sub, oo_tn, oo_ir, nn_leT, nn_leF, nn_ltT, nn_ltF, nn_eqT, nn_eqF, bv_0, bv_1, ko_b, ko_1, ko_0, true_and, and_true, if_true, if_false, not_true_eq_false, not_false_eq_true, oo_02, decide_eq_true_eq, decide_eq_false_iff_not, ite_not, Nat.reduceAdd, Nat.reduceLT, Nat.reduceSub, Nat.reduceLeDiff, reduceIte, Bool.true_eq_false, Bool.false_eq_true, reduceCtorEq, eq_self, decide_true, decide_false, bv_t, bv_f, and_self, t_si, t_sl, t_sr, t_sI, t_sR, n_si, n_sl, n_sr, n_sI, n_sR, r_si, r_sl, r_sI, hL28]
end
