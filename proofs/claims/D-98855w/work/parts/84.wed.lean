/-! WEDGES: both halves -/
set_option maxRecDepth 100000
def tmn_ (T : Tm) (t : Nat) : Nat := if tm_kd T t = 3 then 2 else 1
def zt_ (T : Tm) (X : Xm) (l b j : Nat) : Int32 := Int32.ofNat b - Int32.ofNat 40 + (xm_l X (xm_t X l) + wv_ j) * Int32.ofNat (tmn_ T (xm_t X l))
def nx_ (T : Tm) (X : Xm) (l b j : Nat) : Option Nat := if i_ab (zt_ T X l b j) ≤ tm_li T ∧ (zt_ T X l b j + Int32.ofNat 40).toNatClampNeg < 81 then some (zt_ T X l b j + Int32.ofNat 40).toNatClampNeg else none
theorem nx_lt {T : Tm} {X : Xm} : ∀ l b j b1, nx_ T X l b j = some b1 → b1 < 81 := by
  intro l b j b1 h
  unfold nx_ at h
  split at h
  · rename_i hc
    cases h
    exact hc.2
  · cases h
def q_wed (T : Tm) (X : Xm) : Int32 := if wf_ (nx_ T X) (xm_L X) 0 40 < 100000 then Int32.ofNat (wf_ (nx_ T X) (xm_L X) 0 40) else Int32.ofInt (-1)
theorem wv_c0 : ∀ j : Fin 19, i_ab (wv_ j.val) = Int32.ofNat (cj_ j.val) := by decide +kernel
theorem wv_c {j : Nat} (h : j < 19) : i_ab (wv_ j) = Int32.ofNat (cj_ j) := wv_c0 ⟨j, h⟩
theorem cj_le (j : Nat) (h : j < 19) : cj_ j ≤ 9 := by
  unfold cj_
  split <;> omega
theorem ab_f (x : Int32) : (if Int32.ofNat 0 ≤ x then x else Int32.ofNat 0 - x) = i_ab x := rfl
theorem mn_n (a b : Nat) : (if b < a then Int32.ofNat b else Int32.ofNat a) = Int32.ofNat (min a b) := by
  by_cases h : b < a
  · rw [if_pos h, Nat.min_eq_right (by omega)]
  · rw [if_neg h, Nat.min_eq_left (by omega)]
theorem mx_n (a b : Nat) : (if a < b then Int32.ofNat b else Int32.ofNat a) = Int32.ofNat (max a b) := by
  by_cases h : a < b
  · rw [if_pos h, Nat.max_eq_right (by omega)]
  · rw [if_neg h, Nat.max_eq_left (by omega)]
theorem kx_ (a b : Nat) : Int32.ofNat a + (Int32.ofNat b - Int32.ofNat 40) + Int32.ofNat 40 = Int32.ofNat (a + b) := by
  rw [Int32.add_assoc, Int32.sub_add_cancel, oo_add]
theorem zt_ab {n l b j : Nat} {T : Tm} {X : Xm} (hX : WX_ n X) (hL : WL_ n X) (hl : l < xm_L X) (hb : b < 81) (hj : j < 19) : ab_ 76 (zt_ T X l b j) := by
  have h1 : ab_ 9 (xm_l X (xm_t X l)) := hL.2 _ (hX.2.1 l hl)
  have h2 : ab_ 9 (wv_ j) := wv_9 hj
  have h3 := ab_add h1 h2 (by omega)
  have h4 : ab_ 40 (Int32.ofNat b - Int32.ofNat 40) := by
    unfold ab_
    rw [Int32.toInt_sub, oo_in (by omega), oo_in (by omega), Int.bmod_eq_of_le (by omega) (by omega)]
    omega
  have h5 : ab_ 36 ((xm_l X (xm_t X l) + wv_ j) * Int32.ofNat (tmn_ T (xm_t X l))) := by
    rw [Int32.mul_comm]
    unfold tmn_
    split
    · exact ab_2 h3 (by omega)
    · rw [Int32.mul_comm, oo_m1]; exact ab_le h3 (by omega)
  exact ab_le (ab_add h4 h5 (by omega)) (by omega)
/-- where a wedge leads -/
theorem nx_1 {n l b j L : Nat} {T : Tm} {X : Xm} (hX : WX_ n X) (hL : WL_ n X) (hl : l < xm_L X) (hb : b < 81) (hj : j < 19) (hli : tm_li T = Int32.ofNat L) (hL40 : L ≤ 40) (h : i_ab (zt_ T X l b j) ≤ tm_li T) : ∃ b1, b1 < 81 ∧ nx_ T X l b j = some b1 ∧ zt_ T X l b j + Int32.ofNat 40 = Int32.ofNat b1 ∧ zt_ T X l b j = Int32.ofNat b1 - Int32.ofNat 40 := by
  have h1 := zt_ab (T := T) hX hL hl hb hj
  unfold ab_ at h1
  have h2 : -40 ≤ (zt_ T X l b j).toInt ∧ (zt_ T X l b j).toInt ≤ 40 := by
    rw [hli, Int32.le_iff_toInt_le, oo_in (by omega)] at h
    unfold i_ab at h
    by_cases c : Int32.ofNat 0 ≤ zt_ T X l b j
    · rw [if_pos c] at h
      rw [Int32.le_iff_toInt_le, oo_in (by omega)] at c
      omega
    · rw [if_neg c, Int32.toInt_sub, oo_in (by omega), Int.bmod_eq_of_le (by omega) (by omega)] at h
      rw [Int32.le_iff_toInt_le, oo_in (by omega)] at c
      omega
  have h3 : zt_ T X l b j + Int32.ofNat 40 = Int32.ofNat ((zt_ T X l b j).toInt + 40).toNat := by
    apply Int32.toInt_inj.mp
    rw [Int32.toInt_add, oo_in (by omega), oo_in (by omega), Int.bmod_eq_of_le (by omega) (by omega)]
    omega
  refine ⟨((zt_ T X l b j).toInt + 40).toNat, by omega, ?_, h3, ?_⟩
  · unfold nx_
    rw [h3, oo_tn (by omega), if_pos ⟨h, by omega⟩]
  · rw [← h3, Int32.add_sub_cancel]
theorem nx_0 {l b j : Nat} {T : Tm} {X : Xm} (h : ¬ i_ab (zt_ T X l b j) ≤ tm_li T) : nx_ T X l b j = none := by
  unfold nx_
  rw [if_neg (fun z => h z.1)]
def KW_ (w : Wd) (T : Tm) (X : Xm) : Prop := ∀ l b, l < xm_L X → b < 81 → w_i w 1437 (81 * l + b) = Int32.ofInt (-1) ∨ w_i w 1437 (81 * l + b) = Int32.ofNat (wf_ (nx_ T X) (xm_L X - l) l b)
def P37_ (a _k : Nat) : Prop := a = 1437
section
variable {w : Wd} {S : Sm} {G : Gm} {σ : Nat → Nat}
theorem RC_37 {w1 : Wd} (h : RC_ w G σ S) (hV : WS_ S) (hf : Fr_ P37_ w w1) : RC_ w1 G σ S := RC_fr h hV (fr_mo hf (fun a k z => by unfold P37_ at z; unfold pc_; omega))
theorem vt_44 {p d k : Nat} {ls : L_} {y z : Vl} {Q : Q_} (hp : w_t w p = 32 + k) (hk : k < 4) : wp (d + 1) 44 93 ls [v_R (some p), y, z] w Q = cl d (if k = 3 then 123 else 111) [v_R (some p)] w (bk (d + 1) 44 93 ls [y, z] Q) := by
  rcases (by omega : k = 0 ∨ k = 1 ∨ k = 2 ∨ k = 3) with rfl | rfl | rfl | rfl
  · rw [x_44_93.1 _ _ _ _ _ _ _ hp]; rfl
  · rw [x_44_93.2.1 _ _ _ _ _ _ _ hp]; rfl
  · rw [x_44_93.2.2.1 _ _ _ _ _ _ _ hp]; rfl
  · rw [x_44_93.2.2.2 _ _ _ _ _ _ _ hp]; rfl
/-- one wedge tried, the rest by its contract -/
theorem c_wf1 (h : RC_ w G σ S) (hV : WS_ S) {d l b r j v : Nat} (hl : l < xm_L (bm_X (sm_B S))) (hb : b < 81) (hj : j < 19) (hv : v ≤ 100000) (ih : ∀ (b1 : Nat), b1 < 81 → ∃ w1, Fr_ P37_ w w1 ∧ KW_ w1 (sm_T S) (bm_X (sm_B S)) ∧ ∀ Q, cl (d + r + 3) 44 [v_R (some 1000), v_I (Int32.ofNat (l + 1)), v_I (Int32.ofNat b1 - Int32.ofNat 40), v_R (some 1437)] w Q = Q (Sum.inl (some (v_I (Int32.ofNat (wf_ (nx_ (sm_T S) (bm_X (sm_B S))) r (l + 1) b1))))) w1) (hKw : KW_ w (sm_T S) (bm_X (sm_B S))) {a8 : Option Vl} : ∃ t : Option Vl × Wd, (Fr_ P37_ w t.2 ∧ KW_ t.2 (sm_T S) (bm_X (sm_B S))) ∧ ∀ Q, wp (d + r + 4) 44 57 [some (v_R (some 1000)), some (v_I (Int32.ofNat l)), some (v_I (Int32.ofNat b - Int32.ofNat 40)), some (v_R (some 1437)), some (v_I (Int32.ofNat (81 * l + b))), some (v_I (Int32.ofNat (xm_t (bm_X (sm_B S)) l))), some (v_I (Int32.ofNat v)), some (v_I (wv_ j)), a8] [] w Q = wp (d + r + 4) 44 57 [some (v_R (some 1000)), some (v_I (Int32.ofNat l)), some (v_I (Int32.ofNat b - Int32.ofNat 40)), some (v_R (some 1437)), some (v_I (Int32.ofNat (81 * l + b))), some (v_I (Int32.ofNat (xm_t (bm_X (sm_B S)) l))), some (v_I (Int32.ofNat (wf1_ (nx_ (sm_T S) (bm_X (sm_B S))) (wf_ (nx_ (sm_T S) (bm_X (sm_B S))) r (l + 1)) l b j v))), some (v_I (wv_ (j + 1))), t.1] [] t.2 Q := by
  have hX9 := hV.2.2.2.1.1
  have hL9 := hV.2.2.2.1.2.1
  obtain ⟨L, hL40, hli⟩ := hV.2.1
  have ht := hX9.2.1 l hl
  have h3 := hV.1.2 _ ht
  have g1 := wv_s (j := j) (by omega)
  have g2 := wv_g (j := j) (by omega)
  have hz : Int32.ofNat b - Int32.ofNat 40 + (xm_l (bm_X (sm_B S)) (xm_t (bm_X (sm_B S)) l) + wv_ j) * Int32.ofNat (if tm_kd (sm_T S) (xm_t (bm_X (sm_B S)) l) = 3 then 2 else 1) = zt_ (sm_T S) (bm_X (sm_B S)) l b j := rfl
  have hw0 := h
  have ctab := fun d Q => c_tab h.2.2.2.1 hV.1 (d := d) (Q := Q) ht
  have hq := RC_CQ h hV
  have hC := h.1
  unfold sh_C at hC
  have hr0 : w_r _ 1000 0 = some (gm_b G) := h.2.2.1
  have hT := h.2.2.2.1
  unfold CT_ at hT
  have hA : SO_ _ 1008 := h.2.1.2.1.1
  unfold SO_ at hA
  have hA2 : SO_ _ 1429 := h.2.1.2.2.2.2
  unfold SO_ at hA2
  have hS : CS_ _ 1008 (tm_n (sm_T S)) (bm_X (sm_B S)) := h.2.2.2.2.2.2.2.1.1
  unfold CS_ at hS
  have hK : sh_B _ 1007 := h.2.1.1
  unfold sh_B at hK
  have hB := h.2.2.2.2.2.2.2.1.2
  have hR := h.2.2.2.2.2.2.2.2.2
  simp only [Nat.reduceAdd] at hA hA2 hS hK hB
  obtain ⟨hn, hk4⟩ := hV.1
  obtain ⟨hW1, hW2, hW3⟩ := hV.2.2.2.1.1
  have h4 : w_t w (gm_pn G (xm_t (bm_X (sm_B S)) l)) = 32 + tm_kd (sm_T S) (xm_t (bm_X (sm_B S)) l) := by simp (disch := omega) only [hT]
  have vt := fun d ls y z Q => vt_44 (d := d) (ls := ls) (y := y) (z := z) (Q := Q) h4 h3
  have pt := fun d Q => p_times (d := d) (Q := Q) h4 h3
  have pre : ∀ Q, wp (d + r + 4) 44 57 [some (v_R (some 1000)), some (v_I (Int32.ofNat l)), some (v_I (Int32.ofNat b - Int32.ofNat 40)), some (v_R (some 1437)), some (v_I (Int32.ofNat (81 * l + b))), some (v_I (Int32.ofNat (xm_t (bm_X (sm_B S)) l))), some (v_I (Int32.ofNat v)), some (v_I (wv_ j)), a8] [] w Q = if tm_li (sm_T S) < i_ab (zt_ (sm_T S) (bm_X (sm_B S)) l b j) then wp (d + r + 4) 44 138 [some (v_R (some 1000)), some (v_I (Int32.ofNat l)), some (v_I (Int32.ofNat b - Int32.ofNat 40)), some (v_R (some 1437)), some (v_I (Int32.ofNat (81 * l + b))), some (v_I (Int32.ofNat (xm_t (bm_X (sm_B S)) l))), some (v_I (Int32.ofNat v)), some (v_I (wv_ j)), some (v_I (zt_ (sm_T S) (bm_X (sm_B S)) l b j))] [] w Q else wp (d + r + 4) 44 115 [some (v_R (some 1000)), some (v_I (Int32.ofNat l)), some (v_I (Int32.ofNat b - Int32.ofNat 40)), some (v_R (some 1437)), some (v_I (Int32.ofNat (81 * l + b))), some (v_I (Int32.ofNat (xm_t (bm_X (sm_B S)) l))), some (v_I (Int32.ofNat v)), some (v_I (wv_ j)), some (v_I (zt_ (sm_T S) (bm_X (sm_B S)) l b j))] [] w Q := fun Q => by
    rw [x_44_57]
    simp (disch := first | omega | decide | exact ko_b _ | assumption | (simp only [t_si, t_sl, t_sr, t_sI, t_sR, n_si, n_sl, n_sr, n_sI, n_sR, r_si, r_sl, r_sI]; first | done | omega)) only [x_44_e, x_44_b, x_44_59, x_44_61, x_44_64, x_44_65, x_44_66, x_44_69, x_44_72, x_44_74, x_44_75, x_44_77, x_44_78, x_44_79, x_44_82, x_44_85, x_44_87, x_44_90, bk_v, bk_n, nl_I, nl_R, nl_L, nl_0, oo_lt, oo_le, oo_eq, oo_add, oo_sub, oo_tn, oo_ir, nn_leT, nn_leF, nn_ltT, nn_ltF, nn_eqT, nn_eqF, bv_0, bv_1, ko_b, ko_1, ko_0, true_and, and_true, if_true, if_false, not_true_eq_false, not_false_eq_true, oo_02, decide_eq_true_eq, decide_eq_false_iff_not, ite_not, Nat.reduceAdd, Nat.reduceLT, Nat.reduceSub, Nat.reduceLeDiff, reduceIte, Bool.true_eq_false, Bool.false_eq_true, reduceCtorEq, eq_self, decide_true, decide_false, bv_t, bv_f, and_self, t_si, t_sl, t_sr, t_sI, t_sR, n_si, n_sl, n_sr, n_sI, n_sR, r_si, r_sl, r_sI, hC, hr0, hT, hA, hS, hK, hB, hR, ctab, g2]
    rw [vt, pt]
    simp (disch := first | omega | decide | exact ko_b _ | assumption | (simp only [t_si, t_sl, t_sr, t_sI, t_sR, n_si, n_sl, n_sr, n_sI, n_sR, r_si, r_sl, r_sI]; first | done | omega)) only [x_44_e, x_44_b, x_44_96, x_44_97, x_44_98, x_44_100, x_44_102, x_44_105, x_44_106, x_44_109, x_44_112, bk_v, bk_n, nl_I, nl_R, nl_L, nl_0, oo_lt, oo_le, oo_eq, oo_add, oo_sub, oo_tn, oo_ir, nn_leT, nn_leF, nn_ltT, nn_ltF, nn_eqT, nn_eqF, bv_0, bv_1, ko_b, ko_1, ko_0, true_and, and_true, if_true, if_false, not_true_eq_false, not_false_eq_true, oo_02, decide_eq_true_eq, decide_eq_false_iff_not, ite_not, Nat.reduceAdd, Nat.reduceLT, Nat.reduceSub, Nat.reduceLeDiff, reduceIte, Bool.true_eq_false, Bool.false_eq_true, reduceCtorEq, eq_self, decide_true, decide_false, bv_t, bv_f, and_self, t_si, t_sl, t_sr, t_sI, t_sR, n_si, n_sl, n_sr, n_sI, n_sR, r_si, r_sl, r_sI, hC, hr0, hT, hA, hS, hK, hB, hR, hz, ab_f]
  clear hC hT hA hA2 hS hK hB hR hq
  by_cases c : i_ab (zt_ (sm_T S) (bm_X (sm_B S)) l b j) ≤ tm_li (sm_T S)
  · obtain ⟨b1, hb1, n1, n2, n3⟩ := nx_1 hX9 hL9 hl hb hj hli hL40 c
    obtain ⟨w1, f1, k1, q1⟩ := ih b1 hb1
    rw [← n3] at q1
    have hF := wf_far (nx := nx_ (sm_T S) (bm_X (sm_B S))) r (l + 1) b1
    have hcj := cj_le j hj
    have ca := wv_c hj
    refine ⟨(some (v_I (zt_ (sm_T S) (bm_X (sm_B S)) l b j)), w1), ⟨f1, k1⟩, fun Q => ?_⟩
    rw [pre, if_neg (Int32.not_lt.mpr c)]
    unfold wf1_
    rw [n1]
    have t0 : w_t w 1000 = 20 := hw0.1.1
    simp (disch := first | omega | decide | exact ko_b _ | assumption | (simp only [t_si, t_sl, t_sr, t_sI, t_sR, n_si, n_sl, n_sr, n_sI, n_sR, r_si, r_sl, r_sI]; first | done | omega)) only [x_44_e, x_44_b, x_44_115, x_44_117, x_44_119, x_44_122, x_44_123, x_44_124, x_44_125, x_44_126, x_44_128, x_44_129, x_44_132, x_44_133, x_44_136, x_44_138, x_44_141, bk_v, nl_I, nl_R, oo_add, oo_lt, Nat.reduceAdd, ab_f, ca, q1, mn_n, g1]
  · refine ⟨(some (v_I (zt_ (sm_T S) (bm_X (sm_B S)) l b j)), w), ⟨fr_rf _ _, hKw⟩, fun Q => ?_⟩
    rw [pre, if_pos (Int32.not_le.mp c)]
    unfold wf1_
    rw [nx_0 c]
    simp (disch := first | omega | decide | exact ko_b _ | assumption | (simp only [t_si, t_sl, t_sr, t_sI, t_sR, n_si, n_sl, n_sr, n_sI, n_sR, r_si, r_sl, r_sI]; first | done | omega)) only [x_44_e, x_44_b, x_44_138, x_44_141, nl_I, nl_R, g1]
theorem c_wfr (hV : WS_ S) {d : Nat} : ∀ (r l b : Nat) (w : Wd), RC_ w G σ S → l + r = xm_L (bm_X (sm_B S)) → b < 81 → KW_ w (sm_T S) (bm_X (sm_B S)) → ∃ w1, Fr_ P37_ w w1 ∧ KW_ w1 (sm_T S) (bm_X (sm_B S)) ∧ ∀ Q, cl (d + r + 3) 44 [v_R (some 1000), v_I (Int32.ofNat l), v_I (Int32.ofNat b - Int32.ofNat 40), v_R (some 1437)] w Q = Q (Sum.inl (some (v_I (Int32.ofNat (wf_ (nx_ (sm_T S) (bm_X (sm_B S))) r l b))))) w1 := by
  have hX9 := hV.2.2.2.1.1
  have hn10 := hV.1.1
  have hLn := hX9.1
  intro r
  induction r with
  | zero =>
    intro l b w h hl hb hKw
    refine ⟨w, fr_rf _ _, hKw, fun Q => ?_⟩
    have hq := RC_CQ h hV
    have hC := h.1
    unfold sh_C at hC
    have hr0 : w_r _ 1000 0 = some (gm_b G) := h.2.2.1
    have hT := h.2.2.2.1
    unfold CT_ at hT
    have hA : SO_ _ 1008 := h.2.1.2.1.1
    unfold SO_ at hA
    have hA2 : SO_ _ 1429 := h.2.1.2.2.2.2
    unfold SO_ at hA2
    have hS : CS_ _ 1008 (tm_n (sm_T S)) (bm_X (sm_B S)) := h.2.2.2.2.2.2.2.1.1
    unfold CS_ at hS
    have hK : sh_B _ 1007 := h.2.1.1
    unfold sh_B at hK
    have hB := h.2.2.2.2.2.2.2.1.2
    have hR := h.2.2.2.2.2.2.2.2.2
    simp only [Nat.reduceAdd] at hA hA2 hS hK hB
    obtain ⟨hn, hk4⟩ := hV.1
    obtain ⟨hW1, hW2, hW3⟩ := hV.2.2.2.1.1
    simp (disch := first | omega | decide | exact ko_b _ | assumption | (simp only [t_si, t_sl, t_sr, t_sI, t_sR, n_si, n_sl, n_sr, n_sI, n_sR, r_si, r_sl, r_sI]; first | done | omega)) only [x_44_e, x_44_b, x_44_0, x_44_1, x_44_2, x_44_5, x_44_8, x_44_11, x_44_12, bk_v, bk_n, nl_I, nl_R, nl_L, nl_0, oo_lt, oo_le, oo_eq, oo_add, oo_sub, oo_tn, oo_ir, nn_leT, nn_leF, nn_ltT, nn_ltF, nn_eqT, nn_eqF, bv_0, bv_1, ko_b, ko_1, ko_0, true_and, and_true, if_true, if_false, not_true_eq_false, not_false_eq_true, oo_02, decide_eq_true_eq, decide_eq_false_iff_not, ite_not, Nat.reduceAdd, Nat.reduceLT, Nat.reduceSub, Nat.reduceLeDiff, reduceIte, Bool.true_eq_false, Bool.false_eq_true, reduceCtorEq, eq_self, decide_true, decide_false, bv_t, bv_f, and_self, t_si, t_sl, t_sr, t_sI, t_sR, n_si, n_sl, n_sr, n_sI, n_sR, r_si, r_sl, r_sI, hC, hr0, hT, hA, hS, hK, hB, hR, wf_]
  | succ r ih =>
    intro l b w h hl hb hKw
    have hl2 : l < xm_L (bm_X (sm_B S)) := by omega
    have er : xm_L (bm_X (sm_B S)) - l = r + 1 := by omega
    have key : 81 * l + b < 810 := by omega
    have kw := hKw l b hl2 hb
    have hw0 := h
    by_cases c : w_i w 1437 (81 * l + b) = Int32.ofInt (-1)
    · obtain ⟨t, ⟨i1, i2, i3⟩, q1⟩ := lp_ig (fun j (v : Nat) (t : Option Vl × Wd) Q => wp (d + r + 4) 44 57 [some (v_R (some 1000)), some (v_I (Int32.ofNat l)), some (v_I (Int32.ofNat b - Int32.ofNat 40)), some (v_R (some 1437)), some (v_I (Int32.ofNat (81 * l + b))), some (v_I (Int32.ofNat (xm_t (bm_X (sm_B S)) l))), some (v_I (Int32.ofNat v)), some (v_I (wv_ j)), t.1] [] t.2 Q) (fun j v t => Fr_ P37_ w t.2 ∧ KW_ t.2 (sm_T S) (bm_X (sm_B S)) ∧ v ≤ 100000) (wf1_ (nx_ (sm_T S) (bm_X (sm_B S))) (wf_ (nx_ (sm_T S) (bm_X (sm_B S))) r (l + 1)) l b) 19 0 100000 (none, w) (fun j v t _ hj hC => by
        have r1 := RC_37 hw0 hV hC.1
        obtain ⟨t1, ⟨g1, g2⟩, g3⟩ := c_wf1 r1 hV (d := d) (l := l) (b := b) (r := r) (j := j) (v := v) (a8 := t.1) hl2 hb (by omega) hC.2.2 (fun b1 hb1 => ih (l + 1) b1 t.2 r1 (by omega) hb1 hC.2.1) hC.2.1
        refine ⟨t1, ⟨fr_tr hC.1 g1, g2, ?_⟩, g3⟩
        have h1 := hC.2.2
        unfold wf1_
        split <;> omega) ⟨fr_rf _ _, hKw, Nat.le_refl _⟩
      have ev : it_ (wf1_ (nx_ (sm_T S) (bm_X (sm_B S))) (wf_ (nx_ (sm_T S) (bm_X (sm_B S))) r (l + 1)) l b) 0 19 100000 = wf_ (nx_ (sm_T S) (bm_X (sm_B S))) (r + 1) l b := rfl
      rw [ev] at q1 i3
      refine ⟨s_i t.2 1437 (81 * l + b) (Int32.ofNat (wf_ (nx_ (sm_T S) (bm_X (sm_B S))) (r + 1) l b)), fr_si i1 rfl, fun l1 b1 hl1 hb1 => ?_, fun Q => ?_⟩
      · rw [i_si]
        by_cases e : 81 * l1 + b1 = 81 * l + b
        · rw [if_pos ⟨rfl, e⟩]
          have e1 : l1 = l := by omega
          have e2 : b1 = b := by omega
          subst e1; subst e2
          rw [er]
          exact Or.inr rfl
        · rw [if_neg (fun z => e z.2)]
          exact i2 l1 b1 hl1 hb1
      · have r1 := RC_37 hw0 hV i1
        have hh := r1.1
        unfold sh_C at hh
        have t37 : w_t t.2 1437 = 1 := by simp only [hh]
        have n37 : w_n t.2 1437 = 810 := by simp only [hh]
        clear hh
        have g2 := wv_g (j := 0 + 19) (by omega)
        have fin : wp (d + r + 4) 44 57 [some (v_R (some 1000)), some (v_I (Int32.ofNat l)), some (v_I (Int32.ofNat b - Int32.ofNat 40)), some (v_R (some 1437)), some (v_I (Int32.ofNat (81 * l + b))), some (v_I (Int32.ofNat (xm_t (bm_X (sm_B S)) l))), some (v_I (Int32.ofNat (wf_ (nx_ (sm_T S) (bm_X (sm_B S))) (r + 1) l b))), some (v_I (wv_ (0 + 19))), t.1] [] t.2 Q = Q (Sum.inl (some (v_I (Int32.ofNat (wf_ (nx_ (sm_T S) (bm_X (sm_B S))) (r + 1) l b))))) (s_i t.2 1437 (81 * l + b) (Int32.ofNat (wf_ (nx_ (sm_T S) (bm_X (sm_B S))) (r + 1) l b))) := by
          rw [x_44_57]
          simp (disch := first | omega | decide | exact ko_b _ | assumption | (simp only [t_si, t_sl, t_sr, t_sI, t_sR, n_si, n_sl, n_sr, n_sI, n_sR, r_si, r_sl, r_sI]; first | done | omega)) only [x_44_e, x_44_b, x_44_59, x_44_61, x_44_e, x_44_b, x_44_144, x_44_145, x_44_147, x_44_149, x_44_150, x_44_152, bk_v, bk_n, nl_I, nl_R, nl_L, nl_0, oo_lt, oo_le, oo_eq, oo_add, oo_sub, oo_tn, oo_ir, nn_leT, nn_leF, nn_ltT, nn_ltF, nn_eqT, nn_eqF, bv_0, bv_1, ko_b, ko_1, ko_0, true_and, and_true, if_true, if_false, not_true_eq_false, not_false_eq_true, oo_02, decide_eq_true_eq, decide_eq_false_iff_not, ite_not, Nat.reduceAdd, Nat.reduceLT, Nat.reduceSub, Nat.reduceLeDiff, reduceIte, Bool.true_eq_false, Bool.false_eq_true, reduceCtorEq, eq_self, decide_true, decide_false, bv_t, bv_f, and_self, t_si, t_sl, t_sr, t_sI, t_sR, n_si, n_sl, n_sr, n_sI, n_sR, r_si, r_sl, r_sI, n37, g2]
        refine Eq.trans ?_ ((q1 Q).trans fin)
        have hq := RC_CQ h hV
        have hC := h.1
        unfold sh_C at hC
        have hr0 : w_r _ 1000 0 = some (gm_b G) := h.2.2.1
        have hT := h.2.2.2.1
        unfold CT_ at hT
        have hA : SO_ _ 1008 := h.2.1.2.1.1
        unfold SO_ at hA
        have hA2 : SO_ _ 1429 := h.2.1.2.2.2.2
        unfold SO_ at hA2
        have hS : CS_ _ 1008 (tm_n (sm_T S)) (bm_X (sm_B S)) := h.2.2.2.2.2.2.2.1.1
        unfold CS_ at hS
        have hK : sh_B _ 1007 := h.2.1.1
        unfold sh_B at hK
        have hB := h.2.2.2.2.2.2.2.1.2
        have hR := h.2.2.2.2.2.2.2.2.2
        simp only [Nat.reduceAdd] at hA hA2 hS hK hB
        obtain ⟨hn, hk4⟩ := hV.1
        obtain ⟨hW1, hW2, hW3⟩ := hV.2.2.2.1.1
        rw [show d + (r + 1) + 3 = d + r + 4 by omega]
        simp (disch := first | omega | decide | exact ko_b _ | assumption | (simp only [t_si, t_sl, t_sr, t_sI, t_sR, n_si, n_sl, n_sr, n_sI, n_sR, r_si, r_sl, r_sI]; first | done | omega)) only [x_44_e, x_44_b, x_44_0, x_44_1, x_44_2, x_44_5, x_44_8, x_44_11, x_44_12, x_44_13, x_44_15, x_44_16, x_44_17, x_44_18, x_44_19, x_44_21, x_44_22, x_44_24, x_44_25, x_44_27, x_44_28, x_44_29, x_44_32, x_44_33, x_44_35, x_44_36, x_44_37, x_44_38, x_44_41, x_44_44, x_44_45, x_44_46, x_44_48, x_44_51, x_44_53, x_44_55, bk_v, bk_n, nl_I, nl_R, nl_L, nl_0, oo_lt, oo_le, oo_eq, oo_add, oo_sub, oo_tn, oo_ir, nn_leT, nn_leF, nn_ltT, nn_ltF, nn_eqT, nn_eqF, bv_0, bv_1, ko_b, ko_1, ko_0, true_and, and_true, if_true, if_false, not_true_eq_false, not_false_eq_true, oo_02, decide_eq_true_eq, decide_eq_false_iff_not, ite_not, Nat.reduceAdd, Nat.reduceLT, Nat.reduceSub, Nat.reduceLeDiff, reduceIte, Bool.true_eq_false, Bool.false_eq_true, reduceCtorEq, eq_self, decide_true, decide_false, bv_t, bv_f, and_self, t_si, t_sl, t_sr, t_sI, t_sR, n_si, n_sl, n_sr, n_sI, n_sR, r_si, r_sl, r_sI, hC, hr0, hT, hA, hS, hK, hB, hR, oo_mul, kx_, c, wv_0]
    · have kw2 := kw.resolve_left c
      rw [er] at kw2
      refine ⟨w, fr_rf _ _, hKw, fun Q => ?_⟩
      have hF := wf_far (nx := nx_ (sm_T S) (bm_X (sm_B S))) (r + 1) l b
      have hne := oi_s1 (by omega : wf_ (nx_ (sm_T S) (bm_X (sm_B S))) (r + 1) l b < 2147483648)
      have hq := RC_CQ h hV
      have hC := h.1
      unfold sh_C at hC
      have hr0 : w_r _ 1000 0 = some (gm_b G) := h.2.2.1
      have hT := h.2.2.2.1
      unfold CT_ at hT
      have hA : SO_ _ 1008 := h.2.1.2.1.1
      unfold SO_ at hA
      have hA2 : SO_ _ 1429 := h.2.1.2.2.2.2
      unfold SO_ at hA2
      have hS : CS_ _ 1008 (tm_n (sm_T S)) (bm_X (sm_B S)) := h.2.2.2.2.2.2.2.1.1
      unfold CS_ at hS
      have hK : sh_B _ 1007 := h.2.1.1
      unfold sh_B at hK
      have hB := h.2.2.2.2.2.2.2.1.2
      have hR := h.2.2.2.2.2.2.2.2.2
      simp only [Nat.reduceAdd] at hA hA2 hS hK hB
      obtain ⟨hn, hk4⟩ := hV.1
      obtain ⟨hW1, hW2, hW3⟩ := hV.2.2.2.1.1
      simp (disch := first | omega | decide | exact ko_b _ | assumption | (simp only [t_si, t_sl, t_sr, t_sI, t_sR, n_si, n_sl, n_sr, n_sI, n_sR, r_si, r_sl, r_sI]; first | done | omega)) only [x_44_e, x_44_b, x_44_0, x_44_1, x_44_2, x_44_5, x_44_8, x_44_11, x_44_12, x_44_13, x_44_15, x_44_16, x_44_17, x_44_18, x_44_19, x_44_21, x_44_22, x_44_24, x_44_25, x_44_27, x_44_28, x_44_29, x_44_32, x_44_33, x_44_35, x_44_36, bk_v, bk_n, nl_I, nl_R, nl_L, nl_0, oo_lt, oo_le, oo_eq, oo_add, oo_sub, oo_tn, oo_ir, nn_leT, nn_leF, nn_ltT, nn_ltF, nn_eqT, nn_eqF, bv_0, bv_1, ko_b, ko_1, ko_0, true_and, and_true, if_true, if_false, not_true_eq_false, not_false_eq_true, oo_02, decide_eq_true_eq, decide_eq_false_iff_not, ite_not, Nat.reduceAdd, Nat.reduceLT, Nat.reduceSub, Nat.reduceLeDiff, reduceIte, Bool.true_eq_false, Bool.false_eq_true, reduceCtorEq, eq_self, decide_true, decide_false, bv_t, bv_f, and_self, t_si, t_sl, t_sr, t_sI, t_sR, n_si, n_sl, n_sr, n_sI, n_sR, r_si, r_sl, r_sI, hC, hr0, hT, hA, hS, hK, hB, hR, oo_mul, kx_, kw2, hne]
theorem c_wedges (h : RC_ w G σ S) (hV : WS_ S) {d : Nat} : CR_ G (d + 20) 43 [v_R (some 1000)] w (v_I (q_wed (sm_T S) (bm_X (sm_B S)))) := by
  have hX9 := hV.2.2.2.1.1
  have hn10 := hV.1.1
  have hLn := hX9.1
  have hw0 := h
  obtain ⟨w1, ⟨i1, i2⟩, q1⟩ := lp_ex (fun k (t : Wd) Q => wp (d + 20) 43 2 [some (v_R (some 1000)), some (v_I (Int32.ofNat k))] [] t Q) (fun k t => Fr_ P37_ w t ∧ ∀ v, v < k → w_i t 1437 v = Int32.ofInt (-1)) 810 (fun k t hk hI => by
    refine ⟨s_i t 1437 k (Int32.ofInt (-1)), ⟨fr_si hI.1 rfl, fun v hv => ?_⟩, fun Q => ?_⟩
    · rw [i_si]
      by_cases c : v = k
      · rw [if_pos ⟨rfl, c⟩]
      · rw [if_neg (fun z => c z.2)]; exact hI.2 v (by omega)
    · have h := RC_37 hw0 hV hI.1
      have hq := RC_CQ h hV
      have hC := h.1
      unfold sh_C at hC
      have hr0 : w_r _ 1000 0 = some (gm_b G) := h.2.2.1
      have hT := h.2.2.2.1
      unfold CT_ at hT
      have hA : SO_ _ 1008 := h.2.1.2.1.1
      unfold SO_ at hA
      have hA2 : SO_ _ 1429 := h.2.1.2.2.2.2
      unfold SO_ at hA2
      have hS : CS_ _ 1008 (tm_n (sm_T S)) (bm_X (sm_B S)) := h.2.2.2.2.2.2.2.1.1
      unfold CS_ at hS
      have hK : sh_B _ 1007 := h.2.1.1
      unfold sh_B at hK
      have hB := h.2.2.2.2.2.2.2.1.2
      have hR := h.2.2.2.2.2.2.2.2.2
      simp only [Nat.reduceAdd] at hA hA2 hS hK hB
      obtain ⟨hn, hk4⟩ := hV.1
      obtain ⟨hW1, hW2, hW3⟩ := hV.2.2.2.1.1
      rw [x_43_2]
      simp (disch := first | omega | decide | exact ko_b _ | assumption | (simp only [t_si, t_sl, t_sr, t_sI, t_sR, n_si, n_sl, n_sr, n_sI, n_sR, r_si, r_sl, r_sI]; first | done | omega)) only [x_43_e, x_43_b, x_43_3, x_43_4, x_43_7, x_43_8, x_43_11, x_43_12, x_43_15, x_43_16, x_43_17, x_43_18, x_43_21, bk_v, bk_n, nl_I, nl_R, nl_L, nl_0, oo_lt, oo_le, oo_eq, oo_add, oo_sub, oo_tn, oo_ir, nn_leT, nn_leF, nn_ltT, nn_ltF, nn_eqT, nn_eqF, bv_0, bv_1, ko_b, ko_1, ko_0, true_and, and_true, if_true, if_false, not_true_eq_false, not_false_eq_true, oo_02, decide_eq_true_eq, decide_eq_false_iff_not, ite_not, Nat.reduceAdd, Nat.reduceLT, Nat.reduceSub, Nat.reduceLeDiff, reduceIte, Bool.true_eq_false, Bool.false_eq_true, reduceCtorEq, eq_self, decide_true, decide_false, bv_t, bv_f, and_self, t_si, t_sl, t_sr, t_sI, t_sR, n_si, n_sl, n_sr, n_sI, n_sR, r_si, r_sl, r_sI, hC]) 810 0 w (Nat.zero_add _) ⟨fr_rf _ _, fun v hv => absurd hv (Nat.not_lt_zero v)⟩
  have r1 := RC_37 hw0 hV i1
  obtain ⟨w2, f2, k2, q2⟩ := c_wfr hV (d := d + 16 - xm_L (bm_X (sm_B S))) (xm_L (bm_X (sm_B S))) 0 40 w1 r1 (Nat.zero_add _) (by omega) (fun l b hl hb => Or.inl (i2 _ (by omega)))
  have e0 : Int32.ofNat 40 - Int32.ofNat 40 = Int32.ofNat 0 := by decide
  rw [e0, show d + 16 - xm_L (bm_X (sm_B S)) + xm_L (bm_X (sm_B S)) + 3 = d + 19 by omega] at q2
  refine ⟨w2, fr_mo (fr_tr i1 f2) (fun a k z => by unfold P37_ at z; unfold pc_; omega), fun Q => ?_⟩
  have hh := r1.1
  unfold sh_C at hh
  have t0 : w_t w1 1000 = 20 := hh.1
  have r11 : w_r w1 1000 11 = some 1437 := by simp only [hh]
  have t37 : w_t w1 1437 = 1 := by simp only [hh]
  have n37 : w_n w1 1437 = 810 := by simp only [hh]
  clear hh
  have hF := wf_far (nx := nx_ (sm_T S) (bm_X (sm_B S))) (xm_L (bm_X (sm_B S))) 0 40
  refine Eq.trans ?_ ((q1 Q).trans ?_)
  · simp (disch := first | omega | decide | exact ko_b _ | assumption | (simp only [t_si, t_sl, t_sr, t_sI, t_sR, n_si, n_sl, n_sr, n_sI, n_sR, r_si, r_sl, r_sI]; first | done | omega)) only [x_43_e, x_43_b, x_43_0, x_43_1, bk_v, bk_n, nl_I, nl_R, nl_L, nl_0, oo_lt, oo_le, oo_eq, oo_add, oo_sub, oo_tn, oo_ir, nn_leT, nn_leF, nn_ltT, nn_ltF, nn_eqT, nn_eqF, bv_0, bv_1, ko_b, ko_1, ko_0, true_and, and_true, if_true, if_false, not_true_eq_false, not_false_eq_true, oo_02, decide_eq_true_eq, decide_eq_false_iff_not, ite_not, Nat.reduceAdd, Nat.reduceLT, Nat.reduceSub, Nat.reduceLeDiff, reduceIte, Bool.true_eq_false, Bool.false_eq_true, reduceCtorEq, eq_self, decide_true, decide_false, bv_t, bv_f, and_self, t_si, t_sl, t_sr, t_sI, t_sR, n_si, n_sl, n_sr, n_sI, n_sR, r_si, r_sl, r_sI]
  · rw [x_43_2]
    unfold q_wed
    by_cases c : wf_ (nx_ (sm_T S) (bm_X (sm_B S))) (xm_L (bm_X (sm_B S))) 0 40 < 100000
    · simp (disch := first | omega | decide | exact ko_b _ | assumption | (simp only [t_si, t_sl, t_sr, t_sI, t_sR, n_si, n_sl, n_sr, n_sI, n_sR, r_si, r_sl, r_sI]; first | done | omega)) only [x_43_e, x_43_b, x_43_3, x_43_4, x_43_7, x_43_8, x_43_11, x_43_12, x_43_15, x_43_16, x_43_17, x_43_18, x_43_21, x_43_24, x_43_25, x_43_26, x_43_27, x_43_28, x_43_31, x_43_34, x_43_35, x_43_36, x_43_39, x_43_42, x_43_43, x_43_46, x_43_47, bk_v, bk_n, nl_I, nl_R, nl_L, nl_0, oo_lt, oo_le, oo_eq, oo_add, oo_sub, oo_tn, oo_ir, nn_leT, nn_leF, nn_ltT, nn_ltF, nn_eqT, nn_eqF, bv_0, bv_1, ko_b, ko_1, ko_0, true_and, and_true, if_true, if_false, not_true_eq_false, not_false_eq_true, oo_02, decide_eq_true_eq, decide_eq_false_iff_not, ite_not, Nat.reduceAdd, Nat.reduceLT, Nat.reduceSub, Nat.reduceLeDiff, reduceIte, Bool.true_eq_false, Bool.false_eq_true, reduceCtorEq, eq_self, decide_true, decide_false, bv_t, bv_f, and_self, t_si, t_sl, t_sr, t_sI, t_sR, n_si, n_sl, n_sr, n_sI, n_sR, r_si, r_sl, r_sI, r11, n37, q2]
    · simp (disch := first | omega | decide | exact ko_b _ | assumption | (simp only [t_si, t_sl, t_sr, t_sI, t_sR, n_si, n_sl, n_sr, n_sI, n_sR, r_si, r_sl, r_sI]; first | done | omega)) only [x_43_e, x_43_b, x_43_3, x_43_4, x_43_7, x_43_8, x_43_11, x_43_12, x_43_15, x_43_16, x_43_17, x_43_18, x_43_21, x_43_24, x_43_25, x_43_26, x_43_27, x_43_28, x_43_31, x_43_34, x_43_35, x_43_36, x_43_39, x_43_42, x_43_43, x_43_46, x_43_47, bk_v, bk_n, nl_I, nl_R, nl_L, nl_0, oo_lt, oo_le, oo_eq, oo_add, oo_sub, oo_tn, oo_ir, nn_leT, nn_leF, nn_ltT, nn_ltF, nn_eqT, nn_eqF, bv_0, bv_1, ko_b, ko_1, ko_0, true_and, and_true, if_true, if_false, not_true_eq_false, not_false_eq_true, oo_02, decide_eq_true_eq, decide_eq_false_iff_not, ite_not, Nat.reduceAdd, Nat.reduceLT, Nat.reduceSub, Nat.reduceLeDiff, reduceIte, Bool.true_eq_false, Bool.false_eq_true, reduceCtorEq, eq_self, decide_true, decide_false, bv_t, bv_f, and_self, t_si, t_sl, t_sr, t_sI, t_sR, n_si, n_sl, n_sr, n_sI, n_sR, r_si, r_sl, r_sI, r11, n37, q2]
/-! the model -/
def FW_ (w : Wd) (a : Nat) (g : Nat → Nat) : Prop := ∀ k, k < 81 → w_i w a k = Int32.ofNat (g k)
def Pfw_ (a _k : Nat) : Prop := a = 1464 ∨ a = 1465
theorem Pfw_pm {a k : Nat} (h : Pfw_ a k) : pm_ a k := by unfold Pfw_ at h; unfold pm_; omega
theorem fw1_le {nx : Nat → Nat → Nat → Option Nat} {few g : Nat → Nat} {l k j : Nat} (hg : ∀ x, g x ≤ 100000) : ∀ x, fw1_ nx few l k j g x ≤ 100000 := by
  intro x
  unfold fw1_
  cases nx l k j with
  | none => exact hg x
  | some b =>
    have := hg b
    show (if x = b then min (g b) (few k + cj_ j) else g x) ≤ 100000
    split
    · omega
    · exact hg x
theorem m_fw1 (h : MQ_ w (sm_T S) (bm_X (sm_B S))) (hV : WS_ S) {d l k j : Nat} {few g : Nat → Nat} (hl : l < xm_L (bm_X (sm_B S))) (hk : k < 81) (hj : j < 19) (hF : FW_ w 1464 few) (hG : FW_ w 1465 g) (hlt : few k < 100000) (hg : ∀ x, g x ≤ 100000) {a5 : Option Vl} : ∃ t : Option Vl × Wd, (Fr_ (fun a _ => a = 1465) w t.2 ∧ FW_ t.2 1465 (fw1_ (nx_ (sm_T S) (bm_X (sm_B S))) few l k j g)) ∧ ∀ Q, wp d 230 50 [some (v_R (some 1440)), some (v_I (Int32.ofNat (xm_t (bm_X (sm_B S)) l))), some (v_I (Int32.ofNat (tmn_ (sm_T S) (xm_t (bm_X (sm_B S)) l)))), some (v_I (Int32.ofNat k)), some (v_I (wv_ j)), a5] [] w Q = wp d 230 50 [some (v_R (some 1440)), some (v_I (Int32.ofNat (xm_t (bm_X (sm_B S)) l))), some (v_I (Int32.ofNat (tmn_ (sm_T S) (xm_t (bm_X (sm_B S)) l)))), some (v_I (Int32.ofNat k)), some (v_I (wv_ (j + 1))), t.1] [] t.2 Q := by
  have hX9 := hV.2.2.2.1.1
  have hL9 := hV.2.2.2.1.2.1
  obtain ⟨L, hL40, hli⟩ := hV.2.1
  have ht := hX9.2.1 l hl
  have hn10 := hV.1.1
  have g1 := wv_s (j := j) (by omega)
  have g2 := wv_g (j := j) (by omega)
  have hcj := cj_le j hj
  have ca := wv_c hj
  have eF := hF k hk
  have hz : Int32.ofNat k - Int32.ofNat 40 + Int32.ofNat (tmn_ (sm_T S) (xm_t (bm_X (sm_B S)) l)) * (xm_l (bm_X (sm_B S)) (xm_t (bm_X (sm_B S)) l) + wv_ j) = zt_ (sm_T S) (bm_X (sm_B S)) l k j := by
    rw [Int32.mul_comm]; rfl
  have hM := h.1
  unfold sh_M at hM
  have u0 : w_t w 1440 = 25 := hM.1
  have u4 : w_r w 1440 4 = some 1444 := by simp only [hM]
  have u26 : w_r w 1440 26 = some 1456 := by simp only [hM]
  have u41 : w_r w 1440 41 = some 1464 := by simp only [hM]
  have u42 : w_r w 1440 42 = some 1465 := by simp only [hM]
  have t44 : w_t w 1444 = 1 := by simp only [hM]
  have n44 : w_n w 1444 = 8 := by simp only [hM]
  have t56 : w_t w 1456 = 1 := by simp only [hM]
  have n56 : w_n w 1456 = 10 := by simp only [hM]
  have t64 : w_t w 1464 = 1 := by simp only [hM]
  have n64 : w_n w 1464 = 81 := by simp only [hM]
  have t65 : w_t w 1465 = 1 := by simp only [hM]
  have n65 : w_n w 1465 = 81 := by simp only [hM]
  clear hM
  have e1 : w_i w 1444 1 = tm_li (sm_T S) := h.2.1.2.1
  have e56 : w_i w 1456 (xm_t (bm_X (sm_B S)) l) = xm_l (bm_X (sm_B S)) (xm_t (bm_X (sm_B S)) l) := h.2.2.1.2.2.2.2.2.2 _ ht
  unfold fw1_
  by_cases c : i_ab (zt_ (sm_T S) (bm_X (sm_B S)) l k j) ≤ tm_li (sm_T S)
  · obtain ⟨b1, hb1, n1, n2, n3⟩ := nx_1 hX9 hL9 hl hk hj hli hL40 c
    rw [n1]
    have eG := hG b1 hb1
    have hgb := hg b1
    have c2 := Int32.not_lt.mpr c
    refine ⟨(some (v_I (zt_ (sm_T S) (bm_X (sm_B S)) l k j)), s_i w 1465 b1 (Int32.ofNat (min (g b1) (few k + cj_ j)))), ⟨fr_si (fr_rf _ _) rfl, fun x hx => ?_⟩, fun Q => ?_⟩
    · show _ = Int32.ofNat (if x = b1 then min (g b1) (few k + cj_ j) else g x)
      rw [i_si]
      by_cases e : x = b1
      · rw [if_pos ⟨rfl, e⟩, if_pos e]
      · rw [if_neg (fun z => e z.2), if_neg e]; exact hG x hx
    · rw [x_230_50]
      simp (disch := first | omega | decide | exact ko_b _ | assumption | (simp only [t_si, t_sl, t_sr, t_sI, t_sR, n_si, n_sl, n_sr, n_sI, n_sR, r_si, r_sl, r_sI]; first | done | omega)) only [x_230_e, x_230_b, x_230_52, x_230_54, x_230_57, x_230_58, x_230_61, x_230_62, x_230_63, x_230_65, x_230_68, x_230_69, x_230_71, x_230_72, x_230_73, x_230_74, x_230_77, x_230_78, x_230_79, x_230_81, x_230_82, x_230_83, x_230_84, x_230_86, x_230_88, x_230_91, x_230_92, x_230_95, x_230_96, x_230_97, x_230_100, x_230_101, x_230_104, x_230_106, x_230_108, x_230_109, x_230_110, x_230_113, x_230_115, x_230_117, x_230_118, x_230_119, x_230_120, x_230_123, x_230_124, x_230_125, x_230_127, x_230_130, x_230_131, x_230_134, x_230_135, x_230_138, bk_v, bk_n, nl_I, nl_R, nl_L, nl_0, oo_lt, oo_le, oo_eq, oo_add, oo_sub, oo_tn, oo_ir, nn_leT, nn_leF, nn_ltT, nn_ltF, nn_eqT, nn_eqF, bv_0, bv_1, ko_b, ko_1, ko_0, true_and, and_true, if_true, if_false, not_true_eq_false, not_false_eq_true, oo_02, decide_eq_true_eq, decide_eq_false_iff_not, ite_not, Nat.reduceAdd, Nat.reduceLT, Nat.reduceSub, Nat.reduceLeDiff, reduceIte, Bool.true_eq_false, Bool.false_eq_true, reduceCtorEq, eq_self, decide_true, decide_false, bv_t, bv_f, and_self, t_si, t_sl, t_sr, t_sI, t_sR, n_si, n_sl, n_sr, n_sI, n_sR, r_si, r_sl, r_sI, g2, u41, n64, eF, u26, n56, e56, hz, ab_f, u4, n44, e1, c2, u42, n2, n65, eG, ca, mn_n, g1]
  · rw [nx_0 c]
    have c2 := Int32.not_le.mp c
    refine ⟨(some (v_I (zt_ (sm_T S) (bm_X (sm_B S)) l k j)), w), ⟨fr_rf _ _, hG⟩, fun Q => ?_⟩
    rw [x_230_50]
    simp (disch := first | omega | decide | exact ko_b _ | assumption | (simp only [t_si, t_sl, t_sr, t_sI, t_sR, n_si, n_sl, n_sr, n_sI, n_sR, r_si, r_sl, r_sI]; first | done | omega)) only [x_230_e, x_230_b, x_230_52, x_230_54, x_230_57, x_230_58, x_230_61, x_230_62, x_230_63, x_230_65, x_230_68, x_230_69, x_230_71, x_230_72, x_230_73, x_230_74, x_230_77, x_230_78, x_230_79, x_230_81, x_230_82, x_230_83, x_230_84, x_230_86, x_230_88, x_230_91, x_230_92, x_230_95, x_230_96, x_230_97, x_230_100, x_230_101, x_230_104, x_230_106, x_230_108, x_230_109, x_230_110, x_230_113, x_230_115, x_230_117, x_230_118, x_230_119, x_230_120, x_230_123, x_230_124, x_230_125, x_230_127, x_230_130, x_230_131, x_230_134, x_230_135, x_230_138, bk_v, bk_n, nl_I, nl_R, nl_L, nl_0, oo_lt, oo_le, oo_eq, oo_add, oo_sub, oo_tn, oo_ir, nn_leT, nn_leF, nn_ltT, nn_ltF, nn_eqT, nn_eqF, bv_0, bv_1, ko_b, ko_1, ko_0, true_and, and_true, if_true, if_false, not_true_eq_false, not_false_eq_true, oo_02, decide_eq_true_eq, decide_eq_false_iff_not, ite_not, Nat.reduceAdd, Nat.reduceLT, Nat.reduceSub, Nat.reduceLeDiff, reduceIte, Bool.true_eq_false, Bool.false_eq_true, reduceCtorEq, eq_self, decide_true, decide_false, bv_t, bv_f, and_self, t_si, t_sl, t_sr, t_sI, t_sR, n_si, n_sl, n_sr, n_sI, n_sR, r_si, r_sl, r_sI, g2, u41, n64, eF, u26, n56, e56, hz, ab_f, u4, n44, e1, c2, g1]
def P65_ (a _k : Nat) : Prop := a = 1465
theorem fw_le1 {nx : Nat → Nat → Nat → Option Nat} {few : Nat → Nat} {l k : Nat} : ∀ (n j : Nat) (g : Nat → Nat), (∀ x, g x ≤ 100000) → ∀ x, it_ (fw1_ nx few l k) j n g x ≤ 100000 := by
  intro n
  induction n with
  | zero => intro j g hg; exact hg
  | succ n ih => intro j g hg; rw [it_]; exact ih _ _ (fw1_le hg)
theorem fw2_le {nx : Nat → Nat → Nat → Option Nat} {few g : Nat → Nat} {l k : Nat} (hg : ∀ x, g x ≤ 100000) : ∀ x, fw2_ nx few l k g x ≤ 100000 := by
  unfold fw2_
  split
  · exact fw_le1 _ _ _ hg
  · exact hg
theorem fw2_le1 {nx : Nat → Nat → Nat → Option Nat} {few : Nat → Nat} {l : Nat} : ∀ (n k : Nat) (g : Nat → Nat), (∀ x, g x ≤ 100000) → ∀ x, it_ (fw2_ nx few l) k n g x ≤ 100000 := by
  intro n
  induction n with
  | zero => intro k g hg; exact hg
  | succ n ih => intro k g hg; rw [it_]; exact ih _ _ (fw2_le hg)
theorem fw_le (nx : Nat → Nat → Nat → Option Nat) (l : Nat) : ∀ x, fw_ nx l x ≤ 100000 := by
  cases l with
  | zero => intro x; unfold fw_; split <;> omega
  | succ l => rw [fw_]; exact fw2_le1 _ _ _ (fun _ => Nat.le_refl _)
theorem m_fw2 (h : MQ_ w (sm_T S) (bm_X (sm_B S))) (hV : WS_ S) {d l k : Nat} {few g : Nat → Nat} (hl : l < xm_L (bm_X (sm_B S))) (hk : k < 81) (hF : FW_ w 1464 few) (hfe : ∀ x, few x ≤ 100000) (hG : FW_ w 1465 g) (hg : ∀ x, g x ≤ 100000) {a4 a5 : Option Vl} : ∃ t : (Option Vl × Option Vl) × Wd, (Fr_ P65_ w t.2 ∧ FW_ t.2 1465 (fw2_ (nx_ (sm_T S) (bm_X (sm_B S))) few l k g)) ∧ ∀ Q, wp d 230 40 [some (v_R (some 1440)), some (v_I (Int32.ofNat (xm_t (bm_X (sm_B S)) l))), some (v_I (Int32.ofNat (tmn_ (sm_T S) (xm_t (bm_X (sm_B S)) l)))), some (v_I (Int32.ofNat k)), a4, a5] [] w Q = wp d 230 40 [some (v_R (some 1440)), some (v_I (Int32.ofNat (xm_t (bm_X (sm_B S)) l))), some (v_I (Int32.ofNat (tmn_ (sm_T S) (xm_t (bm_X (sm_B S)) l)))), some (v_I (Int32.ofNat (k + 1))), t.1.1, t.1.2] [] t.2 Q := by
  have h0 := h
  have eF := hF k hk
  have hfk := hfe k
  have hM := h.1
  unfold sh_M at hM
  have u0 : w_t w 1440 = 25 := hM.1
  have u41 : w_r w 1440 41 = some 1464 := by simp only [hM]
  have t64 : w_t w 1464 = 1 := by simp only [hM]
  have n64 : w_n w 1464 = 81 := by simp only [hM]
  clear hM
  have w0 := wv_0
  unfold fw2_
  by_cases c : few k < 100000
  · rw [if_pos c]
    obtain ⟨t, ⟨i1, i2, i3⟩, q1⟩ := lp_ig (fun j (g : Nat → Nat) (t : Option Vl × Wd) Q => wp d 230 50 [some (v_R (some 1440)), some (v_I (Int32.ofNat (xm_t (bm_X (sm_B S)) l))), some (v_I (Int32.ofNat (tmn_ (sm_T S) (xm_t (bm_X (sm_B S)) l)))), some (v_I (Int32.ofNat k)), some (v_I (wv_ j)), t.1] [] t.2 Q) (fun j g t => Fr_ P65_ w t.2 ∧ FW_ t.2 1465 g ∧ ∀ x, g x ≤ 100000) (fw1_ (nx_ (sm_T S) (bm_X (sm_B S))) few l k) 19 0 g (a5, w) (fun j g t _ hj hC => by
      have hq := MQ_fr h0 (fr_mo hC.1 (fun a k z => by unfold P65_ at z; unfold pm_; omega))
      obtain ⟨t1, ⟨g1, g2⟩, g3⟩ := m_fw1 hq hV (d := d) (j := j) (a5 := t.1) hl hk (by omega) (fun x hx => by rw [hC.1.2.2.2.2.2 _ _ (by unfold P65_; omega)]; exact hF x hx) hC.2.1 c hC.2.2
      exact ⟨t1, ⟨fr_tr hC.1 (fr_mo g1 (fun a k z => z)), g2, fw1_le hC.2.2⟩, g3⟩) ⟨fr_rf _ _, hG, hg⟩
    refine ⟨((some (v_I (wv_ (0 + 19))), t.1), t.2), ⟨i1, i2⟩, fun Q => ?_⟩
    have g2 := wv_g (j := 0 + 19) (by omega)
    have fin : wp d 230 50 [some (v_R (some 1440)), some (v_I (Int32.ofNat (xm_t (bm_X (sm_B S)) l))), some (v_I (Int32.ofNat (tmn_ (sm_T S) (xm_t (bm_X (sm_B S)) l)))), some (v_I (Int32.ofNat k)), some (v_I (wv_ (0 + 19))), t.1] [] t.2 Q = wp d 230 40 [some (v_R (some 1440)), some (v_I (Int32.ofNat (xm_t (bm_X (sm_B S)) l))), some (v_I (Int32.ofNat (tmn_ (sm_T S) (xm_t (bm_X (sm_B S)) l)))), some (v_I (Int32.ofNat (k + 1))), some (v_I (wv_ (0 + 19))), t.1] [] t.2 Q := by
      rw [x_230_50]
      simp (disch := first | omega | decide | exact ko_b _ | assumption | (simp only [t_si, t_sl, t_sr, t_sI, t_sR, n_si, n_sl, n_sr, n_sI, n_sR, r_si, r_sl, r_sI]; first | done | omega)) only [x_230_e, x_230_b, x_230_52, x_230_54, x_230_e, x_230_b, x_230_141, x_230_144, bk_v, bk_n, nl_I, nl_R, nl_L, nl_0, oo_lt, oo_le, oo_eq, oo_add, oo_sub, oo_tn, oo_ir, nn_leT, nn_leF, nn_ltT, nn_ltF, nn_eqT, nn_eqF, bv_0, bv_1, ko_b, ko_1, ko_0, true_and, and_true, if_true, if_false, not_true_eq_false, not_false_eq_true, oo_02, decide_eq_true_eq, decide_eq_false_iff_not, ite_not, Nat.reduceAdd, Nat.reduceLT, Nat.reduceSub, Nat.reduceLeDiff, reduceIte, Bool.true_eq_false, Bool.false_eq_true, reduceCtorEq, eq_self, decide_true, decide_false, bv_t, bv_f, and_self, t_si, t_sl, t_sr, t_sI, t_sR, n_si, n_sl, n_sr, n_sI, n_sR, r_si, r_sl, r_sI, g2]
    refine Eq.trans ?_ ((q1 Q).trans fin)
    rw [x_230_40]
    simp (disch := first | omega | decide | exact ko_b _ | assumption | (simp only [t_si, t_sl, t_sr, t_sI, t_sR, n_si, n_sl, n_sr, n_sI, n_sR, r_si, r_sl, r_sI]; first | done | omega)) only [x_230_e, x_230_b, x_230_41, x_230_43, x_230_46, x_230_48, bk_v, bk_n, nl_I, nl_R, nl_L, nl_0, oo_lt, oo_le, oo_eq, oo_add, oo_sub, oo_tn, oo_ir, nn_leT, nn_leF, nn_ltT, nn_ltF, nn_eqT, nn_eqF, bv_0, bv_1, ko_b, ko_1, ko_0, true_and, and_true, if_true, if_false, not_true_eq_false, not_false_eq_true, oo_02, decide_eq_true_eq, decide_eq_false_iff_not, ite_not, Nat.reduceAdd, Nat.reduceLT, Nat.reduceSub, Nat.reduceLeDiff, reduceIte, Bool.true_eq_false, Bool.false_eq_true, reduceCtorEq, eq_self, decide_true, decide_false, bv_t, bv_f, and_self, t_si, t_sl, t_sr, t_sI, t_sR, n_si, n_sl, n_sr, n_sI, n_sR, r_si, r_sl, r_sI, wv_0]
  · rw [if_neg c]
    refine ⟨((some (v_I (Int32.ofInt (-9))), a5), w), ⟨fr_rf _ _, hG⟩, fun Q => ?_⟩
    have ej := wv_g (j := 0) (by omega)
    rw [w0] at ej
    rw [x_230_40]
    simp (disch := first | omega | decide | exact ko_b _ | assumption | (simp only [t_si, t_sl, t_sr, t_sI, t_sR, n_si, n_sl, n_sr, n_sI, n_sR, r_si, r_sl, r_sI]; first | done | omega)) only [x_230_e, x_230_b, x_230_41, x_230_43, x_230_46, x_230_48, bk_v, bk_n, nl_I, nl_R, nl_L, nl_0, oo_lt, oo_le, oo_eq, oo_add, oo_sub, oo_tn, oo_ir, nn_leT, nn_leF, nn_ltT, nn_ltF, nn_eqT, nn_eqF, bv_0, bv_1, ko_b, ko_1, ko_0, true_and, and_true, if_true, if_false, not_true_eq_false, not_false_eq_true, oo_02, decide_eq_true_eq, decide_eq_false_iff_not, ite_not, Nat.reduceAdd, Nat.reduceLT, Nat.reduceSub, Nat.reduceLeDiff, reduceIte, Bool.true_eq_false, Bool.false_eq_true, reduceCtorEq, eq_self, decide_true, decide_false, bv_t, bv_f, and_self, t_si, t_sl, t_sr, t_sI, t_sR, n_si, n_sl, n_sr, n_sI, n_sR, r_si, r_sl, r_sI]
    rw [x_230_50]
    simp (disch := first | omega | decide | exact ko_b _ | assumption | (simp only [t_si, t_sl, t_sr, t_sI, t_sR, n_si, n_sl, n_sr, n_sI, n_sR, r_si, r_sl, r_sI]; first | done | omega)) only [x_230_e, x_230_b, x_230_52, x_230_54, x_230_57, x_230_58, x_230_61, x_230_62, x_230_63, x_230_65, x_230_e, x_230_b, x_230_141, x_230_144, bk_v, bk_n, nl_I, nl_R, nl_L, nl_0, oo_lt, oo_le, oo_eq, oo_add, oo_sub, oo_tn, oo_ir, nn_leT, nn_leF, nn_ltT, nn_ltF, nn_eqT, nn_eqF, bv_0, bv_1, ko_b, ko_1, ko_0, true_and, and_true, if_true, if_false, not_true_eq_false, not_false_eq_true, oo_02, decide_eq_true_eq, decide_eq_false_iff_not, ite_not, Nat.reduceAdd, Nat.reduceLT, Nat.reduceSub, Nat.reduceLeDiff, reduceIte, Bool.true_eq_false, Bool.false_eq_true, reduceCtorEq, eq_self, decide_true, decide_false, bv_t, bv_f, and_self, t_si, t_sl, t_sr, t_sI, t_sR, n_si, n_sl, n_sr, n_sI, n_sR, r_si, r_sl, r_sI, ej, u41, n64, eF]
theorem m_wlev (h : MQ_ w (sm_T S) (bm_X (sm_B S))) (hV : WS_ S) {d l : Nat} {few : Nat → Nat} (hl : l < xm_L (bm_X (sm_B S))) (hF : FW_ w 1464 few) (hfe : ∀ x, few x ≤ 100000) : ∃ w1, Fr_ Pfw_ w w1 ∧ FW_ w1 1464 (it_ (fw2_ (nx_ (sm_T S) (bm_X (sm_B S))) few l) 0 81 (fun _ => 100000)) ∧ ∀ Q, cl d 230 [v_R (some 1440), v_I (Int32.ofNat (xm_t (bm_X (sm_B S)) l))] w Q = Q (Sum.inl none) w1 := by
  have h0 := h
  have hX9 := hV.2.2.2.1.1
  have hn10 := hV.1.1
  have ht := hX9.2.1 l hl
  have hk4 := hV.1.2 _ ht
  have p65 : ∀ a k, P65_ a k → pm_ a k := fun a k z => by unfold P65_ at z; unfold pm_; omega
  have fac : ∀ t, MQ_ t (sm_T S) (bm_X (sm_B S)) → w_t t 1440 = 25 ∧ w_r t 1440 41 = some 1464 ∧ w_r t 1440 42 = some 1465 ∧ w_t t 1464 = 1 ∧ w_n t 1464 = 81 ∧ w_t t 1465 = 1 ∧ w_n t 1465 = 81 := fun t hq => by
    have hM := hq.1
    unfold sh_M at hM
    simp only [hM, and_self]
  -- cleared
  obtain ⟨w1, ⟨i1, i2⟩, q1⟩ := lp_ex (fun k (t : Wd) Q => wp d 230 18 [some (v_R (some 1440)), some (v_I (Int32.ofNat (xm_t (bm_X (sm_B S)) l))), some (v_I (Int32.ofNat (tmn_ (sm_T S) (xm_t (bm_X (sm_B S)) l)))), some (v_I (Int32.ofNat k)), none, none] [] t Q) (fun k t => Fr_ P65_ w t ∧ ∀ v, v < k → w_i t 1465 v = Int32.ofNat 100000) 81 (fun k t hk hI => by
    obtain ⟨a1, a2, a3, a4, a5, a6, a7⟩ := fac t (MQ_fr h0 (fr_mo hI.1 p65))
    refine ⟨s_i t 1465 k (Int32.ofNat 100000), ⟨fr_si hI.1 rfl, fun v hv => ?_⟩, fun Q => ?_⟩
    · rw [i_si]
      by_cases c : v = k
      · rw [if_pos ⟨rfl, c⟩]
      · rw [if_neg (fun z => c z.2)]; exact hI.2 v (by omega)
    · rw [x_230_18]
      simp (disch := first | omega | decide | exact ko_b _ | assumption | (simp only [t_si, t_sl, t_sr, t_sI, t_sR, n_si, n_sl, n_sr, n_sI, n_sR, r_si, r_sl, r_sI]; first | done | omega)) only [x_230_e, x_230_b, x_230_19, x_230_21, x_230_24, x_230_25, x_230_28, x_230_29, x_230_31, x_230_32, x_230_35, bk_v, bk_n, nl_I, nl_R, nl_L, nl_0, oo_lt, oo_le, oo_eq, oo_add, oo_sub, oo_tn, oo_ir, nn_leT, nn_leF, nn_ltT, nn_ltF, nn_eqT, nn_eqF, bv_0, bv_1, ko_b, ko_1, ko_0, true_and, and_true, if_true, if_false, not_true_eq_false, not_false_eq_true, oo_02, decide_eq_true_eq, decide_eq_false_iff_not, ite_not, Nat.reduceAdd, Nat.reduceLT, Nat.reduceSub, Nat.reduceLeDiff, reduceIte, Bool.true_eq_false, Bool.false_eq_true, reduceCtorEq, eq_self, decide_true, decide_false, bv_t, bv_f, and_self, t_si, t_sl, t_sr, t_sI, t_sR, n_si, n_sl, n_sr, n_sI, n_sR, r_si, r_sl, r_sI, a3, a7]) 81 0 w (Nat.zero_add _) ⟨fr_rf _ _, fun v hv => absurd hv (Nat.not_lt_zero v)⟩
  -- told on
  obtain ⟨t, ⟨j1, j2, j3⟩, q2⟩ := lp_ig (fun k (g : Nat → Nat) (t : (Option Vl × Option Vl) × Wd) Q => wp d 230 40 [some (v_R (some 1440)), some (v_I (Int32.ofNat (xm_t (bm_X (sm_B S)) l))), some (v_I (Int32.ofNat (tmn_ (sm_T S) (xm_t (bm_X (sm_B S)) l)))), some (v_I (Int32.ofNat k)), t.1.1, t.1.2] [] t.2 Q) (fun k g t => Fr_ P65_ w t.2 ∧ FW_ t.2 1465 g ∧ ∀ x, g x ≤ 100000) (fw2_ (nx_ (sm_T S) (bm_X (sm_B S))) few l) 81 0 (fun _ => 100000) ((none, none), w1) (fun k g t _ hk hC => by
    have hq := MQ_fr h0 (fr_mo hC.1 p65)
    obtain ⟨t1, ⟨g1, g2⟩, g3⟩ := m_fw2 hq hV (d := d) (k := k) (a4 := t.1.1) (a5 := t.1.2) hl (by omega) (fun x hx => by rw [hC.1.2.2.2.2.2 _ _ (by unfold P65_; omega)]; exact hF x hx) hfe hC.2.1 hC.2.2
    exact ⟨t1, ⟨fr_tr hC.1 g1, g2, fw2_le hC.2.2⟩, g3⟩) ⟨i1, fun v hv => i2 v hv, fun _ => Nat.le_refl _⟩
  -- copied
  obtain ⟨u, ⟨k1, k2⟩, q3⟩ := lp_ex (fun k (u : Wd) Q => wp d 230 149 [some (v_R (some 1440)), some (v_I (Int32.ofNat (xm_t (bm_X (sm_B S)) l))), some (v_I (Int32.ofNat (tmn_ (sm_T S) (xm_t (bm_X (sm_B S)) l)))), some (v_I (Int32.ofNat k)), t.1.1, t.1.2] [] u Q) (fun k u => Fr_ (fun a _ => a = 1464) t.2 u ∧ ∀ v, v < k → w_i u 1464 v = w_i t.2 1465 v) 81 (fun k u hk hI => by
    obtain ⟨a1, a2, a3, a4, a5, a6, a7⟩ := fac u (MQ_fr (MQ_fr h0 (fr_mo j1 p65)) (fr_mo hI.1 (fun a k z => by unfold pm_; omega)))
    have e65 : w_i u 1465 k = w_i t.2 1465 k := hI.1.2.2.2.2.2 _ _ (by omega)
    refine ⟨s_i u 1464 k (w_i t.2 1465 k), ⟨fr_si hI.1 rfl, fun v hv => ?_⟩, fun Q => ?_⟩
    · rw [i_si]
      by_cases c : v = k
      · rw [if_pos ⟨rfl, c⟩, c]
      · rw [if_neg (fun z => c z.2)]; exact hI.2 v (by omega)
    · rw [x_230_149]
      simp (disch := first | omega | decide | exact ko_b _ | assumption | (simp only [t_si, t_sl, t_sr, t_sI, t_sR, n_si, n_sl, n_sr, n_sI, n_sR, r_si, r_sl, r_sI]; first | done | omega)) only [x_230_e, x_230_b, x_230_150, x_230_152, x_230_155, x_230_156, x_230_159, x_230_160, x_230_161, x_230_164, x_230_165, x_230_166, x_230_167, x_230_170, bk_v, bk_n, nl_I, nl_R, nl_L, nl_0, oo_lt, oo_le, oo_eq, oo_add, oo_sub, oo_tn, oo_ir, nn_leT, nn_leF, nn_ltT, nn_ltF, nn_eqT, nn_eqF, bv_0, bv_1, ko_b, ko_1, ko_0, true_and, and_true, if_true, if_false, not_true_eq_false, not_false_eq_true, oo_02, decide_eq_true_eq, decide_eq_false_iff_not, ite_not, Nat.reduceAdd, Nat.reduceLT, Nat.reduceSub, Nat.reduceLeDiff, reduceIte, Bool.true_eq_false, Bool.false_eq_true, reduceCtorEq, eq_self, decide_true, decide_false, bv_t, bv_f, and_self, t_si, t_sl, t_sr, t_sI, t_sR, n_si, n_sl, n_sr, n_sI, n_sR, r_si, r_sl, r_sI, a2, a3, a5, a7, e65]) 81 0 t.2 (Nat.zero_add _) ⟨fr_rf _ _, fun v hv => absurd hv (Nat.not_lt_zero v)⟩
  refine ⟨u, fr_tr (fr_mo j1 (fun a k z => Or.inr z)) (fr_mo k1 (fun a k z => Or.inl z)), fun k hk => by rw [k2 k hk]; exact j2 k hk, fun Q => ?_⟩
  have fin : wp d 230 149 [some (v_R (some 1440)), some (v_I (Int32.ofNat (xm_t (bm_X (sm_B S)) l))), some (v_I (Int32.ofNat (tmn_ (sm_T S) (xm_t (bm_X (sm_B S)) l)))), some (v_I (Int32.ofNat 81)), t.1.1, t.1.2] [] u Q = Q (Sum.inl none) u := by
    rw [x_230_149]
    simp (disch := first | omega | decide | exact ko_b _ | assumption | (simp only [t_si, t_sl, t_sr, t_sI, t_sR, n_si, n_sl, n_sr, n_sI, n_sR, r_si, r_sl, r_sI]; first | done | omega)) only [x_230_e, x_230_b, x_230_150, x_230_152, x_230_155, x_230_156, x_230_159, x_230_160, x_230_161, x_230_164, x_230_165, x_230_166, x_230_167, x_230_170, x_230_173, bk_v, bk_n, nl_I, nl_R, nl_L, nl_0, oo_lt, oo_le, oo_eq, oo_add, oo_sub, oo_tn, oo_ir, nn_leT, nn_leF, nn_ltT, nn_ltF, nn_eqT, nn_eqF, bv_0, bv_1, ko_b, ko_1, ko_0, true_and, and_true, if_true, if_false, not_true_eq_false, not_false_eq_true, oo_02, decide_eq_true_eq, decide_eq_false_iff_not, ite_not, Nat.reduceAdd, Nat.reduceLT, Nat.reduceSub, Nat.reduceLeDiff, reduceIte, Bool.true_eq_false, Bool.false_eq_true, reduceCtorEq, eq_self, decide_true, decide_false, bv_t, bv_f, and_self, t_si, t_sl, t_sr, t_sI, t_sR, n_si, n_sl, n_sr, n_sI, n_sR, r_si, r_sl, r_sI]
  have mid : wp d 230 40 [some (v_R (some 1440)), some (v_I (Int32.ofNat (xm_t (bm_X (sm_B S)) l))), some (v_I (Int32.ofNat (tmn_ (sm_T S) (xm_t (bm_X (sm_B S)) l)))), some (v_I (Int32.ofNat (0 + 81))), t.1.1, t.1.2] [] t.2 Q = wp d 230 149 [some (v_R (some 1440)), some (v_I (Int32.ofNat (xm_t (bm_X (sm_B S)) l))), some (v_I (Int32.ofNat (tmn_ (sm_T S) (xm_t (bm_X (sm_B S)) l)))), some (v_I (Int32.ofNat 0)), t.1.1, t.1.2] [] t.2 Q := by
    rw [x_230_40]
    simp (disch := first | omega | decide | exact ko_b _ | assumption | (simp only [t_si, t_sl, t_sr, t_sI, t_sR, n_si, n_sl, n_sr, n_sI, n_sR, r_si, r_sl, r_sI]; first | done | omega)) only [x_230_e, x_230_b, x_230_41, x_230_43, x_230_e, x_230_b, x_230_147, x_230_148, bk_v, bk_n, nl_I, nl_R, nl_L, nl_0, oo_lt, oo_le, oo_eq, oo_add, oo_sub, oo_tn, oo_ir, nn_leT, nn_leF, nn_ltT, nn_ltF, nn_eqT, nn_eqF, bv_0, bv_1, ko_b, ko_1, ko_0, true_and, and_true, if_true, if_false, not_true_eq_false, not_false_eq_true, oo_02, decide_eq_true_eq, decide_eq_false_iff_not, ite_not, Nat.reduceAdd, Nat.reduceLT, Nat.reduceSub, Nat.reduceLeDiff, reduceIte, Bool.true_eq_false, Bool.false_eq_true, reduceCtorEq, eq_self, decide_true, decide_false, bv_t, bv_f, and_self, t_si, t_sl, t_sr, t_sI, t_sR, n_si, n_sl, n_sr, n_sI, n_sR, r_si, r_sl, r_sI]
  have beg : wp d 230 18 [some (v_R (some 1440)), some (v_I (Int32.ofNat (xm_t (bm_X (sm_B S)) l))), some (v_I (Int32.ofNat (tmn_ (sm_T S) (xm_t (bm_X (sm_B S)) l)))), some (v_I (Int32.ofNat 81)), none, none] [] w1 Q = wp d 230 40 [some (v_R (some 1440)), some (v_I (Int32.ofNat (xm_t (bm_X (sm_B S)) l))), some (v_I (Int32.ofNat (tmn_ (sm_T S) (xm_t (bm_X (sm_B S)) l)))), some (v_I (Int32.ofNat 0)), none, none] [] w1 Q := by
    rw [x_230_18]
    simp (disch := first | omega | decide | exact ko_b _ | assumption | (simp only [t_si, t_sl, t_sr, t_sI, t_sR, n_si, n_sl, n_sr, n_sI, n_sR, r_si, r_sl, r_sI]; first | done | omega)) only [x_230_e, x_230_b, x_230_19, x_230_21, x_230_24, x_230_25, x_230_28, x_230_29, x_230_31, x_230_32, x_230_35, x_230_38, x_230_39, bk_v, bk_n, nl_I, nl_R, nl_L, nl_0, oo_lt, oo_le, oo_eq, oo_add, oo_sub, oo_tn, oo_ir, nn_leT, nn_leF, nn_ltT, nn_ltF, nn_eqT, nn_eqF, bv_0, bv_1, ko_b, ko_1, ko_0, true_and, and_true, if_true, if_false, not_true_eq_false, not_false_eq_true, oo_02, decide_eq_true_eq, decide_eq_false_iff_not, ite_not, Nat.reduceAdd, Nat.reduceLT, Nat.reduceSub, Nat.reduceLeDiff, reduceIte, Bool.true_eq_false, Bool.false_eq_true, reduceCtorEq, eq_self, decide_true, decide_false, bv_t, bv_f, and_self, t_si, t_sl, t_sr, t_sI, t_sR, n_si, n_sl, n_sr, n_sI, n_sR, r_si, r_sl, r_sI]
  refine Eq.trans ?_ (((q1 Q).trans beg).trans (((q2 Q).trans mid).trans ((q3 Q).trans fin)))
  have hM := h0.1
  unfold sh_M at hM
  have u0 : w_t w 1440 = 25 := hM.1
  have u5 : w_r w 1440 5 = some 1445 := by simp only [hM]
  have t45 : w_t w 1445 = 1 := by simp only [hM]
  have n45 : w_n w 1445 = 20 := by simp only [hM]
  clear hM
  have e45 : w_i w 1445 (xm_t (bm_X (sm_B S)) l) = Int32.ofNat (tm_kd (sm_T S) (xm_t (bm_X (sm_B S)) l)) := h0.2.1.2.2.2.2.1 _ ht
  unfold tmn_
  by_cases c : tm_kd (sm_T S) (xm_t (bm_X (sm_B S)) l) = 3
  · simp (disch := first | omega | decide | exact ko_b _ | assumption | (simp only [t_si, t_sl, t_sr, t_sI, t_sR, n_si, n_sl, n_sr, n_sI, n_sR, r_si, r_sl, r_sI]; first | done | omega)) only [x_230_e, x_230_b, x_230_0, x_230_1, x_230_4, x_230_5, x_230_6, x_230_7, x_230_10, x_230_11, x_230_14, x_230_15, x_230_16, x_230_17, bk_v, bk_n, nl_I, nl_R, nl_L, nl_0, oo_lt, oo_le, oo_eq, oo_add, oo_sub, oo_tn, oo_ir, nn_leT, nn_leF, nn_ltT, nn_ltF, nn_eqT, nn_eqF, bv_0, bv_1, ko_b, ko_1, ko_0, true_and, and_true, if_true, if_false, not_true_eq_false, not_false_eq_true, oo_02, decide_eq_true_eq, decide_eq_false_iff_not, ite_not, Nat.reduceAdd, Nat.reduceLT, Nat.reduceSub, Nat.reduceLeDiff, reduceIte, Bool.true_eq_false, Bool.false_eq_true, reduceCtorEq, eq_self, decide_true, decide_false, bv_t, bv_f, and_self, t_si, t_sl, t_sr, t_sI, t_sR, n_si, n_sl, n_sr, n_sI, n_sR, r_si, r_sl, r_sI, u5, n45, e45, c]
  · simp (disch := first | omega | decide | exact ko_b _ | assumption | (simp only [t_si, t_sl, t_sr, t_sI, t_sR, n_si, n_sl, n_sr, n_sI, n_sR, r_si, r_sl, r_sI]; first | done | omega)) only [x_230_e, x_230_b, x_230_0, x_230_1, x_230_4, x_230_5, x_230_6, x_230_7, x_230_10, x_230_11, x_230_14, x_230_15, x_230_16, x_230_17, bk_v, bk_n, nl_I, nl_R, nl_L, nl_0, oo_lt, oo_le, oo_eq, oo_add, oo_sub, oo_tn, oo_ir, nn_leT, nn_leF, nn_ltT, nn_ltF, nn_eqT, nn_eqF, bv_0, bv_1, ko_b, ko_1, ko_0, true_and, and_true, if_true, if_false, not_true_eq_false, not_false_eq_true, oo_02, decide_eq_true_eq, decide_eq_false_iff_not, ite_not, Nat.reduceAdd, Nat.reduceLT, Nat.reduceSub, Nat.reduceLeDiff, reduceIte, Bool.true_eq_false, Bool.false_eq_true, reduceCtorEq, eq_self, decide_true, decide_false, bv_t, bv_f, and_self, t_si, t_sl, t_sr, t_sI, t_sR, n_si, n_sl, n_sr, n_sI, n_sR, r_si, r_sl, r_sI, u5, n45, e45, c]
theorem m_wedges (h9 : RM_ w S) (hV : WS_ S) {d : Nat} : MR_ (d + 2) 229 [v_R (some 1440)] w (v_I (q_wed (sm_T S) (bm_X (sm_B S)))) 0 := by
  refine mr_go (ls := [some (v_R (some 1440)), none, none]) (fun Q => ?_) (fun w0 hf hc => ?_)
  · have h := h9
    have hq := RM_MQ h hV
    have hMM := hq
    obtain ⟨hM, hT, hS, ⟨hn, hk4⟩, hW1, hW2, hW3⟩ := hMM
    unfold sh_M at hM
    unfold MT_ at hT
    unfold MS_ at hS
    have hB := h.2.2.1.2
    unfold PK_ at hB
    have hR := h.2.2.2
    simp (disch := first | omega | decide | exact ko_b _ | assumption | (simp only [t_si, t_sl, t_sr, t_sI, t_sR, n_si, n_sl, n_sr, n_sI, n_sR, r_si, r_sl, r_sI]; first | done | omega)) only [x_229_e, x_229_b, x_229_0, x_229_1, x_229_2, x_229_6, x_229_8, x_229_10, x_229_13, x_229_14, x_229_17, x_229_18, x_229_20, x_229_21, x_229_24, x_229_27, x_229_28, x_229_31, x_229_33, x_229_34, x_229_35, x_229_36, x_229_37, x_229_38, x_229_39, x_229_42, x_229_45, x_229_46, x_229_47, x_229_50, x_229_51, x_229_52, x_229_55, x_229_58, x_229_61, x_229_63, x_229_64, x_229_65, x_229_66, x_229_67, x_229_69, x_229_72, x_229_73, x_229_74, x_229_77, x_229_78, x_229_79, x_229_82, x_229_83, x_229_86, x_229_89, x_229_90, x_229_92, x_229_95, x_229_96, x_229_99, x_229_100, bk_v, bk_n, nl_I, nl_R, nl_L, nl_0, oo_lt, oo_le, oo_eq, oo_add, oo_sub, oo_tn, oo_ir, nn_leT, nn_leF, nn_ltT, nn_ltF, nn_eqT, nn_eqF, bv_0, bv_1, ko_b, ko_1, ko_0, true_and, and_true, if_true, if_false, not_true_eq_false, not_false_eq_true, oo_02, decide_eq_true_eq, decide_eq_false_iff_not, ite_not, Nat.reduceAdd, Nat.reduceLT, Nat.reduceSub, Nat.reduceLeDiff, reduceIte, Bool.true_eq_false, Bool.false_eq_true, reduceCtorEq, eq_self, decide_true, decide_false, bv_t, bv_f, and_self, t_si, t_sl, t_sr, t_sI, t_sR, n_si, n_sl, n_sr, n_sI, n_sR, r_si, r_sl, r_sI, hM, hT, hS, hB, hR]
  · have h := RM_fr h9 hV hf
    have h0 := RM_MQ h hV
    have hX9 := hV.2.2.2.1.1
    have hn10 := hV.1.1
    have hLn := hX9.1
    have fac : ∀ t, MQ_ t (sm_T S) (bm_X (sm_B S)) → w_t t 1440 = 25 ∧ w_r t 1440 41 = some 1464 ∧ w_t t 1464 = 1 ∧ w_n t 1464 = 81 ∧ w_r t 1440 23 = some 1453 ∧ w_t t 1453 = 1 ∧ w_n t 1453 = 10 := fun t hq => by
      have hM := hq.1
      unfold sh_M at hM
      simp only [hM, and_self]
    have p64 : ∀ a k, (fun a (_ : Nat) => a = 1464) a k → pm_ a k := fun a k z => by unfold pm_; omega
    obtain ⟨w1, ⟨i1, i2⟩, q1⟩ := lp_ex (fun k (t : Wd) Q => wp (d + 2) 229 7 [some (v_R (some 1440)), some (v_I (Int32.ofNat k)), none] [] t Q) (fun k t => Fr_ (fun a _ => a = 1464) w0 t ∧ ∀ v, v < k → w_i t 1464 v = Int32.ofNat 100000) 81 (fun k t hk hI => by
      obtain ⟨a1, a2, a3, a4, -⟩ := fac t (MQ_fr h0 (fr_mo hI.1 p64))
      refine ⟨s_i t 1464 k (Int32.ofNat 100000), ⟨fr_si hI.1 rfl, fun v hv => ?_⟩, fun Q => ?_⟩
      · rw [i_si]
        by_cases c : v = k
        · rw [if_pos ⟨rfl, c⟩]
        · rw [if_neg (fun z => c z.2)]; exact hI.2 v (by omega)
      · rw [x_229_7]
        simp (disch := first | omega | decide | exact ko_b _ | assumption | (simp only [t_si, t_sl, t_sr, t_sI, t_sR, n_si, n_sl, n_sr, n_sI, n_sR, r_si, r_sl, r_sI]; first | done | omega)) only [x_229_e, x_229_b, x_229_8, x_229_10, x_229_13, x_229_14, x_229_17, x_229_18, x_229_20, x_229_21, x_229_24, bk_v, bk_n, nl_I, nl_R, nl_L, nl_0, oo_lt, oo_le, oo_eq, oo_add, oo_sub, oo_tn, oo_ir, nn_leT, nn_leF, nn_ltT, nn_ltF, nn_eqT, nn_eqF, bv_0, bv_1, ko_b, ko_1, ko_0, true_and, and_true, if_true, if_false, not_true_eq_false, not_false_eq_true, oo_02, decide_eq_true_eq, decide_eq_false_iff_not, ite_not, Nat.reduceAdd, Nat.reduceLT, Nat.reduceSub, Nat.reduceLeDiff, reduceIte, Bool.true_eq_false, Bool.false_eq_true, reduceCtorEq, eq_self, decide_true, decide_false, bv_t, bv_f, and_self, t_si, t_sl, t_sr, t_sI, t_sR, n_si, n_sl, n_sr, n_sI, n_sR, r_si, r_sl, r_sI, a2, a4]) 81 0 w0 (Nat.zero_add _) ⟨fr_rf _ _, fun v hv => absurd hv (Nat.not_lt_zero v)⟩
    have hF0 : FW_ (s_i w1 1464 40 (Int32.ofNat 0)) 1464 (fw_ (nx_ (sm_T S) (bm_X (sm_B S))) 0) := fun k hk => by
      unfold fw_
      rw [i_si]
      by_cases c : k = 40
      · rw [if_pos ⟨rfl, c⟩, if_pos c]
      · rw [if_neg (fun z => c z.2), if_neg c]; exact i2 k hk
    have f1 : Fr_ Pfw_ w0 (s_i w1 1464 40 (Int32.ofNat 0)) := fr_si (fr_mo i1 (fun a k z => Or.inl z)) (Or.inl rfl)
    obtain ⟨t, ⟨j1, j2⟩, q2⟩ := lp_ex (fun l (t : Wd) Q => wp (d + 2) 229 37 [some (v_R (some 1440)), some (v_I (Int32.ofNat l)), none] [] t Q) (fun l t => Fr_ Pfw_ w0 t ∧ FW_ t 1464 (fw_ (nx_ (sm_T S) (bm_X (sm_B S))) l)) (xm_L (bm_X (sm_B S))) (fun l t hl hI => by
      have hq := MQ_fr h0 (fr_mo hI.1 (fun a k z => Pfw_pm z))
      obtain ⟨a1, a2, a3, a4, a5, a6, a7⟩ := fac t hq
      have a28 : w_i t 1440 28 = Int32.ofNat (xm_L (bm_X (sm_B S))) := hq.2.2.1.1
      have e53 : w_i t 1453 l = Int32.ofNat (xm_t (bm_X (sm_B S)) l) := hq.2.2.1.2.2.2.1 l hl
      obtain ⟨t1, g1, g2, g3⟩ := m_wlev hq hV (d := d + 1) hl hI.2 (fw_le _ l)
      refine ⟨t1, ⟨fr_tr hI.1 g1, g2⟩, fun Q => ?_⟩
      rw [x_229_37]
      simp (disch := first | omega | decide | exact ko_b _ | assumption | (simp only [t_si, t_sl, t_sr, t_sI, t_sR, n_si, n_sl, n_sr, n_sI, n_sR, r_si, r_sl, r_sI]; first | done | omega)) only [x_229_e, x_229_b, x_229_38, x_229_39, x_229_42, x_229_45, x_229_46, x_229_47, x_229_50, x_229_51, x_229_52, x_229_55, x_229_58, bk_v, bk_n, nl_I, nl_R, nl_L, nl_0, oo_lt, oo_le, oo_eq, oo_add, oo_sub, oo_tn, oo_ir, nn_leT, nn_leF, nn_ltT, nn_ltF, nn_eqT, nn_eqF, bv_0, bv_1, ko_b, ko_1, ko_0, true_and, and_true, if_true, if_false, not_true_eq_false, not_false_eq_true, oo_02, decide_eq_true_eq, decide_eq_false_iff_not, ite_not, Nat.reduceAdd, Nat.reduceLT, Nat.reduceSub, Nat.reduceLeDiff, reduceIte, Bool.true_eq_false, Bool.false_eq_true, reduceCtorEq, eq_self, decide_true, decide_false, bv_t, bv_f, and_self, t_si, t_sl, t_sr, t_sI, t_sR, n_si, n_sl, n_sr, n_sI, n_sR, r_si, r_sl, r_sI, a28, a5, a7, e53, g3]) (xm_L (bm_X (sm_B S))) 0 (s_i w1 1464 40 (Int32.ofNat 0)) (Nat.zero_add _) ⟨f1, hF0⟩
    have hq := MQ_fr h0 (fr_mo j1 (fun a k z => Pfw_pm z))
    obtain ⟨a1, a2, a3, a4, a5, a6, a7⟩ := fac t hq
    have a28 : w_i t 1440 28 = Int32.ofNat (xm_L (bm_X (sm_B S))) := hq.2.2.1.1
    refine ⟨t, fr_mo j1 (fun a k z => Pfw_pm z), ?_, fun Q => ?_⟩
    · rw [j1.2.2.2.2.2 _ _ (by unfold Pfw_; omega)]; exact hc
    · have q3 := lp_iv (fun k (v : Nat) => wp (d + 2) 229 66 [some (v_R (some 1440)), some (v_I (Int32.ofNat v)), some (v_I (Int32.ofNat k))] [] t Q) (fun v => Q (Sum.inl (some (v_I (if v < 100000 then Int32.ofNat v else Int32.ofInt (-1))))) t) (fun k v => v ≤ 100000) (fun k v => min v (fw_ (nx_ (sm_T S) (bm_X (sm_B S))) (xm_L (bm_X (sm_B S))) k)) 81 0 100000 (Nat.le_refl _) (fun k v _ hk hv => by
        have e := j2 k (by omega)
        have hle := fw_le (nx_ (sm_T S) (bm_X (sm_B S))) (xm_L (bm_X (sm_B S))) k
        refine ⟨?_, by omega⟩
        rw [x_229_66]
        simp (disch := first | omega | decide | exact ko_b _ | assumption | (simp only [t_si, t_sl, t_sr, t_sI, t_sR, n_si, n_sl, n_sr, n_sI, n_sR, r_si, r_sl, r_sI]; first | done | omega)) only [x_229_e, x_229_b, x_229_67, x_229_69, x_229_72, x_229_73, x_229_74, x_229_77, x_229_78, x_229_79, x_229_82, x_229_83, x_229_86, bk_v, bk_n, nl_I, nl_R, nl_L, nl_0, oo_lt, oo_le, oo_eq, oo_add, oo_sub, oo_tn, oo_ir, nn_leT, nn_leF, nn_ltT, nn_ltF, nn_eqT, nn_eqF, bv_0, bv_1, ko_b, ko_1, ko_0, true_and, and_true, if_true, if_false, not_true_eq_false, not_false_eq_true, oo_02, decide_eq_true_eq, decide_eq_false_iff_not, ite_not, Nat.reduceAdd, Nat.reduceLT, Nat.reduceSub, Nat.reduceLeDiff, reduceIte, Bool.true_eq_false, Bool.false_eq_true, reduceCtorEq, eq_self, decide_true, decide_false, bv_t, bv_f, and_self, t_si, t_sl, t_sr, t_sI, t_sR, n_si, n_sl, n_sr, n_sI, n_sR, r_si, r_sl, r_sI, a2, a4, e, mn_n]) (fun v hv => by
        rw [x_229_66]
        by_cases c : v < 100000
        · simp (disch := first | omega | decide | exact ko_b _ | assumption | (simp only [t_si, t_sl, t_sr, t_sI, t_sR, n_si, n_sl, n_sr, n_sI, n_sR, r_si, r_sl, r_sI]; first | done | omega)) only [x_229_e, x_229_b, x_229_67, x_229_69, x_229_72, x_229_73, x_229_74, x_229_77, x_229_78, x_229_79, x_229_82, x_229_83, x_229_86, x_229_89, x_229_90, x_229_92, x_229_95, x_229_96, x_229_99, x_229_100, bk_v, bk_n, nl_I, nl_R, nl_L, nl_0, oo_lt, oo_le, oo_eq, oo_add, oo_sub, oo_tn, oo_ir, nn_leT, nn_leF, nn_ltT, nn_ltF, nn_eqT, nn_eqF, bv_0, bv_1, ko_b, ko_1, ko_0, true_and, and_true, if_true, if_false, not_true_eq_false, not_false_eq_true, oo_02, decide_eq_true_eq, decide_eq_false_iff_not, ite_not, Nat.reduceAdd, Nat.reduceLT, Nat.reduceSub, Nat.reduceLeDiff, reduceIte, Bool.true_eq_false, Bool.false_eq_true, reduceCtorEq, eq_self, decide_true, decide_false, bv_t, bv_f, and_self, t_si, t_sl, t_sr, t_sI, t_sR, n_si, n_sl, n_sr, n_sI, n_sR, r_si, r_sl, r_sI, c]
        · have e : v = 100000 := by omega
          subst e
          simp (disch := first | omega | decide | exact ko_b _ | assumption | (simp only [t_si, t_sl, t_sr, t_sI, t_sR, n_si, n_sl, n_sr, n_sI, n_sR, r_si, r_sl, r_sI]; first | done | omega)) only [x_229_e, x_229_b, x_229_67, x_229_69, x_229_72, x_229_73, x_229_74, x_229_77, x_229_78, x_229_79, x_229_82, x_229_83, x_229_86, x_229_89, x_229_90, x_229_92, x_229_95, x_229_96, x_229_99, x_229_100, bk_v, bk_n, nl_I, nl_R, nl_L, nl_0, oo_lt, oo_le, oo_eq, oo_add, oo_sub, oo_tn, oo_ir, nn_leT, nn_leF, nn_ltT, nn_ltF, nn_eqT, nn_eqF, bv_0, bv_1, ko_b, ko_1, ko_0, true_and, and_true, if_true, if_false, not_true_eq_false, not_false_eq_true, oo_02, decide_eq_true_eq, decide_eq_false_iff_not, ite_not, Nat.reduceAdd, Nat.reduceLT, Nat.reduceSub, Nat.reduceLeDiff, reduceIte, Bool.true_eq_false, Bool.false_eq_true, reduceCtorEq, eq_self, decide_true, decide_false, bv_t, bv_f, and_self, t_si, t_sl, t_sr, t_sI, t_sR, n_si, n_sl, n_sr, n_sI, n_sR, r_si, r_sl, r_sI])
      have em : it_ (fun k v => min v (fw_ (nx_ (sm_T S) (bm_X (sm_B S))) (xm_L (bm_X (sm_B S))) k)) 0 81 100000 = wf_ (nx_ (sm_T S) (bm_X (sm_B S))) (xm_L (bm_X (sm_B S))) 0 40 := wf_fw nx_lt _
      rw [em] at q3
      obtain ⟨b1, b2, b3, b4, -⟩ := fac w1 (MQ_fr h0 (fr_mo i1 p64))
      refine Eq.trans ?_ ((q1 Q).trans ?_)
      · have hM0 := h.1.1
        simp (disch := first | omega | decide | exact ko_b _ | assumption | (simp only [t_si, t_sl, t_sr, t_sI, t_sR, n_si, n_sl, n_sr, n_sI, n_sR, r_si, r_sl, r_sI]; first | done | omega)) only [x_229_e, x_229_b, x_229_5, x_229_6, bk_v, bk_n, nl_I, nl_R, nl_L, nl_0, oo_lt, oo_le, oo_eq, oo_add, oo_sub, oo_tn, oo_ir, nn_leT, nn_leF, nn_ltT, nn_ltF, nn_eqT, nn_eqF, bv_0, bv_1, ko_b, ko_1, ko_0, true_and, and_true, if_true, if_false, not_true_eq_false, not_false_eq_true, oo_02, decide_eq_true_eq, decide_eq_false_iff_not, ite_not, Nat.reduceAdd, Nat.reduceLT, Nat.reduceSub, Nat.reduceLeDiff, reduceIte, Bool.true_eq_false, Bool.false_eq_true, reduceCtorEq, eq_self, decide_true, decide_false, bv_t, bv_f, and_self, t_si, t_sl, t_sr, t_sI, t_sR, n_si, n_sl, n_sr, n_sI, n_sR, r_si, r_sl, r_sI]
      · rw [x_229_7]
        simp (disch := first | omega | decide | exact ko_b _ | assumption | (simp only [t_si, t_sl, t_sr, t_sI, t_sR, n_si, n_sl, n_sr, n_sI, n_sR, r_si, r_sl, r_sI]; first | done | omega)) only [x_229_e, x_229_b, x_229_8, x_229_10, x_229_13, x_229_14, x_229_17, x_229_18, x_229_20, x_229_21, x_229_24, x_229_27, x_229_28, x_229_31, x_229_33, x_229_34, x_229_35, x_229_36, bk_v, bk_n, nl_I, nl_R, nl_L, nl_0, oo_lt, oo_le, oo_eq, oo_add, oo_sub, oo_tn, oo_ir, nn_leT, nn_leF, nn_ltT, nn_ltF, nn_eqT, nn_eqF, bv_0, bv_1, ko_b, ko_1, ko_0, true_and, and_true, if_true, if_false, not_true_eq_false, not_false_eq_true, oo_02, decide_eq_true_eq, decide_eq_false_iff_not, ite_not, Nat.reduceAdd, Nat.reduceLT, Nat.reduceSub, Nat.reduceLeDiff, reduceIte, Bool.true_eq_false, Bool.false_eq_true, reduceCtorEq, eq_self, decide_true, decide_false, bv_t, bv_f, and_self, t_si, t_sl, t_sr, t_sI, t_sR, n_si, n_sl, n_sr, n_sI, n_sR, r_si, r_sl, r_sI, b2, b4]
        refine (q2 Q).trans ?_
        rw [x_229_37]
        simp (disch := first | omega | decide | exact ko_b _ | assumption | (simp only [t_si, t_sl, t_sr, t_sI, t_sR, n_si, n_sl, n_sr, n_sI, n_sR, r_si, r_sl, r_sI]; first | done | omega)) only [x_229_e, x_229_b, x_229_38, x_229_39, x_229_42, x_229_45, x_229_46, x_229_47, x_229_50, x_229_51, x_229_52, x_229_55, x_229_58, x_229_61, x_229_63, x_229_64, x_229_65, bk_v, bk_n, nl_I, nl_R, nl_L, nl_0, oo_lt, oo_le, oo_eq, oo_add, oo_sub, oo_tn, oo_ir, nn_leT, nn_leF, nn_ltT, nn_ltF, nn_eqT, nn_eqF, bv_0, bv_1, ko_b, ko_1, ko_0, true_and, and_true, if_true, if_false, not_true_eq_false, not_false_eq_true, oo_02, decide_eq_true_eq, decide_eq_false_iff_not, ite_not, Nat.reduceAdd, Nat.reduceLT, Nat.reduceSub, Nat.reduceLeDiff, reduceIte, Bool.true_eq_false, Bool.false_eq_true, reduceCtorEq, eq_self, decide_true, decide_false, bv_t, bv_f, and_self, t_si, t_sl, t_sr, t_sI, t_sR, n_si, n_sl, n_sr, n_sI, n_sR, r_si, r_sl, r_sI, a28]
        exact q3
end
