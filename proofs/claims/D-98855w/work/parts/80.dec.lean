/-! DECADES: both halves -/
set_option maxRecDepth 100000
def dr_ (i : Int32) : Int32 := i * Int32.ofNat 1103515245 + Int32.ofNat 12345
def dv_ (i : Int32) : Nat := ((i >>> (Int32.ofNat 16 &&& 31)) &&& Int32.ofNat 32767).toNatClampNeg
theorem dv_of (y : Int32) : ∃ n, n < 32768 ∧ y &&& Int32.ofNat 32767 = Int32.ofNat n := by
  refine ⟨y.toBitVec.toNat &&& 32767, Nat.lt_of_le_of_lt Nat.and_le_right (by decide), ?_⟩
  rw [← sb_a]
  congr 1
  exact Int32.toBitVec_inj.mp (by show _ = BitVec.ofNat 32 _; simp)
theorem dv_o (i : Int32) : (i >>> (Int32.ofNat 16 &&& 31)) &&& Int32.ofNat 32767 = Int32.ofNat (dv_ i) ∧ dv_ i < 32768 := by
  obtain ⟨n, h1, h2⟩ := dv_of (i >>> (Int32.ofNat 16 &&& 31))
  have e : dv_ i = n := by
    unfold dv_
    rw [h2, oo_tn (by omega)]
  rw [e]
  exact ⟨h2, h1⟩
/-- what happens in a year -/
def f_hap (T : Tm) (X : Xm) (t how : Nat) : Xm := if how = 0 then x_lea X t (i_mn (Int32.ofNat 9) (xm_l X t + Int32.ofNat 1)) else if how = 1 then x_lea X t (i_mx (Int32.ofInt (-9)) (xm_l X t - Int32.ofNat 1)) else if how = 2 ∧ (f_lv X t).isNone = false then x_mea X t (xm_m X t + tm_hg T t) else X
def f_yr (T : Tm) (s : Xm × Int32) : Xm × Int32 := if tm_n T = 0 then (x_yrs s.1 (xm_y s.1 + Int32.ofNat 1), s.2) else (f_hap T (x_yrs s.1 (xm_y s.1 + Int32.ofNat 1)) (dv_ (dr_ s.2) % tm_n T) (dv_ (dr_ (dr_ s.2)) % 5), dr_ (dr_ s.2))
def f_dc (T : Tm) (k : Nat) (s : (Xm × Int32) × Nat × Option Nat) : (Xm × Int32) × Nat × Option Nat := (f_yr T s.1, if f_st T (f_yr T s.1).1 = true then (s.2.1 + 1, s.2.2) else (s.2.1, some (s.2.2.getD k)))
def f_dec (T : Tm) (X : Xm) (i : Int32) (m : Nat) : (Xm × Int32) × Nat × Option Nat := it_ (f_dc T) 1 m ((X, i), 0, none)
def q_dec (T : Tm) (s : (Xm × Int32) × Nat × Option Nat) (x : Int32) : Int32 := if x = Int32.ofNat 0 then Int32.ofNat s.2.1 else if x = Int32.ofNat 1 then o_i s.2.2 else if xm_L s.1.1 = 0 then Int32.ofNat 0 else f_load T s.1.1 0
theorem hap_L (T : Tm) (X : Xm) (t how : Nat) : xm_L (f_hap T X t how) = xm_L X := by
  unfold f_hap
  split
  · rfl
  · split
    · rfl
    · split <;> rfl
theorem WX_hap {n : Nat} {T : Tm} {X : Xm} {t how : Nat} (h : WX_ n X) : WX_ n (f_hap T X t how) := by
  unfold f_hap
  split
  · exact h
  · split
    · exact h
    · split
      · exact h
      · exact h
theorem WX_yr {n : Nat} {T : Tm} {s : Xm × Int32} (h : WX_ n s.1) : WX_ n (f_yr T s).1 := by
  unfold f_yr
  split
  · exact h
  · exact WX_hap h
def d_ok (s : (Xm × Int32) × Nat × Option Nat) : Prop := ∀ x, s.2.2 = some x → x < 100
theorem d_ok1 {T : Tm} {k : Nat} {s : (Xm × Int32) × Nat × Option Nat} (h : d_ok s) (hk : k < 100) : d_ok (f_dc T k s) := by
  intro x hx
  unfold f_dc at hx
  dsimp only at hx
  split at hx
  · exact h x hx
  · have hx : some (s.2.2.getD k) = some x := hx
    cases hx
    cases e : s.2.2 with
    | none => exact hk
    | some y => exact h y e
section
variable {w : Wd} {S : Sm} {G : Gm} {σ : Nat → Nat}
theorem c_draw {d n : Nat} {i : Int32} {Q : Q_} (h0 : w_t w 1000 = 20) (hi : w_i w 1000 14 = i) (hn : 0 < n) (hn2 : n < 2147483648) : cl d 97 [v_R (some 1000), v_I (Int32.ofNat n)] w Q = Q (Sum.inl (some (v_I (Int32.ofNat (dv_ (dr_ i) % n))))) (s_i w 1000 14 (dr_ i)) := by
  obtain ⟨e1, e2⟩ := dv_o (dr_ i)
  have hn0 : Int32.ofNat n ≠ 0 := fun e => by have := oo_inj (b := 0) hn2 (by omega) e; omega
  have e0 : i * Int32.ofNat 1103515245 + Int32.ofNat 12345 = dr_ i := rfl
  simp (disch := first | omega | decide | exact ko_b _ | assumption | (simp only [t_si, t_sl, t_sr, t_sI, t_sR, n_si, n_sl, n_sr, n_sI, n_sR, r_si, r_sl, r_sI]; first | done | omega)) only [x_97_e, x_97_b, x_97_0, x_97_1, x_97_2, x_97_5, x_97_8, x_97_9, x_97_12, x_97_13, x_97_16, x_97_17, x_97_20, x_97_22, x_97_23, x_97_26, x_97_27, x_97_28, x_97_29, bk_v, bk_n, nl_I, nl_R, nl_L, nl_0, oo_lt, oo_le, oo_eq, oo_add, oo_sub, oo_tn, oo_ir, nn_leT, nn_leF, nn_ltT, nn_ltF, nn_eqT, nn_eqF, bv_0, bv_1, ko_b, ko_1, ko_0, true_and, and_true, if_true, if_false, not_true_eq_false, not_false_eq_true, oo_02, decide_eq_true_eq, decide_eq_false_iff_not, ite_not, Nat.reduceAdd, Nat.reduceLT, Nat.reduceSub, Nat.reduceLeDiff, reduceIte, Bool.true_eq_false, Bool.false_eq_true, reduceCtorEq, eq_self, decide_true, decide_false, bv_t, bv_f, and_self, t_si, t_sl, t_sr, t_sI, t_sR, n_si, n_sl, n_sr, n_sI, n_sR, r_si, r_sl, r_sI, hi, i_si, e0, e1, oo_rem, oo_rem2, nmd_r]
theorem m_draw {d n : Nat} {i : Int32} {Q : Q_} (h0 : w_t w 1440 = 25) (hi : w_i w 1440 49 = i) (hn : 0 < n) (hn2 : n < 2147483648) : cl d 260 [v_R (some 1440), v_I (Int32.ofNat n)] w Q = Q (Sum.inl (some (v_I (Int32.ofNat (dv_ (dr_ i) % n))))) (s_i w 1440 49 (dr_ i)) := by
  obtain ⟨e1, e2⟩ := dv_o (dr_ i)
  have hn0 : Int32.ofNat n ≠ 0 := fun e => by have := oo_inj (b := 0) hn2 (by omega) e; omega
  have e0 : i * Int32.ofNat 1103515245 + Int32.ofNat 12345 = dr_ i := rfl
  simp (disch := first | omega | decide | exact ko_b _ | assumption | (simp only [t_si, t_sl, t_sr, t_sI, t_sR, n_si, n_sl, n_sr, n_sI, n_sR, r_si, r_sl, r_sI]; first | done | omega)) only [x_260_e, x_260_b, x_260_0, x_260_1, x_260_2, x_260_5, x_260_8, x_260_9, x_260_12, x_260_13, x_260_16, x_260_17, x_260_20, x_260_22, x_260_23, x_260_26, x_260_27, x_260_28, x_260_29, bk_v, bk_n, nl_I, nl_R, nl_L, nl_0, oo_lt, oo_le, oo_eq, oo_add, oo_sub, oo_tn, oo_ir, nn_leT, nn_leF, nn_ltT, nn_ltF, nn_eqT, nn_eqF, bv_0, bv_1, ko_b, ko_1, ko_0, true_and, and_true, if_true, if_false, not_true_eq_false, not_false_eq_true, oo_02, decide_eq_true_eq, decide_eq_false_iff_not, ite_not, Nat.reduceAdd, Nat.reduceLT, Nat.reduceSub, Nat.reduceLeDiff, reduceIte, Bool.true_eq_false, Bool.false_eq_true, reduceCtorEq, eq_self, decide_true, decide_false, bv_t, bv_f, and_self, t_si, t_sl, t_sr, t_sI, t_sR, n_si, n_sl, n_sr, n_sI, n_sR, r_si, r_sl, r_sI, hi, i_si, e0, e1, oo_rem, oo_rem2, nmd_r]
def pd_ (a k : Nat) : Prop := tz_ a k ∨ (a = 1000 ∧ k = 14)
theorem pd_pc {o a k : Nat} (h : pd_ a k) : pc_ o a k := h.elim tz_pc (fun z => by unfold pc_; omega)
theorem RC_pd {w1 : Wd} (h : RC_ w G σ S) (hV : WS_ S) (hf : Fr_ pd_ w w1) : RC_ w1 G σ S := RC_fr h hV (fr_mo hf (fun a k z => pd_pc z))
theorem CS_14 {n : Nat} {X : Xm} {v : Int32} (h : CS_ w 1429 n X) : CS_ (s_i w 1000 14 v) 1429 n X := CS_ag h (fun b k b1 b2 => by rw [i_si, if_neg (by omega)])
theorem c_happ (h : RC_ w G σ S) (hV : WS_ S) {X : Xm} (hS2 : CS_ w 1429 (tm_n (sm_T S)) X) (hX : WX_ (tm_n (sm_T S)) X) {d : Nat} {i : Int32} (hi : w_i w 1000 14 = i) (hn : 0 < tm_n (sm_T S)) : ∃ w1, Fr_ pd_ w w1 ∧ CS_ w1 1429 (tm_n (sm_T S)) (f_hap (sm_T S) X (dv_ (dr_ i) % tm_n (sm_T S)) (dv_ (dr_ (dr_ i)) % 5)) ∧ w_i w1 1000 14 = dr_ (dr_ i) ∧ ∀ Q, cl (d + 5) 96 [v_R (some 1000)] w Q = Q (Sum.inl none) w1 := by
  have hn10 := hV.1.1
  have fz : Fr_ pd_ w (s_i (s_i w 1000 14 (dr_ i)) 1000 14 (dr_ (dr_ i))) := fr_si (fr_si (fr_rf _ _) (Or.inr ⟨rfl, rfl⟩)) (Or.inr ⟨rfl, rfl⟩)
  have r2 := RC_pd h hV fz
  have s2 := CS_14 (v := dr_ (dr_ i)) (CS_14 (v := dr_ i) hS2)
  have e14 : w_i (s_i (s_i w 1000 14 (dr_ i)) 1000 14 (dr_ (dr_ i))) 1000 14 = dr_ (dr_ i) := by rw [i_si, if_pos ⟨rfl, rfl⟩]
  have d1 : ∀ d Q, cl d 97 [v_R (some 1000), v_I (Int32.ofNat (tm_n (sm_T S)))] w Q = _ := fun d Q => c_draw h.1.1 hi hn (by omega)
  have d2 : ∀ d Q, cl d 97 [v_R (some 1000), v_I (Int32.ofNat 5)] (s_i w 1000 14 (dr_ i)) Q = _ := fun d Q => c_draw (i := dr_ i) h.1.1 (by rw [i_si, if_pos ⟨rfl, rfl⟩]) (by omega) (by omega)
  have ht : dv_ (dr_ i) % tm_n (sm_T S) < tm_n (sm_T S) := Nat.mod_lt _ hn
  have ctb := fun d Q => c_tables h hV (d := d) (Q := Q)
  have t0 : w_t w 1000 = 20 := h.1.1
  generalize s_i (s_i w 1000 14 (dr_ i)) 1000 14 (dr_ (dr_ i)) = w2 at *
  generalize dv_ (dr_ i) % tm_n (sm_T S) = t at *
  have hh5 : dv_ (dr_ (dr_ i)) % 5 < 5 := Nat.mod_lt _ (by omega)
  generalize dv_ (dr_ (dr_ i)) % 5 = how at *
  have hq2 := tr_q r2 hV s2 hX
  have hb : (o_i (f_lv X t) = Int32.ofInt (-1)) = ((f_lv X t).isNone = true) := oi_m (fun k e => by have := flv_lt e; have := hX.1; omega)
  have pre : ∀ Q, cl (d + 5) 96 [v_R (some 1000)] w Q = wp (d + 5) 96 15 [some (v_R (some 1000)), some (v_I (Int32.ofNat t)), some (v_I (Int32.ofNat how))] [] w2 Q := fun Q => by
    simp (disch := first | omega | decide | exact ko_b _ | assumption | (simp only [t_si, t_sl, t_sr, t_sI, t_sR, n_si, n_sl, n_sr, n_sI, n_sR, r_si, r_sl, r_sI]; first | done | omega)) only [x_96_e, x_96_b, x_96_0, x_96_1, x_96_2, x_96_5, x_96_8, x_96_9, x_96_10, x_96_11, x_96_14, bk_v, bk_n, nl_I, nl_R, nl_L, nl_0, oo_lt, oo_le, oo_eq, oo_add, oo_sub, oo_tn, oo_ir, nn_leT, nn_leF, nn_ltT, nn_ltF, nn_eqT, nn_eqF, bv_0, bv_1, ko_b, ko_1, ko_0, true_and, and_true, if_true, if_false, not_true_eq_false, not_false_eq_true, oo_02, decide_eq_true_eq, decide_eq_false_iff_not, ite_not, Nat.reduceAdd, Nat.reduceLT, Nat.reduceSub, Nat.reduceLeDiff, reduceIte, Bool.true_eq_false, Bool.false_eq_true, reduceCtorEq, eq_self, decide_true, decide_false, bv_t, bv_f, and_self, t_si, t_sl, t_sr, t_sI, t_sR, n_si, n_sl, n_sr, n_sI, n_sR, r_si, r_sl, r_sI, ctb, d1, d2]
  have e33 : w_i w2 1433 t = xm_l X t := s2.2.2.2.2.2.2 t ht
  have e31 : w_i w2 1431 t = xm_m X t := s2.2.2.2.2.1 t ht
  have h := r2
  unfold f_hap
  by_cases c0 : how = 0
  · subst c0
    rw [if_pos rfl]
    refine ⟨s_i w2 1433 t (i_mn (Int32.ofNat 9) (xm_l X t + Int32.ofNat 1)), fr_si fz (Or.inl (by unfold tz_; omega)), CS_lea s2, by rw [i_si, if_neg (by omega)]; exact e14, fun Q => ?_⟩
    rw [pre]
    have hq := RC_CQ h hV
    have hC := h.1
    unfold sh_C at hC
    have hr0 : w_r _ 1000 0 = some (gm_b G) := h.2.2.1
    have hT := h.2.2.2.1
    unfold CT_ at hT
    have hA : SO_ _ 1008 := h.2.1.2.1.1
    unfold SO_ at hA
    have hA2 : SO_ _ 1429 := h.2.1.2.2.2.2
    unfold SO_ at hA2
    have hS : CS_ _ 1008 (tm_n (sm_T S)) (bm_X (sm_B S)) := h.2.2.2.2.2.2.2.1.1
    unfold CS_ at hS
    have hK : sh_B _ 1007 := h.2.1.1
    unfold sh_B at hK
    have hB := h.2.2.2.2.2.2.2.1.2
    have hR := h.2.2.2.2.2.2.2.2.2
    simp only [Nat.reduceAdd] at hA hA2 hS hK hB
    obtain ⟨hn, hk4⟩ := hV.1
    obtain ⟨hW1, hW2, hW3⟩ := hV.2.2.2.1.1
    simp (disch := first | omega | decide | exact ko_b _ | assumption | (simp only [t_si, t_sl, t_sr, t_sI, t_sR, n_si, n_sl, n_sr, n_sI, n_sR, r_si, r_sl, r_sI]; first | done | omega)) only [x_96_e, x_96_b, x_96_15, x_96_16, x_96_19, x_96_20, x_96_23, x_96_26, x_96_27, x_96_29, x_96_30, x_96_33, x_96_36, x_96_37, x_96_38, x_96_39, x_96_40, x_96_43, x_96_44, x_96_47, x_96_48, x_96_49, x_96_52, x_96_53, x_96_56, x_96_59, x_96_60, x_96_62, x_96_63, x_96_66, x_96_69, x_96_70, x_96_71, x_96_72, x_96_73, x_96_76, x_96_77, x_96_80, x_96_81, x_96_82, x_96_85, x_96_86, x_96_89, x_96_90, x_96_93, x_96_94, x_96_97, x_96_98, x_96_101, x_96_104, x_96_105, x_96_106, x_96_107, x_96_108, x_96_111, x_96_114, x_96_115, x_96_118, x_96_121, x_96_124, x_96_125, x_96_126, bk_v, bk_n, nl_I, nl_R, nl_L, nl_0, oo_lt, oo_le, oo_eq, oo_add, oo_sub, oo_tn, oo_ir, nn_leT, nn_leF, nn_ltT, nn_ltF, nn_eqT, nn_eqF, bv_0, bv_1, ko_b, ko_1, ko_0, true_and, and_true, if_true, if_false, not_true_eq_false, not_false_eq_true, oo_02, decide_eq_true_eq, decide_eq_false_iff_not, ite_not, Nat.reduceAdd, Nat.reduceLT, Nat.reduceSub, Nat.reduceLeDiff, reduceIte, Bool.true_eq_false, Bool.false_eq_true, reduceCtorEq, eq_self, decide_true, decide_false, bv_t, bv_f, and_self, t_si, t_sl, t_sr, t_sI, t_sR, n_si, n_sl, n_sr, n_sI, n_sR, r_si, r_sl, r_sI, hC, hA2, e33, i_mn]
  · rw [if_neg c0]
    by_cases c1 : how = 1
    · subst c1
      rw [if_pos rfl]
      refine ⟨s_i w2 1433 t (i_mx (Int32.ofInt (-9)) (xm_l X t - Int32.ofNat 1)), fr_si fz (Or.inl (by unfold tz_; omega)), CS_lea s2, by rw [i_si, if_neg (by omega)]; exact e14, fun Q => ?_⟩
      rw [pre]
      have hq := RC_CQ h hV
      have hC := h.1
      unfold sh_C at hC
      have hr0 : w_r _ 1000 0 = some (gm_b G) := h.2.2.1
      have hT := h.2.2.2.1
      unfold CT_ at hT
      have hA : SO_ _ 1008 := h.2.1.2.1.1
      unfold SO_ at hA
      have hA2 : SO_ _ 1429 := h.2.1.2.2.2.2
      unfold SO_ at hA2
      have hS : CS_ _ 1008 (tm_n (sm_T S)) (bm_X (sm_B S)) := h.2.2.2.2.2.2.2.1.1
      unfold CS_ at hS
      have hK : sh_B _ 1007 := h.2.1.1
      unfold sh_B at hK
      have hB := h.2.2.2.2.2.2.2.1.2
      have hR := h.2.2.2.2.2.2.2.2.2
      simp only [Nat.reduceAdd] at hA hA2 hS hK hB
      obtain ⟨hn, hk4⟩ := hV.1
      obtain ⟨hW1, hW2, hW3⟩ := hV.2.2.2.1.1
      simp (disch := first | omega | decide | exact ko_b _ | assumption | (simp only [t_si, t_sl, t_sr, t_sI, t_sR, n_si, n_sl, n_sr, n_sI, n_sR, r_si, r_sl, r_sI]; first | done | omega)) only [x_96_e, x_96_b, x_96_15, x_96_16, x_96_19, x_96_20, x_96_23, x_96_26, x_96_27, x_96_29, x_96_30, x_96_33, x_96_36, x_96_37, x_96_38, x_96_39, x_96_40, x_96_43, x_96_44, x_96_47, x_96_48, x_96_49, x_96_52, x_96_53, x_96_56, x_96_59, x_96_60, x_96_62, x_96_63, x_96_66, x_96_69, x_96_70, x_96_71, x_96_72, x_96_73, x_96_76, x_96_77, x_96_80, x_96_81, x_96_82, x_96_85, x_96_86, x_96_89, x_96_90, x_96_93, x_96_94, x_96_97, x_96_98, x_96_101, x_96_104, x_96_105, x_96_106, x_96_107, x_96_108, x_96_111, x_96_114, x_96_115, x_96_118, x_96_121, x_96_124, x_96_125, x_96_126, bk_v, bk_n, nl_I, nl_R, nl_L, nl_0, oo_lt, oo_le, oo_eq, oo_add, oo_sub, oo_tn, oo_ir, nn_leT, nn_leF, nn_ltT, nn_ltF, nn_eqT, nn_eqF, bv_0, bv_1, ko_b, ko_1, ko_0, true_and, and_true, if_true, if_false, not_true_eq_false, not_false_eq_true, oo_02, decide_eq_true_eq, decide_eq_false_iff_not, ite_not, Nat.reduceAdd, Nat.reduceLT, Nat.reduceSub, Nat.reduceLeDiff, reduceIte, Bool.true_eq_false, Bool.false_eq_true, reduceCtorEq, eq_self, decide_true, decide_false, bv_t, bv_f, and_self, t_si, t_sl, t_sr, t_sI, t_sR, n_si, n_sl, n_sr, n_sI, n_sR, r_si, r_sl, r_sI, hC, hA2, e33, i_mx]
    · rw [if_neg c1]
      by_cases c2 : how = 2
      · subst c2
        cases c3 : (f_lv X t).isNone with
        | true =>
          rw [if_neg (fun z => by cases z.2)]
          refine ⟨w2, fz, s2, e14, fun Q => ?_⟩
          rw [pre]
          have hq := RC_CQ h hV
          have hC := h.1
          unfold sh_C at hC
          have hr0 : w_r _ 1000 0 = some (gm_b G) := h.2.2.1
          have hT := h.2.2.2.1
          unfold CT_ at hT
          have hA : SO_ _ 1008 := h.2.1.2.1.1
          unfold SO_ at hA
          have hA2 : SO_ _ 1429 := h.2.1.2.2.2.2
          unfold SO_ at hA2
          have hS : CS_ _ 1008 (tm_n (sm_T S)) (bm_X (sm_B S)) := h.2.2.2.2.2.2.2.1.1
          unfold CS_ at hS
          have hK : sh_B _ 1007 := h.2.1.1
          unfold sh_B at hK
          have hB := h.2.2.2.2.2.2.2.1.2
          have hR := h.2.2.2.2.2.2.2.2.2
          simp only [Nat.reduceAdd] at hA hA2 hS hK hB
          obtain ⟨hn, hk4⟩ := hV.1
          obtain ⟨hW1, hW2, hW3⟩ := hV.2.2.2.1.1
          simp (disch := first | omega | decide | exact ko_b _ | assumption | (simp only [t_si, t_sl, t_sr, t_sI, t_sR, n_si, n_sl, n_sr, n_sI, n_sR, r_si, r_sl, r_sI]; first | done | omega)) only [x_96_e, x_96_b, x_96_15, x_96_16, x_96_19, x_96_20, x_96_23, x_96_26, x_96_27, x_96_29, x_96_30, x_96_33, x_96_36, x_96_37, x_96_38, x_96_39, x_96_40, x_96_43, x_96_44, x_96_47, x_96_48, x_96_49, x_96_52, x_96_53, x_96_56, x_96_59, x_96_60, x_96_62, x_96_63, x_96_66, x_96_69, x_96_70, x_96_71, x_96_72, x_96_73, x_96_76, x_96_77, x_96_80, x_96_81, x_96_82, x_96_85, x_96_86, x_96_89, x_96_90, x_96_93, x_96_94, x_96_97, x_96_98, x_96_101, x_96_104, x_96_105, x_96_106, x_96_107, x_96_108, x_96_111, x_96_114, x_96_115, x_96_118, x_96_121, x_96_124, x_96_125, x_96_126, bk_v, bk_n, nl_I, nl_R, nl_L, nl_0, oo_lt, oo_le, oo_eq, oo_add, oo_sub, oo_tn, oo_ir, nn_leT, nn_leF, nn_ltT, nn_ltF, nn_eqT, nn_eqF, bv_0, bv_1, ko_b, ko_1, ko_0, true_and, and_true, if_true, if_false, not_true_eq_false, not_false_eq_true, oo_02, decide_eq_true_eq, decide_eq_false_iff_not, ite_not, Nat.reduceAdd, Nat.reduceLT, Nat.reduceSub, Nat.reduceLeDiff, reduceIte, Bool.true_eq_false, Bool.false_eq_true, reduceCtorEq, eq_self, decide_true, decide_false, bv_t, bv_f, and_self, t_si, t_sl, t_sr, t_sI, t_sR, n_si, n_sl, n_sr, n_sI, n_sR, r_si, r_sl, r_sI, hC, hA2, c_lv hq2, hb, c3]
        | false =>
          rw [if_pos ⟨rfl, rfl⟩]
          refine ⟨s_i w2 1431 t (xm_m X t + tm_hg (sm_T S) t), fr_si fz (Or.inl (by unfold tz_; omega)), CS_mea s2, by rw [i_si, if_neg (by omega)]; exact e14, fun Q => ?_⟩
          rw [pre]
          have h3 := hV.1.2 t ht
          have hq := RC_CQ h hV
          have hC := h.1
          unfold sh_C at hC
          have hr0 : w_r _ 1000 0 = some (gm_b G) := h.2.2.1
          have hT := h.2.2.2.1
          unfold CT_ at hT
          have hA : SO_ _ 1008 := h.2.1.2.1.1
          unfold SO_ at hA
          have hA2 : SO_ _ 1429 := h.2.1.2.2.2.2
          unfold SO_ at hA2
          have hS : CS_ _ 1008 (tm_n (sm_T S)) (bm_X (sm_B S)) := h.2.2.2.2.2.2.2.1.1
          unfold CS_ at hS
          have hK : sh_B _ 1007 := h.2.1.1
          unfold sh_B at hK
          have hB := h.2.2.2.2.2.2.2.1.2
          have hR := h.2.2.2.2.2.2.2.2.2
          simp only [Nat.reduceAdd] at hA hA2 hS hK hB
          obtain ⟨hn, hk4⟩ := hV.1
          obtain ⟨hW1, hW2, hW3⟩ := hV.2.2.2.1.1
          have h4 : w_t w2 (gm_pn G t) = 32 + tm_kd (sm_T S) t := by simp (disch := omega) only [hT]
          simp (disch := first | omega | decide | exact ko_b _ | assumption | (simp only [t_si, t_sl, t_sr, t_sI, t_sR, n_si, n_sl, n_sr, n_sI, n_sR, r_si, r_sl, r_sI]; first | done | omega)) only [x_96_e, x_96_b, x_96_15, x_96_16, x_96_19, x_96_20, x_96_23, x_96_26, x_96_27, x_96_29, x_96_30, x_96_33, x_96_36, x_96_37, x_96_38, x_96_39, x_96_40, x_96_43, x_96_44, x_96_47, x_96_48, x_96_49, x_96_52, x_96_53, x_96_56, x_96_59, x_96_60, x_96_62, x_96_63, x_96_66, x_96_69, x_96_70, x_96_71, x_96_72, x_96_73, x_96_76, x_96_77, x_96_80, x_96_81, x_96_82, x_96_85, x_96_86, x_96_89, x_96_90, x_96_93, x_96_94, x_96_97, x_96_98, x_96_101, x_96_104, x_96_105, x_96_106, x_96_107, x_96_108, x_96_111, x_96_114, x_96_115, x_96_118, x_96_121, x_96_124, x_96_125, x_96_126, bk_v, bk_n, nl_I, nl_R, nl_L, nl_0, oo_lt, oo_le, oo_eq, oo_add, oo_sub, oo_tn, oo_ir, nn_leT, nn_leF, nn_ltT, nn_ltF, nn_eqT, nn_eqF, bv_0, bv_1, ko_b, ko_1, ko_0, true_and, and_true, if_true, if_false, not_true_eq_false, not_false_eq_true, oo_02, decide_eq_true_eq, decide_eq_false_iff_not, ite_not, Nat.reduceAdd, Nat.reduceLT, Nat.reduceSub, Nat.reduceLeDiff, reduceIte, Bool.true_eq_false, Bool.false_eq_true, reduceCtorEq, eq_self, decide_true, decide_false, bv_t, bv_f, and_self, t_si, t_sl, t_sr, t_sI, t_sR, n_si, n_sl, n_sr, n_sI, n_sR, r_si, r_sl, r_sI, hC, hr0, hT, hA, hS, hK, hB, hR, hA2, e31, c_lv hq2, hb, c3, c_tab hq.1 hV.1]
      · rw [if_neg (fun z => c2 z.1)]
        refine ⟨w2, fz, s2, e14, fun Q => ?_⟩
        rw [pre]
        simp (disch := first | omega | decide | exact ko_b _ | assumption | (simp only [t_si, t_sl, t_sr, t_sI, t_sR, n_si, n_sl, n_sr, n_sI, n_sR, r_si, r_sl, r_sI]; first | done | omega)) only [x_96_e, x_96_b, x_96_15, x_96_16, x_96_19, x_96_20, x_96_23, x_96_26, x_96_27, x_96_29, x_96_30, x_96_33, x_96_36, x_96_37, x_96_38, x_96_39, x_96_40, x_96_43, x_96_44, x_96_47, x_96_48, x_96_49, x_96_52, x_96_53, x_96_56, x_96_59, x_96_60, x_96_62, x_96_63, x_96_66, x_96_69, x_96_70, x_96_71, x_96_72, x_96_73, x_96_76, x_96_77, x_96_80, x_96_81, x_96_82, x_96_85, x_96_86, x_96_89, x_96_90, x_96_93, x_96_94, x_96_97, x_96_98, x_96_101, x_96_104, x_96_105, x_96_106, x_96_107, x_96_108, x_96_111, x_96_114, x_96_115, x_96_118, x_96_121, x_96_124, x_96_125, x_96_126, bk_v, bk_n, nl_I, nl_R, nl_L, nl_0, oo_lt, oo_le, oo_eq, oo_add, oo_sub, oo_tn, oo_ir, nn_leT, nn_leF, nn_ltT, nn_ltF, nn_eqT, nn_eqF, bv_0, bv_1, ko_b, ko_1, ko_0, true_and, and_true, if_true, if_false, not_true_eq_false, not_false_eq_true, oo_02, decide_eq_true_eq, decide_eq_false_iff_not, ite_not, Nat.reduceAdd, Nat.reduceLT, Nat.reduceSub, Nat.reduceLeDiff, reduceIte, Bool.true_eq_false, Bool.false_eq_true, reduceCtorEq, eq_self, decide_true, decide_false, bv_t, bv_f, and_self, t_si, t_sl, t_sr, t_sI, t_sR, n_si, n_sl, n_sr, n_sI, n_sR, r_si, r_sl, r_sI]
theorem c_dec1 (h : RC_ w G σ S) (hV : WS_ S) {s : (Xm × Int32) × Nat × Option Nat} (hS2 : CS_ w 1429 (tm_n (sm_T S)) s.1.1) (hX : WX_ (tm_n (sm_T S)) s.1.1) (hi : w_i w 1000 14 = s.1.2) (ho : d_ok s) {d k m : Nat} {sd x : Int32} (hk : k ≤ m) (hm : m ≤ 40) : ∃ w1, Fr_ pd_ w w1 ∧ CS_ w1 1429 (tm_n (sm_T S)) (f_dc (sm_T S) k s).1.1 ∧ w_i w1 1000 14 = (f_dc (sm_T S) k s).1.2 ∧ ∀ Q, wp (d + 13) 95 44 [some (v_R (some 1000)), some (v_I sd), some (v_I (Int32.ofNat m)), some (v_I x), some (v_I (Int32.ofNat s.2.1)), some (v_I (o_i s.2.2)), some (v_I (Int32.ofNat k))] [] w Q = wp (d + 13) 95 44 [some (v_R (some 1000)), some (v_I sd), some (v_I (Int32.ofNat m)), some (v_I x), some (v_I (Int32.ofNat (f_dc (sm_T S) k s).2.1)), some (v_I (o_i (f_dc (sm_T S) k s).2.2)), some (v_I (Int32.ofNat (k + 1)))] [] w1 Q := by
  have hn10 := hV.1.1
  have fy : Fr_ pd_ w (s_i w 1429 5 (xm_y s.1.1 + Int32.ofNat 1)) := fr_si (fr_rf _ _) (Or.inl (by unfold tz_; omega))
  have r1 := RC_pd h hV fy
  have s1 := CS_yrs (v := xm_y s.1.1 + Int32.ofNat 1) hS2
  have i1 : w_i (s_i w 1429 5 (xm_y s.1.1 + Int32.ofNat 1)) 1000 14 = s.1.2 := by rw [i_si, if_neg (by omega)]; exact hi
  have e5 : w_i w 1429 5 = xm_y s.1.1 := hS2.2.1
  -- the year's world
  have key : ∃ w1, Fr_ pd_ w w1 ∧ CS_ w1 1429 (tm_n (sm_T S)) (f_yr (sm_T S) s.1).1 ∧ w_i w1 1000 14 = (f_yr (sm_T S) s.1).2 ∧ ∀ Q, wp (d + 13) 95 44 [some (v_R (some 1000)), some (v_I sd), some (v_I (Int32.ofNat m)), some (v_I x), some (v_I (Int32.ofNat s.2.1)), some (v_I (o_i s.2.2)), some (v_I (Int32.ofNat k))] [] w Q = wp (d + 13) 95 74 [some (v_R (some 1000)), some (v_I sd), some (v_I (Int32.ofNat m)), some (v_I x), some (v_I (Int32.ofNat s.2.1)), some (v_I (o_i s.2.2)), some (v_I (Int32.ofNat k))] [] w1 Q := by
    unfold f_yr
    by_cases hz : tm_n (sm_T S) = 0
    · rw [if_pos hz]
      refine ⟨_, fy, s1, i1, fun Q => ?_⟩
      have ctb := fun d Q => c_tables r1 hV (d := d) (Q := Q)
      have hq := RC_CQ h hV
      have hC := h.1
      unfold sh_C at hC
      have hr0 : w_r _ 1000 0 = some (gm_b G) := h.2.2.1
      have hT := h.2.2.2.1
      unfold CT_ at hT
      have hA : SO_ _ 1008 := h.2.1.2.1.1
      unfold SO_ at hA
      have hA2 : SO_ _ 1429 := h.2.1.2.2.2.2
      unfold SO_ at hA2
      have hS : CS_ _ 1008 (tm_n (sm_T S)) (bm_X (sm_B S)) := h.2.2.2.2.2.2.2.1.1
      unfold CS_ at hS
      have hK : sh_B _ 1007 := h.2.1.1
      unfold sh_B at hK
      have hB := h.2.2.2.2.2.2.2.1.2
      have hR := h.2.2.2.2.2.2.2.2.2
      simp only [Nat.reduceAdd] at hA hA2 hS hK hB
      obtain ⟨hn, hk4⟩ := hV.1
      obtain ⟨hW1, hW2, hW3⟩ := hV.2.2.2.1.1
      rw [x_95_44]
      simp (disch := first | omega | decide | exact ko_b _ | assumption | (simp only [t_si, t_sl, t_sr, t_sI, t_sR, n_si, n_sl, n_sr, n_sI, n_sR, r_si, r_sl, r_sI]; first | done | omega)) only [x_95_e, x_95_b, x_95_46, x_95_47, x_95_50, x_95_51, x_95_54, x_95_55, x_95_58, x_95_59, x_95_60, x_95_63, x_95_64, x_95_67, x_95_70, x_95_71, bk_v, bk_n, nl_I, nl_R, nl_L, nl_0, oo_lt, oo_le, oo_eq, oo_add, oo_sub, oo_tn, oo_ir, nn_leT, nn_leF, nn_ltT, nn_ltF, nn_eqT, nn_eqF, bv_0, bv_1, ko_b, ko_1, ko_0, true_and, and_true, if_true, if_false, not_true_eq_false, not_false_eq_true, oo_02, decide_eq_true_eq, decide_eq_false_iff_not, ite_not, Nat.reduceAdd, Nat.reduceLT, Nat.reduceSub, Nat.reduceLeDiff, reduceIte, Bool.true_eq_false, Bool.false_eq_true, reduceCtorEq, eq_self, decide_true, decide_false, bv_t, bv_f, and_self, t_si, t_sl, t_sr, t_sI, t_sR, n_si, n_sl, n_sr, n_sI, n_sR, r_si, r_sl, r_sI, hC, hA2, e5, ctb]
    · rw [if_neg hz]
      obtain ⟨w1, g1, g2, g3, g4⟩ := c_happ r1 hV s1 (WX_yrs hX) (d := d + 7) i1 (by omega)
      refine ⟨w1, fr_tr fy g1, g2, g3, fun Q => ?_⟩
      have ctb := fun d Q => c_tables r1 hV (d := d) (Q := Q)
      have hq := RC_CQ h hV
      have hC := h.1
      unfold sh_C at hC
      have hr0 : w_r _ 1000 0 = some (gm_b G) := h.2.2.1
      have hT := h.2.2.2.1
      unfold CT_ at hT
      have hA : SO_ _ 1008 := h.2.1.2.1.1
      unfold SO_ at hA
      have hA2 : SO_ _ 1429 := h.2.1.2.2.2.2
      unfold SO_ at hA2
      have hS : CS_ _ 1008 (tm_n (sm_T S)) (bm_X (sm_B S)) := h.2.2.2.2.2.2.2.1.1
      unfold CS_ at hS
      have hK : sh_B _ 1007 := h.2.1.1
      unfold sh_B at hK
      have hB := h.2.2.2.2.2.2.2.1.2
      have hR := h.2.2.2.2.2.2.2.2.2
      simp only [Nat.reduceAdd] at hA hA2 hS hK hB
      obtain ⟨hn, hk4⟩ := hV.1
      obtain ⟨hW1, hW2, hW3⟩ := hV.2.2.2.1.1
      rw [x_95_44]
      simp (disch := first | omega | decide | exact ko_b _ | assumption | (simp only [t_si, t_sl, t_sr, t_sI, t_sR, n_si, n_sl, n_sr, n_sI, n_sR, r_si, r_sl, r_sI]; first | done | omega)) only [x_95_e, x_95_b, x_95_46, x_95_47, x_95_50, x_95_51, x_95_54, x_95_55, x_95_58, x_95_59, x_95_60, x_95_63, x_95_64, x_95_67, x_95_70, x_95_71, bk_v, bk_n, nl_I, nl_R, nl_L, nl_0, oo_lt, oo_le, oo_eq, oo_add, oo_sub, oo_tn, oo_ir, nn_leT, nn_leF, nn_ltT, nn_ltF, nn_eqT, nn_eqF, bv_0, bv_1, ko_b, ko_1, ko_0, true_and, and_true, if_true, if_false, not_true_eq_false, not_false_eq_true, oo_02, decide_eq_true_eq, decide_eq_false_iff_not, ite_not, Nat.reduceAdd, Nat.reduceLT, Nat.reduceSub, Nat.reduceLeDiff, reduceIte, Bool.true_eq_false, Bool.false_eq_true, reduceCtorEq, eq_self, decide_true, decide_false, bv_t, bv_f, and_self, t_si, t_sl, t_sr, t_sI, t_sR, n_si, n_sl, n_sr, n_sI, n_sR, r_si, r_sl, r_sI, hC, hA2, e5, ctb, g4]
  obtain ⟨w1, g1, g2, g3, g4⟩ := key
  have hX1 := WX_yr (T := sm_T S) hX
  refine ⟨w1, g1, g2, g3, fun Q => ?_⟩
  rw [g4]
  have h := RC_pd h hV g1
  have hq1 := tr_q h hV g2 hX1
  have hst := fun Q => c_st hq1 (d := d + 5) (Q := Q)
  unfold f_dc
  have hq := RC_CQ h hV
  have hC := h.1
  unfold sh_C at hC
  have hr0 : w_r _ 1000 0 = some (gm_b G) := h.2.2.1
  have hT := h.2.2.2.1
  unfold CT_ at hT
  have hA : SO_ _ 1008 := h.2.1.2.1.1
  unfold SO_ at hA
  have hA2 : SO_ _ 1429 := h.2.1.2.2.2.2
  unfold SO_ at hA2
  have hS : CS_ _ 1008 (tm_n (sm_T S)) (bm_X (sm_B S)) := h.2.2.2.2.2.2.2.1.1
  unfold CS_ at hS
  have hK : sh_B _ 1007 := h.2.1.1
  unfold sh_B at hK
  have hB := h.2.2.2.2.2.2.2.1.2
  have hR := h.2.2.2.2.2.2.2.2.2
  simp only [Nat.reduceAdd] at hA hA2 hS hK hB
  obtain ⟨hn, hk4⟩ := hV.1
  obtain ⟨hW1, hW2, hW3⟩ := hV.2.2.2.1.1
  cases e : f_st (sm_T S) (f_yr (sm_T S) s.1).1 with
  | true =>
    rw [e] at hst
    simp (disch := first | omega | decide | exact ko_b _ | assumption | (simp only [t_si, t_sl, t_sr, t_sI, t_sR, n_si, n_sl, n_sr, n_sI, n_sR, r_si, r_sl, r_sI]; first | done | omega)) only [x_95_e, x_95_b, x_95_74, x_95_75, x_95_78, x_95_79, x_95_82, x_95_85, x_95_88, x_95_91, x_95_94, x_95_96, x_95_97, x_95_100, x_95_102, x_95_104, x_95_107, bk_v, bk_n, nl_I, nl_R, nl_L, nl_0, oo_lt, oo_le, oo_eq, oo_add, oo_sub, oo_tn, oo_ir, nn_leT, nn_leF, nn_ltT, nn_ltF, nn_eqT, nn_eqF, bv_0, bv_1, ko_b, ko_1, ko_0, true_and, and_true, if_true, if_false, not_true_eq_false, not_false_eq_true, oo_02, decide_eq_true_eq, decide_eq_false_iff_not, ite_not, Nat.reduceAdd, Nat.reduceLT, Nat.reduceSub, Nat.reduceLeDiff, reduceIte, Bool.true_eq_false, Bool.false_eq_true, reduceCtorEq, eq_self, decide_true, decide_false, bv_t, bv_f, and_self, t_si, t_sl, t_sr, t_sI, t_sR, n_si, n_sl, n_sr, n_sI, n_sR, r_si, r_sl, r_sI, hC, hr0, hA2, hst]
  | false =>
    rw [e] at hst
    cases e2 : s.2.2 with
    | none => simp (disch := first | omega | decide | exact ko_b _ | assumption | (simp only [t_si, t_sl, t_sr, t_sI, t_sR, n_si, n_sl, n_sr, n_sI, n_sR, r_si, r_sl, r_sI]; first | done | omega)) only [x_95_e, x_95_b, x_95_74, x_95_75, x_95_78, x_95_79, x_95_82, x_95_85, x_95_88, x_95_91, x_95_94, x_95_96, x_95_97, x_95_100, x_95_102, x_95_104, x_95_107, bk_v, bk_n, nl_I, nl_R, nl_L, nl_0, oo_lt, oo_le, oo_eq, oo_add, oo_sub, oo_tn, oo_ir, nn_leT, nn_leF, nn_ltT, nn_ltF, nn_eqT, nn_eqF, bv_0, bv_1, ko_b, ko_1, ko_0, true_and, and_true, if_true, if_false, not_true_eq_false, not_false_eq_true, oo_02, decide_eq_true_eq, decide_eq_false_iff_not, ite_not, Nat.reduceAdd, Nat.reduceLT, Nat.reduceSub, Nat.reduceLeDiff, reduceIte, Bool.true_eq_false, Bool.false_eq_true, reduceCtorEq, eq_self, decide_true, decide_false, bv_t, bv_f, and_self, t_si, t_sl, t_sr, t_sI, t_sR, n_si, n_sl, n_sr, n_sI, n_sR, r_si, r_sl, r_sI, hC, hr0, hA2, hst, o_i_n, o_i_s, Option.getD_none]
    | some y =>
      have hy := ho y e2
      have hne := oi_s1 (by omega : y < 2147483648)
      simp (disch := first | omega | decide | exact ko_b _ | assumption | (simp only [t_si, t_sl, t_sr, t_sI, t_sR, n_si, n_sl, n_sr, n_sI, n_sR, r_si, r_sl, r_sI]; first | done | omega)) only [x_95_e, x_95_b, x_95_74, x_95_75, x_95_78, x_95_79, x_95_82, x_95_85, x_95_88, x_95_91, x_95_94, x_95_96, x_95_97, x_95_100, x_95_102, x_95_104, x_95_107, bk_v, bk_n, nl_I, nl_R, nl_L, nl_0, oo_lt, oo_le, oo_eq, oo_add, oo_sub, oo_tn, oo_ir, nn_leT, nn_leF, nn_ltT, nn_ltF, nn_eqT, nn_eqF, bv_0, bv_1, ko_b, ko_1, ko_0, true_and, and_true, if_true, if_false, not_true_eq_false, not_false_eq_true, oo_02, decide_eq_true_eq, decide_eq_false_iff_not, ite_not, Nat.reduceAdd, Nat.reduceLT, Nat.reduceSub, Nat.reduceLeDiff, reduceIte, Bool.true_eq_false, Bool.false_eq_true, reduceCtorEq, eq_self, decide_true, decide_false, bv_t, bv_f, and_self, t_si, t_sl, t_sr, t_sI, t_sR, n_si, n_sl, n_sr, n_sI, n_sR, r_si, r_sl, r_sI, hC, hr0, hA2, hst, o_i_s, hne, Option.getD_some]
theorem WX_dc {n k : Nat} {T : Tm} {s : (Xm × Int32) × Nat × Option Nat} (h : WX_ n s.1.1) : WX_ n (f_dc T k s).1.1 := WX_yr h
theorem c_dec (h : RC_ w G σ S) (hV : WS_ S) {d m : Nat} {sd x : Int32} (hm : m ≤ 40) (hx : Int32.ofNat 0 ≤ x ∧ x ≤ Int32.ofNat 2) : CR_ G (d + 13) 95 [v_R (some 1000), v_I sd, v_I (Int32.ofNat m), v_I x] w (v_I (q_dec (sm_T S) (f_dec (sm_T S) (bm_X (sm_B S)) sd m) x)) := by
  have hX9 := hV.2.2.2.1.1
  have hn10 := hV.1.1
  obtain ⟨w1, f1, r1, s1, q1⟩ := c_tr h hV (d := d + 12)
  have fs : Fr_ pd_ w (s_i w1 1000 14 sd) := fr_si (fr_mo f1 (fun a k z => Or.inl z)) (Or.inr ⟨rfl, rfl⟩)
  obtain ⟨t, ⟨j1, j2, j3, j4, j5⟩, q2⟩ := lp_ig (fun k (s : (Xm × Int32) × Nat × Option Nat) (t : Wd) Q => wp (d + 13) 95 44 [some (v_R (some 1000)), some (v_I sd), some (v_I (Int32.ofNat m)), some (v_I x), some (v_I (Int32.ofNat s.2.1)), some (v_I (o_i s.2.2)), some (v_I (Int32.ofNat k))] [] t Q) (fun k s t => Fr_ pd_ w t ∧ CS_ t 1429 (tm_n (sm_T S)) s.1.1 ∧ WX_ (tm_n (sm_T S)) s.1.1 ∧ w_i t 1000 14 = s.1.2 ∧ d_ok s) (f_dc (sm_T S)) m 1 ((bm_X (sm_B S), sd), 0, none) (s_i w1 1000 14 sd) (fun k s t hk1 hk2 hC => by
    obtain ⟨i1, i2, i3, i4, i5⟩ := hC
    obtain ⟨t1, g1, g2, g3, g4⟩ := c_dec1 (RC_pd h hV i1) hV i2 i3 i4 i5 (d := d) (k := k) (m := m) (sd := sd) (x := x) (by omega) hm
    exact ⟨t1, ⟨fr_tr i1 g1, g2, WX_dc i3, g3, d_ok1 i5 (by omega)⟩, g4⟩) ⟨fs, CS_14 s1, hX9, by rw [i_si, if_pos ⟨rfl, rfl⟩], fun y hy => by cases hy⟩
  have ef : it_ (f_dc (sm_T S)) m 1 = it_ (f_dc (sm_T S)) m 1 := rfl
  refine ⟨t, fr_mo j1 (fun a k z => pd_pc z), fun Q => ?_⟩
  have hr := RC_pd h hV j1
  have hq1 := tr_q hr hV j2 j3
  have eL : w_i t 1429 4 = Int32.ofNat (xm_L (it_ (f_dc (sm_T S)) 1 m ((bm_X (sm_B S), sd), 0, none)).1.1) := j2.1
  have fin : wp (d + 13) 95 44 [some (v_R (some 1000)), some (v_I sd), some (v_I (Int32.ofNat m)), some (v_I x), some (v_I (Int32.ofNat (it_ (f_dc (sm_T S)) 1 m ((bm_X (sm_B S), sd), 0, none)).2.1)), some (v_I (o_i (it_ (f_dc (sm_T S)) 1 m ((bm_X (sm_B S), sd), 0, none)).2.2)), some (v_I (Int32.ofNat (1 + m)))] [] t Q = Q (Sum.inl (some (v_I (q_dec (sm_T S) (f_dec (sm_T S) (bm_X (sm_B S)) sd m) x)))) t := by
    unfold q_dec f_dec
    generalize it_ (f_dc (sm_T S)) 1 m ((bm_X (sm_B S), sd), 0, none) = s at *
    have hLs := j3.1
    rw [x_95_44]
    by_cases z0 : x = Int32.ofNat 0
    · simp (disch := first | omega | decide | exact ko_b _ | assumption | (simp only [t_si, t_sl, t_sr, t_sI, t_sR, n_si, n_sl, n_sr, n_sI, n_sR, r_si, r_sl, r_sI]; first | done | omega)) only [x_95_e, x_95_b, x_95_46, x_95_47, x_95_e, x_95_b, x_95_110, x_95_111, x_95_114, x_95_116, x_95_119, x_95_120, x_95_121, x_95_124, x_95_126, x_95_129, x_95_130, x_95_133, x_95_136, x_95_139, x_95_140, x_95_143, x_95_144, x_95_147, x_95_148, x_95_151, x_95_152, x_95_155, bk_v, bk_n, nl_I, nl_R, nl_L, nl_0, oo_lt, oo_le, oo_eq, oo_add, oo_sub, oo_tn, oo_ir, nn_leT, nn_leF, nn_ltT, nn_ltF, nn_eqT, nn_eqF, bv_0, bv_1, ko_b, ko_1, ko_0, true_and, and_true, if_true, if_false, not_true_eq_false, not_false_eq_true, oo_02, decide_eq_true_eq, decide_eq_false_iff_not, ite_not, Nat.reduceAdd, Nat.reduceLT, Nat.reduceSub, Nat.reduceLeDiff, reduceIte, Bool.true_eq_false, Bool.false_eq_true, reduceCtorEq, eq_self, decide_true, decide_false, bv_t, bv_f, and_self, t_si, t_sl, t_sr, t_sI, t_sR, n_si, n_sl, n_sr, n_sI, n_sR, r_si, r_sl, r_sI, z0]
    · by_cases z1 : x = Int32.ofNat 1
      · simp (disch := first | omega | decide | exact ko_b _ | assumption | (simp only [t_si, t_sl, t_sr, t_sI, t_sR, n_si, n_sl, n_sr, n_sI, n_sR, r_si, r_sl, r_sI]; first | done | omega)) only [x_95_e, x_95_b, x_95_46, x_95_47, x_95_e, x_95_b, x_95_110, x_95_111, x_95_114, x_95_116, x_95_119, x_95_120, x_95_121, x_95_124, x_95_126, x_95_129, x_95_130, x_95_133, x_95_136, x_95_139, x_95_140, x_95_143, x_95_144, x_95_147, x_95_148, x_95_151, x_95_152, x_95_155, bk_v, bk_n, nl_I, nl_R, nl_L, nl_0, oo_lt, oo_le, oo_eq, oo_add, oo_sub, oo_tn, oo_ir, nn_leT, nn_leF, nn_ltT, nn_ltF, nn_eqT, nn_eqF, bv_0, bv_1, ko_b, ko_1, ko_0, true_and, and_true, if_true, if_false, not_true_eq_false, not_false_eq_true, oo_02, decide_eq_true_eq, decide_eq_false_iff_not, ite_not, Nat.reduceAdd, Nat.reduceLT, Nat.reduceSub, Nat.reduceLeDiff, reduceIte, Bool.true_eq_false, Bool.false_eq_true, reduceCtorEq, eq_self, decide_true, decide_false, bv_t, bv_f, and_self, t_si, t_sl, t_sr, t_sI, t_sR, n_si, n_sl, n_sr, n_sI, n_sR, r_si, r_sl, r_sI, z0, z1]
      · have h := hr
        by_cases z2 : xm_L s.1.1 = 0
        · have hq := RC_CQ h hV
          have hC := h.1
          unfold sh_C at hC
          have hr0 : w_r _ 1000 0 = some (gm_b G) := h.2.2.1
          have hT := h.2.2.2.1
          unfold CT_ at hT
          have hA : SO_ _ 1008 := h.2.1.2.1.1
          unfold SO_ at hA
          have hA2 : SO_ _ 1429 := h.2.1.2.2.2.2
          unfold SO_ at hA2
          have hS : CS_ _ 1008 (tm_n (sm_T S)) (bm_X (sm_B S)) := h.2.2.2.2.2.2.2.1.1
          unfold CS_ at hS
          have hK : sh_B _ 1007 := h.2.1.1
          unfold sh_B at hK
          have hB := h.2.2.2.2.2.2.2.1.2
          have hR := h.2.2.2.2.2.2.2.2.2
          simp only [Nat.reduceAdd] at hA hA2 hS hK hB
          obtain ⟨hn, hk4⟩ := hV.1
          obtain ⟨hW1, hW2, hW3⟩ := hV.2.2.2.1.1
          simp (disch := first | omega | decide | exact ko_b _ | assumption | (simp only [t_si, t_sl, t_sr, t_sI, t_sR, n_si, n_sl, n_sr, n_sI, n_sR, r_si, r_sl, r_sI]; first | done | omega)) only [x_95_e, x_95_b, x_95_46, x_95_47, x_95_e, x_95_b, x_95_110, x_95_111, x_95_114, x_95_116, x_95_119, x_95_120, x_95_121, x_95_124, x_95_126, x_95_129, x_95_130, x_95_133, x_95_136, x_95_139, x_95_140, x_95_143, x_95_144, x_95_147, x_95_148, x_95_151, x_95_152, x_95_155, bk_v, bk_n, nl_I, nl_R, nl_L, nl_0, oo_lt, oo_le, oo_eq, oo_add, oo_sub, oo_tn, oo_ir, nn_leT, nn_leF, nn_ltT, nn_ltF, nn_eqT, nn_eqF, bv_0, bv_1, ko_b, ko_1, ko_0, true_and, and_true, if_true, if_false, not_true_eq_false, not_false_eq_true, oo_02, decide_eq_true_eq, decide_eq_false_iff_not, ite_not, Nat.reduceAdd, Nat.reduceLT, Nat.reduceSub, Nat.reduceLeDiff, reduceIte, Bool.true_eq_false, Bool.false_eq_true, reduceCtorEq, eq_self, decide_true, decide_false, bv_t, bv_f, and_self, t_si, t_sl, t_sr, t_sI, t_sR, n_si, n_sl, n_sr, n_sI, n_sR, r_si, r_sl, r_sI, z0, z1, hC, hA2, eL, z2]
        · have hld := fun Q => c_load hq1 (d := d + 9) (l := 0) (Q := Q) (by omega)
          have hq := RC_CQ h hV
          have hC := h.1
          unfold sh_C at hC
          have hr0 : w_r _ 1000 0 = some (gm_b G) := h.2.2.1
          have hT := h.2.2.2.1
          unfold CT_ at hT
          have hA : SO_ _ 1008 := h.2.1.2.1.1
          unfold SO_ at hA
          have hA2 : SO_ _ 1429 := h.2.1.2.2.2.2
          unfold SO_ at hA2
          have hS : CS_ _ 1008 (tm_n (sm_T S)) (bm_X (sm_B S)) := h.2.2.2.2.2.2.2.1.1
          unfold CS_ at hS
          have hK : sh_B _ 1007 := h.2.1.1
          unfold sh_B at hK
          have hB := h.2.2.2.2.2.2.2.1.2
          have hR := h.2.2.2.2.2.2.2.2.2
          simp only [Nat.reduceAdd] at hA hA2 hS hK hB
          obtain ⟨hn, hk4⟩ := hV.1
          obtain ⟨hW1, hW2, hW3⟩ := hV.2.2.2.1.1
          simp (disch := first | omega | decide | exact ko_b _ | assumption | (simp only [t_si, t_sl, t_sr, t_sI, t_sR, n_si, n_sl, n_sr, n_sI, n_sR, r_si, r_sl, r_sI]; first | done | omega)) only [x_95_e, x_95_b, x_95_46, x_95_47, x_95_e, x_95_b, x_95_110, x_95_111, x_95_114, x_95_116, x_95_119, x_95_120, x_95_121, x_95_124, x_95_126, x_95_129, x_95_130, x_95_133, x_95_136, x_95_139, x_95_140, x_95_143, x_95_144, x_95_147, x_95_148, x_95_151, x_95_152, x_95_155, bk_v, bk_n, nl_I, nl_R, nl_L, nl_0, oo_lt, oo_le, oo_eq, oo_add, oo_sub, oo_tn, oo_ir, nn_leT, nn_leF, nn_ltT, nn_ltF, nn_eqT, nn_eqF, bv_0, bv_1, ko_b, ko_1, ko_0, true_and, and_true, if_true, if_false, not_true_eq_false, not_false_eq_true, oo_02, decide_eq_true_eq, decide_eq_false_iff_not, ite_not, Nat.reduceAdd, Nat.reduceLT, Nat.reduceSub, Nat.reduceLeDiff, reduceIte, Bool.true_eq_false, Bool.false_eq_true, reduceCtorEq, eq_self, decide_true, decide_false, bv_t, bv_f, and_self, t_si, t_sl, t_sr, t_sI, t_sR, n_si, n_sl, n_sr, n_sI, n_sR, r_si, r_sl, r_sI, z0, z1, hC, hr0, hA2, eL, z2, hld]
  refine Eq.trans ?_ ((q2 Q).trans fin)
  have t1 : w_t w1 1000 = 20 := r1.1.1
  have hm2 : Int32.ofNat 0 ≤ Int32.ofNat m ∧ Int32.ofNat m ≤ Int32.ofNat 40 := by
    rw [oo_le (by omega) (by omega), oo_le (by omega) (by omega)]; omega
  have hq := RC_CQ h hV
  have hC := h.1
  unfold sh_C at hC
  have hr0 : w_r _ 1000 0 = some (gm_b G) := h.2.2.1
  have hT := h.2.2.2.1
  unfold CT_ at hT
  have hA : SO_ _ 1008 := h.2.1.2.1.1
  unfold SO_ at hA
  have hA2 : SO_ _ 1429 := h.2.1.2.2.2.2
  unfold SO_ at hA2
  have hS : CS_ _ 1008 (tm_n (sm_T S)) (bm_X (sm_B S)) := h.2.2.2.2.2.2.2.1.1
  unfold CS_ at hS
  have hK : sh_B _ 1007 := h.2.1.1
  unfold sh_B at hK
  have hB := h.2.2.2.2.2.2.2.1.2
  have hR := h.2.2.2.2.2.2.2.2.2
  simp only [Nat.reduceAdd] at hA hA2 hS hK hB
  obtain ⟨hn, hk4⟩ := hV.1
  obtain ⟨hW1, hW2, hW3⟩ := hV.2.2.2.1.1
  simp (disch := first | omega | decide | exact ko_b _ | assumption | (simp only [t_si, t_sl, t_sr, t_sI, t_sR, n_si, n_sl, n_sr, n_sI, n_sR, r_si, r_sl, r_sI]; first | done | omega)) only [x_95_e, x_95_b, x_95_0, x_95_1, x_95_2, x_95_3, x_95_6, x_95_9, x_95_10, x_95_11, x_95_13, x_95_16, x_95_19, x_95_20, x_95_23, x_95_24, x_95_27, x_95_30, x_95_31, x_95_32, x_95_35, x_95_36, x_95_38, x_95_39, x_95_41, x_95_42, bk_v, bk_n, nl_I, nl_R, nl_L, nl_0, oo_lt, oo_le, oo_eq, oo_add, oo_sub, oo_tn, oo_ir, nn_leT, nn_leF, nn_ltT, nn_ltF, nn_eqT, nn_eqF, bv_0, bv_1, ko_b, ko_1, ko_0, true_and, and_true, if_true, if_false, not_true_eq_false, not_false_eq_true, oo_02, decide_eq_true_eq, decide_eq_false_iff_not, ite_not, Nat.reduceAdd, Nat.reduceLT, Nat.reduceSub, Nat.reduceLeDiff, reduceIte, Bool.true_eq_false, Bool.false_eq_true, reduceCtorEq, eq_self, decide_true, decide_false, bv_t, bv_f, and_self, t_si, t_sl, t_sr, t_sI, t_sR, n_si, n_sl, n_sr, n_sI, n_sR, r_si, r_sl, r_sI, hC, hr0, hT, hA, hS, hK, hB, hR, c_in, hx, hm2, c_th1, c_ri1, q1, o_i_n]
theorem c_dec_1 (h : RC_ w G σ S) (hV : WS_ S) {d : Nat} {sd m x : Int32} (hx : ¬ (Int32.ofNat 0 ≤ x ∧ x ≤ Int32.ofNat 2)) : CX_ G (d + 13) 95 [v_R (some 1000), v_I sd, v_I m, v_I x] w 40 := cx_0 fun Q => by
  simp (disch := first | omega | decide | exact ko_b _ | assumption | (simp only [t_si, t_sl, t_sr, t_sI, t_sR, n_si, n_sl, n_sr, n_sI, n_sR, r_si, r_sl, r_sI]; first | done | omega)) only [x_95_e, x_95_b, x_95_0, x_95_1, x_95_2, x_95_3, x_95_6, x_95_9, x_95_10, x_95_11, x_95_13, x_95_16, bk_v, bk_n, nl_I, nl_R, nl_L, nl_0, oo_lt, oo_le, oo_eq, oo_add, oo_sub, oo_tn, oo_ir, nn_leT, nn_leF, nn_ltT, nn_ltF, nn_eqT, nn_eqF, bv_0, bv_1, ko_b, ko_1, ko_0, true_and, and_true, if_true, if_false, not_true_eq_false, not_false_eq_true, oo_02, decide_eq_true_eq, decide_eq_false_iff_not, ite_not, Nat.reduceAdd, Nat.reduceLT, Nat.reduceSub, Nat.reduceLeDiff, reduceIte, Bool.true_eq_false, Bool.false_eq_true, reduceCtorEq, eq_self, decide_true, decide_false, bv_t, bv_f, and_self, t_si, t_sl, t_sr, t_sI, t_sR, n_si, n_sl, n_sr, n_sI, n_sR, r_si, r_sl, r_sI, c_in, hx, c_th0]
theorem c_dec_2 (h : RC_ w G σ S) (hV : WS_ S) {d : Nat} {sd m x : Int32} (hx : Int32.ofNat 0 ≤ x ∧ x ≤ Int32.ofNat 2) (hm : ¬ (Int32.ofNat 0 ≤ m ∧ m ≤ Int32.ofNat 40)) : CX_ G (d + 13) 95 [v_R (some 1000), v_I sd, v_I m, v_I x] w 39 := cx_0 fun Q => by
  simp (disch := first | omega | decide | exact ko_b _ | assumption | (simp only [t_si, t_sl, t_sr, t_sI, t_sR, n_si, n_sl, n_sr, n_sI, n_sR, r_si, r_sl, r_sI]; first | done | omega)) only [x_95_e, x_95_b, x_95_0, x_95_1, x_95_2, x_95_3, x_95_6, x_95_9, x_95_10, x_95_11, x_95_13, x_95_16, bk_v, bk_n, nl_I, nl_R, nl_L, nl_0, oo_lt, oo_le, oo_eq, oo_add, oo_sub, oo_tn, oo_ir, nn_leT, nn_leF, nn_ltT, nn_ltF, nn_eqT, nn_eqF, bv_0, bv_1, ko_b, ko_1, ko_0, true_and, and_true, if_true, if_false, not_true_eq_false, not_false_eq_true, oo_02, decide_eq_true_eq, decide_eq_false_iff_not, ite_not, Nat.reduceAdd, Nat.reduceLT, Nat.reduceSub, Nat.reduceLeDiff, reduceIte, Bool.true_eq_false, Bool.false_eq_true, reduceCtorEq, eq_self, decide_true, decide_false, bv_t, bv_f, and_self, t_si, t_sl, t_sr, t_sI, t_sR, n_si, n_sl, n_sr, n_sI, n_sR, r_si, r_sl, r_sI, c_in, hx, c_th1, hm, c_ri0]
/-! the model -/
def pyr_ (a k : Nat) : Prop := p_st a k ∨ (a = 1440 ∧ k = 49)
theorem pyr_o {a k : Nat} (h : pyr_ a k) : pm_ a k ∨ p_st a k := h.elim Or.inr (fun z => Or.inl (by unfold pm_; omega))
theorem MS_49 {n : Nat} {X : Xm} {v : Int32} (h : MS_ w n X) : MS_ (s_i w 1440 49 v) n X := by
  unfold MS_ at h ⊢
  simp only [i_si, Nat.reduceEqDiff, false_and, and_false, if_false]
  exact h
theorem m_hap0 {T : Tm} {X : Xm} (h : MQ_ w T X) {d : Nat} {i : Int32} (hi : w_i w 1440 49 = i) (hn : 0 < tm_n T) {Q : Q_} : wp (d + 1) 259 20 [some (v_R (some 1440)), none, none] [] w Q = wp (d + 1) 259 37 [some (v_R (some 1440)), some (v_I (Int32.ofNat (dv_ (dr_ i) % tm_n T))), some (v_I (Int32.ofNat (dv_ (dr_ (dr_ i)) % 5)))] [] (s_i (s_i w 1440 49 (dr_ i)) 1440 49 (dr_ (dr_ i))) Q := by
  have hn10 := h.2.2.2.1.1
  have hM := h.1
  unfold sh_M at hM
  have u0 : w_t w 1440 = 25 := hM.1
  have u4 : w_r w 1440 4 = some 1444 := by simp only [hM]
  have t44 : w_t w 1444 = 1 := by simp only [hM]
  have n44 : w_n w 1444 = 8 := by simp only [hM]
  clear hM
  have e0 : w_i w 1444 0 = Int32.ofNat (tm_n T) := h.2.1.1
  have u1 : w_t (s_i w 1440 49 (dr_ i)) 1440 = 25 := u0
  have d1 : ∀ d Q, cl d 260 [v_R (some 1440), v_I (Int32.ofNat (tm_n T))] w Q = Q (Sum.inl (some (v_I (Int32.ofNat (dv_ (dr_ i) % tm_n T))))) (s_i w 1440 49 (dr_ i)) := fun d Q => m_draw u0 hi hn (by omega)
  have d2 : ∀ d Q, cl d 260 [v_R (some 1440), v_I (Int32.ofNat 5)] (s_i w 1440 49 (dr_ i)) Q = Q (Sum.inl (some (v_I (Int32.ofNat (dv_ (dr_ (dr_ i)) % 5))))) (s_i (s_i w 1440 49 (dr_ i)) 1440 49 (dr_ (dr_ i))) := fun d Q => m_draw u1 (by rw [i_si, if_pos ⟨rfl, rfl⟩]) (by omega) (by omega)
  simp (disch := first | omega | decide | exact ko_b _ | assumption | (simp only [t_si, t_sl, t_sr, t_sI, t_sR, n_si, n_sl, n_sr, n_sI, n_sR, r_si, r_sl, r_sI]; first | done | omega)) only [x_259_e, x_259_b, x_259_20, x_259_21, x_259_22, x_259_25, x_259_26, x_259_27, x_259_30, x_259_31, x_259_32, x_259_33, x_259_36, bk_v, nl_I, nl_R, nl_0, oo_tn, oo_ir, true_and, Nat.reduceAdd, u4, n44, e0, d1, d2]
theorem m_hap1 {T : Tm} {X : Xm} (h : MQ_ w T X) {d t how : Nat} (ht : t < tm_n T) (hh5 : how < 5) : ∃ w1, Fr_ p_st w w1 ∧ MS_ w1 (tm_n T) (f_hap T X t how) ∧ ∀ Q, wp (d + 1) 259 37 [some (v_R (some 1440)), some (v_I (Int32.ofNat t)), some (v_I (Int32.ofNat how))] [] w Q = Q (Sum.inl none) w1 := by
  have hn10 := h.2.2.2.1.1
  have hX := h.2.2.2.2
  have hb : (o_i (f_lv X t) = Int32.ofInt (-1)) = ((f_lv X t).isNone = true) := oi_m (fun k e => by have := flv_lt e; have := hX.1; omega)
  have hlv := fun d Q => m_lv h (d := d) (Q := Q) ht
  have s2 := h.2.2.1
  unfold f_hap
  by_cases c0 : how = 0
  · subst c0
    rw [if_pos rfl]
    refine ⟨s_i w 1456 t (i_mn (Int32.ofNat 9) (xm_l X t + Int32.ofNat 1)), fr_si (fr_rf _ _) (by unfold p_st; omega), MS_lea s2, fun Q => ?_⟩
    have hq := h
    obtain ⟨hM, hT, hS, ⟨hn, hk4⟩, hW1, hW2, hW3⟩ := hq
    unfold sh_M at hM
    unfold MT_ at hT
    unfold MS_ at hS
    simp (disch := first | omega | decide | exact ko_b _ | assumption | (simp only [t_si, t_sl, t_sr, t_sI, t_sR, n_si, n_sl, n_sr, n_sI, n_sR, r_si, r_sl, r_sI]; first | done | omega)) only [x_259_e, x_259_b, x_259_37, x_259_38, x_259_41, x_259_42, x_259_45, x_259_46, x_259_48, x_259_49, x_259_52, x_259_53, x_259_54, x_259_55, x_259_56, x_259_59, x_259_60, x_259_61, x_259_62, x_259_65, x_259_66, x_259_69, x_259_70, x_259_72, x_259_73, x_259_76, x_259_77, x_259_78, x_259_79, x_259_80, x_259_83, x_259_84, x_259_85, x_259_86, x_259_89, x_259_90, x_259_91, x_259_94, x_259_95, x_259_98, x_259_99, x_259_102, x_259_103, x_259_104, x_259_105, x_259_106, x_259_109, x_259_110, x_259_111, x_259_112, x_259_113, bk_v, bk_n, nl_I, nl_R, nl_L, nl_0, oo_lt, oo_le, oo_eq, oo_add, oo_sub, oo_tn, oo_ir, nn_leT, nn_leF, nn_ltT, nn_ltF, nn_eqT, nn_eqF, bv_0, bv_1, ko_b, ko_1, ko_0, true_and, and_true, if_true, if_false, not_true_eq_false, not_false_eq_true, oo_02, decide_eq_true_eq, decide_eq_false_iff_not, ite_not, Nat.reduceAdd, Nat.reduceLT, Nat.reduceSub, Nat.reduceLeDiff, reduceIte, Bool.true_eq_false, Bool.false_eq_true, reduceCtorEq, eq_self, decide_true, decide_false, bv_t, bv_f, and_self, t_si, t_sl, t_sr, t_sI, t_sR, n_si, n_sl, n_sr, n_sI, n_sR, r_si, r_sl, r_sI, hM, hT, hS, i_mn]
  · rw [if_neg c0]
    by_cases c1 : how = 1
    · subst c1
      rw [if_pos rfl]
      refine ⟨s_i w 1456 t (i_mx (Int32.ofInt (-9)) (xm_l X t - Int32.ofNat 1)), fr_si (fr_rf _ _) (by unfold p_st; omega), MS_lea s2, fun Q => ?_⟩
      have hq := h
      obtain ⟨hM, hT, hS, ⟨hn, hk4⟩, hW1, hW2, hW3⟩ := hq
      unfold sh_M at hM
      unfold MT_ at hT
      unfold MS_ at hS
      simp (disch := first | omega | decide | exact ko_b _ | assumption | (simp only [t_si, t_sl, t_sr, t_sI, t_sR, n_si, n_sl, n_sr, n_sI, n_sR, r_si, r_sl, r_sI]; first | done | omega)) only [x_259_e, x_259_b, x_259_37, x_259_38, x_259_41, x_259_42, x_259_45, x_259_46, x_259_48, x_259_49, x_259_52, x_259_53, x_259_54, x_259_55, x_259_56, x_259_59, x_259_60, x_259_61, x_259_62, x_259_65, x_259_66, x_259_69, x_259_70, x_259_72, x_259_73, x_259_76, x_259_77, x_259_78, x_259_79, x_259_80, x_259_83, x_259_84, x_259_85, x_259_86, x_259_89, x_259_90, x_259_91, x_259_94, x_259_95, x_259_98, x_259_99, x_259_102, x_259_103, x_259_104, x_259_105, x_259_106, x_259_109, x_259_110, x_259_111, x_259_112, x_259_113, bk_v, bk_n, nl_I, nl_R, nl_L, nl_0, oo_lt, oo_le, oo_eq, oo_add, oo_sub, oo_tn, oo_ir, nn_leT, nn_leF, nn_ltT, nn_ltF, nn_eqT, nn_eqF, bv_0, bv_1, ko_b, ko_1, ko_0, true_and, and_true, if_true, if_false, not_true_eq_false, not_false_eq_true, oo_02, decide_eq_true_eq, decide_eq_false_iff_not, ite_not, Nat.reduceAdd, Nat.reduceLT, Nat.reduceSub, Nat.reduceLeDiff, reduceIte, Bool.true_eq_false, Bool.false_eq_true, reduceCtorEq, eq_self, decide_true, decide_false, bv_t, bv_f, and_self, t_si, t_sl, t_sr, t_sI, t_sR, n_si, n_sl, n_sr, n_sI, n_sR, r_si, r_sl, r_sI, hM, hT, hS, i_mx]
    · rw [if_neg c1]
      by_cases c2 : how = 2
      · subst c2
        cases c3 : (f_lv X t).isNone with
        | true =>
          rw [if_neg (fun z => by cases z.2)]
          refine ⟨w, fr_rf _ _, s2, fun Q => ?_⟩
          have hq := h
          obtain ⟨hM, hT, hS, ⟨hn, hk4⟩, hW1, hW2, hW3⟩ := hq
          unfold sh_M at hM
          unfold MT_ at hT
          unfold MS_ at hS
          simp (disch := first | omega | decide | exact ko_b _ | assumption | (simp only [t_si, t_sl, t_sr, t_sI, t_sR, n_si, n_sl, n_sr, n_sI, n_sR, r_si, r_sl, r_sI]; first | done | omega)) only [x_259_e, x_259_b, x_259_37, x_259_38, x_259_41, x_259_42, x_259_45, x_259_46, x_259_48, x_259_49, x_259_52, x_259_53, x_259_54, x_259_55, x_259_56, x_259_59, x_259_60, x_259_61, x_259_62, x_259_65, x_259_66, x_259_69, x_259_70, x_259_72, x_259_73, x_259_76, x_259_77, x_259_78, x_259_79, x_259_80, x_259_83, x_259_84, x_259_85, x_259_86, x_259_89, x_259_90, x_259_91, x_259_94, x_259_95, x_259_98, x_259_99, x_259_102, x_259_103, x_259_104, x_259_105, x_259_106, x_259_109, x_259_110, x_259_111, x_259_112, x_259_113, bk_v, bk_n, nl_I, nl_R, nl_L, nl_0, oo_lt, oo_le, oo_eq, oo_add, oo_sub, oo_tn, oo_ir, nn_leT, nn_leF, nn_ltT, nn_ltF, nn_eqT, nn_eqF, bv_0, bv_1, ko_b, ko_1, ko_0, true_and, and_true, if_true, if_false, not_true_eq_false, not_false_eq_true, oo_02, decide_eq_true_eq, decide_eq_false_iff_not, ite_not, Nat.reduceAdd, Nat.reduceLT, Nat.reduceSub, Nat.reduceLeDiff, reduceIte, Bool.true_eq_false, Bool.false_eq_true, reduceCtorEq, eq_self, decide_true, decide_false, bv_t, bv_f, and_self, t_si, t_sl, t_sr, t_sI, t_sR, n_si, n_sl, n_sr, n_sI, n_sR, r_si, r_sl, r_sI, hM, hT, hS, hlv, hb, c3]
        | false =>
          rw [if_pos ⟨rfl, rfl⟩]
          refine ⟨s_i w 1454 t (xm_m X t + tm_hg T t), fr_si (fr_rf _ _) (by unfold p_st; omega), MS_mea s2, fun Q => ?_⟩
          have hq := h
          obtain ⟨hM, hT, hS, ⟨hn, hk4⟩, hW1, hW2, hW3⟩ := hq
          unfold sh_M at hM
          unfold MT_ at hT
          unfold MS_ at hS
          simp (disch := first | omega | decide | exact ko_b _ | assumption | (simp only [t_si, t_sl, t_sr, t_sI, t_sR, n_si, n_sl, n_sr, n_sI, n_sR, r_si, r_sl, r_sI]; first | done | omega)) only [x_259_e, x_259_b, x_259_37, x_259_38, x_259_41, x_259_42, x_259_45, x_259_46, x_259_48, x_259_49, x_259_52, x_259_53, x_259_54, x_259_55, x_259_56, x_259_59, x_259_60, x_259_61, x_259_62, x_259_65, x_259_66, x_259_69, x_259_70, x_259_72, x_259_73, x_259_76, x_259_77, x_259_78, x_259_79, x_259_80, x_259_83, x_259_84, x_259_85, x_259_86, x_259_89, x_259_90, x_259_91, x_259_94, x_259_95, x_259_98, x_259_99, x_259_102, x_259_103, x_259_104, x_259_105, x_259_106, x_259_109, x_259_110, x_259_111, x_259_112, x_259_113, bk_v, bk_n, nl_I, nl_R, nl_L, nl_0, oo_lt, oo_le, oo_eq, oo_add, oo_sub, oo_tn, oo_ir, nn_leT, nn_leF, nn_ltT, nn_ltF, nn_eqT, nn_eqF, bv_0, bv_1, ko_b, ko_1, ko_0, true_and, and_true, if_true, if_false, not_true_eq_false, not_false_eq_true, oo_02, decide_eq_true_eq, decide_eq_false_iff_not, ite_not, Nat.reduceAdd, Nat.reduceLT, Nat.reduceSub, Nat.reduceLeDiff, reduceIte, Bool.true_eq_false, Bool.false_eq_true, reduceCtorEq, eq_self, decide_true, decide_false, bv_t, bv_f, and_self, t_si, t_sl, t_sr, t_sI, t_sR, n_si, n_sl, n_sr, n_sI, n_sR, r_si, r_sl, r_sI, hM, hT, hS, hlv, hb, c3]
      · rw [if_neg (fun z => c2 z.1)]
        refine ⟨w, fr_rf _ _, s2, fun Q => ?_⟩
        simp (disch := first | omega | decide | exact ko_b _ | assumption | (simp only [t_si, t_sl, t_sr, t_sI, t_sR, n_si, n_sl, n_sr, n_sI, n_sR, r_si, r_sl, r_sI]; first | done | omega)) only [x_259_e, x_259_b, x_259_37, x_259_38, x_259_41, x_259_42, x_259_45, x_259_46, x_259_48, x_259_49, x_259_52, x_259_53, x_259_54, x_259_55, x_259_56, x_259_59, x_259_60, x_259_61, x_259_62, x_259_65, x_259_66, x_259_69, x_259_70, x_259_72, x_259_73, x_259_76, x_259_77, x_259_78, x_259_79, x_259_80, x_259_83, x_259_84, x_259_85, x_259_86, x_259_89, x_259_90, x_259_91, x_259_94, x_259_95, x_259_98, x_259_99, x_259_102, x_259_103, x_259_104, x_259_105, x_259_106, x_259_109, x_259_110, x_259_111, x_259_112, x_259_113, bk_v, bk_n, nl_I, nl_R, nl_L, nl_0, oo_lt, oo_le, oo_eq, oo_add, oo_sub, oo_tn, oo_ir, nn_leT, nn_leF, nn_ltT, nn_ltF, nn_eqT, nn_eqF, bv_0, bv_1, ko_b, ko_1, ko_0, true_and, and_true, if_true, if_false, not_true_eq_false, not_false_eq_true, oo_02, decide_eq_true_eq, decide_eq_false_iff_not, ite_not, Nat.reduceAdd, Nat.reduceLT, Nat.reduceSub, Nat.reduceLeDiff, reduceIte, Bool.true_eq_false, Bool.false_eq_true, reduceCtorEq, eq_self, decide_true, decide_false, bv_t, bv_f, and_self, t_si, t_sl, t_sr, t_sI, t_sR, n_si, n_sl, n_sr, n_sI, n_sR, r_si, r_sl, r_sI]
theorem m_hap {T : Tm} {X : Xm} (h : MQ_ w T X) {d : Nat} {i : Int32} (hi : w_i w 1440 49 = i) (hn : 0 < tm_n T) : ∃ w1, Fr_ pyr_ w w1 ∧ MS_ w1 (tm_n T) (f_hap T X (dv_ (dr_ i) % tm_n T) (dv_ (dr_ (dr_ i)) % 5)) ∧ w_i w1 1440 49 = dr_ (dr_ i) ∧ ∀ Q, wp (d + 1) 259 20 [some (v_R (some 1440)), none, none] [] w Q = Q (Sum.inl none) w1 := by
  have fz : Fr_ pyr_ w (s_i (s_i w 1440 49 (dr_ i)) 1440 49 (dr_ (dr_ i))) := fr_si (fr_si (fr_rf _ _) (Or.inr ⟨rfl, rfl⟩)) (Or.inr ⟨rfl, rfl⟩)
  have s2 := MS_49 (v := dr_ (dr_ i)) (MS_49 (v := dr_ i) h.2.2.1)
  have hq2 := MQ_Y h (fr_mo fz (fun a k z => pyr_o z)) s2 h.2.2.2.2
  obtain ⟨w1, f1, s1, q1⟩ := m_hap1 hq2 (d := d) (t := dv_ (dr_ i) % tm_n T) (how := dv_ (dr_ (dr_ i)) % 5) (Nat.mod_lt _ hn) (Nat.mod_lt _ (by omega))
  refine ⟨w1, fr_tr fz (fr_mo f1 (fun a k z => Or.inl z)), s1, ?_, fun Q => (m_hap0 h hi hn).trans (q1 Q)⟩
  rw [f1.2.2.2.2.2 _ _ (by unfold p_st; omega), i_si, if_pos ⟨rfl, rfl⟩]
theorem m_year {T : Tm} {s : Xm × Int32} (h : MQ_ w T s.1) {d : Nat} (hi : w_i w 1440 49 = s.2) : ∃ w1, Fr_ pyr_ w w1 ∧ MS_ w1 (tm_n T) (f_yr T s).1 ∧ w_i w1 1440 49 = (f_yr T s).2 ∧ ∀ Q, cl (d + 1) 259 [v_R (some 1440)] w Q = Q (Sum.inl none) w1 := by
  have hn10 := h.2.2.2.1.1
  have fy : Fr_ p_st w (s_i w 1440 29 (xm_y s.1 + Int32.ofNat 1)) := fr_si (fr_rf _ _) (by unfold p_st; omega)
  have hq1 := MQ_X h fy (MS_yrs (v := xm_y s.1 + Int32.ofNat 1) h.2.2.1) (WX_yrs h.2.2.2.2)
  have i1 : w_i (s_i w 1440 29 (xm_y s.1 + Int32.ofNat 1)) 1440 49 = s.2 := by rw [i_si, if_neg (by omega)]; exact hi
  unfold f_yr
  by_cases hz : tm_n T = 0
  · rw [if_pos hz]
    refine ⟨_, fr_mo fy (fun a k z => Or.inl z), hq1.2.2.1, i1, fun Q => ?_⟩
    have hq := h
    obtain ⟨hM, hT, hS, ⟨hn, hk4⟩, hW1, hW2, hW3⟩ := hq
    unfold sh_M at hM
    unfold MT_ at hT
    unfold MS_ at hS
    simp (disch := first | omega | decide | exact ko_b _ | assumption | (simp only [t_si, t_sl, t_sr, t_sI, t_sR, n_si, n_sl, n_sr, n_sI, n_sR, r_si, r_sl, r_sI]; first | done | omega)) only [x_259_e, x_259_b, x_259_0, x_259_1, x_259_2, x_259_5, x_259_6, x_259_7, x_259_10, x_259_11, x_259_14, x_259_15, x_259_16, x_259_19, bk_v, bk_n, nl_I, nl_R, nl_L, nl_0, oo_lt, oo_le, oo_eq, oo_add, oo_sub, oo_tn, oo_ir, nn_leT, nn_leF, nn_ltT, nn_ltF, nn_eqT, nn_eqF, bv_0, bv_1, ko_b, ko_1, ko_0, true_and, and_true, if_true, if_false, not_true_eq_false, not_false_eq_true, oo_02, decide_eq_true_eq, decide_eq_false_iff_not, ite_not, Nat.reduceAdd, Nat.reduceLT, Nat.reduceSub, Nat.reduceLeDiff, reduceIte, Bool.true_eq_false, Bool.false_eq_true, reduceCtorEq, eq_self, decide_true, decide_false, bv_t, bv_f, and_self, t_si, t_sl, t_sr, t_sI, t_sR, n_si, n_sl, n_sr, n_sI, n_sR, r_si, r_sl, r_sI, hM, hT, hS, i_si, Nat.reduceEqDiff, false_and, and_false, hz]
  · rw [if_neg hz]
    obtain ⟨w1, g1, g2, g3, g4⟩ := m_hap hq1 (d := d) i1 (by omega)
    refine ⟨w1, fr_tr (fr_mo fy (fun a k z => Or.inl z)) g1, g2, g3, fun Q => ?_⟩
    rw [← g4 Q]
    have hq := h
    obtain ⟨hM, hT, hS, ⟨hn, hk4⟩, hW1, hW2, hW3⟩ := hq
    unfold sh_M at hM
    unfold MT_ at hT
    unfold MS_ at hS
    simp (disch := first | omega | decide | exact ko_b _ | assumption | (simp only [t_si, t_sl, t_sr, t_sI, t_sR, n_si, n_sl, n_sr, n_sI, n_sR, r_si, r_sl, r_sI]; first | done | omega)) only [x_259_e, x_259_b, x_259_0, x_259_1, x_259_2, x_259_5, x_259_6, x_259_7, x_259_10, x_259_11, x_259_14, x_259_15, x_259_16, x_259_19, bk_v, bk_n, nl_I, nl_R, nl_L, nl_0, oo_lt, oo_le, oo_eq, oo_add, oo_sub, oo_tn, oo_ir, nn_leT, nn_leF, nn_ltT, nn_ltF, nn_eqT, nn_eqF, bv_0, bv_1, ko_b, ko_1, ko_0, true_and, and_true, if_true, if_false, not_true_eq_false, not_false_eq_true, oo_02, decide_eq_true_eq, decide_eq_false_iff_not, ite_not, Nat.reduceAdd, Nat.reduceLT, Nat.reduceSub, Nat.reduceLeDiff, reduceIte, Bool.true_eq_false, Bool.false_eq_true, reduceCtorEq, eq_self, decide_true, decide_false, bv_t, bv_f, and_self, t_si, t_sl, t_sr, t_sI, t_sR, n_si, n_sl, n_sr, n_sI, n_sR, r_si, r_sl, r_sI, hM, hT, hS, i_si, Nat.reduceEqDiff, false_and, and_false, hz]
theorem dc_sh (T : Tm) (m : Nat) (s : (Xm × Int32) × Nat × Option Nat) : it_ (fun k s => f_dc T (k + 1) s) 0 m s = it_ (f_dc T) 1 m s := by
  have := it_sh (f_dc T) 1 m 0 s
  rw [show it_ (f_dc T) 1 m s = it_ (f_dc T) (1 + 0) m s from rfl, this]
  exact it_c (fun i s _ _ => by rw [Nat.add_comm])
theorem m_dec (h9 : RM_ w S) (hV : WS_ S) {d m : Nat} {sd x : Int32} (hm : m ≤ 40) (hx : Int32.ofNat 0 ≤ x ∧ x ≤ Int32.ofNat 2) : MR_ (d + 8) 258 [v_R (some 1440), v_I sd, v_I (Int32.ofNat m), v_I x] w (v_I (q_dec (sm_T S) (f_dec (sm_T S) (bm_X (sm_B S)) sd m) x)) 0 := by
  refine mr_go (ls := [some (v_R (some 1440)), some (v_I sd), some (v_I (Int32.ofNat m)), some (v_I x), none, none, none]) (fun Q => ?_) (fun w0 hf hc => ?_)
  · have h := h9
    have hq := RM_MQ h hV
    have hMM := hq
    obtain ⟨hM, hT, hS, ⟨hn, hk4⟩, hW1, hW2, hW3⟩ := hMM
    unfold sh_M at hM
    unfold MT_ at hT
    unfold MS_ at hS
    have hB := h.2.2.1.2
    unfold PK_ at hB
    have hR := h.2.2.2
    simp (disch := first | omega | decide | exact ko_b _ | assumption | (simp only [t_si, t_sl, t_sr, t_sI, t_sR, n_si, n_sl, n_sr, n_sI, n_sR, r_si, r_sl, r_sI]; first | done | omega)) only [x_258_e, x_258_b, x_258_0, x_258_1, x_258_2, x_258_6, x_258_7, x_258_8, x_258_11, x_258_14, x_258_17, x_258_18, x_258_19, x_258_22, x_258_23, x_258_24, x_258_25, x_258_26, x_258_29, x_258_32, x_258_35, x_258_36, x_258_37, x_258_40, x_258_41, x_258_42, x_258_43, x_258_46, x_258_47, x_258_50, x_258_51, x_258_52, x_258_55, x_258_56, x_258_58, x_258_59, x_258_61, x_258_62, x_258_66, x_258_67, x_258_70, x_258_71, x_258_74, x_258_75, x_258_78, x_258_81, x_258_84, x_258_87, x_258_89, x_258_90, x_258_93, x_258_95, x_258_96, x_258_97, x_258_100, x_258_102, x_258_104, x_258_107, x_258_110, x_258_111, x_258_114, x_258_117, x_258_118, x_258_121, x_258_122, x_258_123, x_258_126, x_258_128, x_258_129, x_258_130, x_258_133, x_258_134, x_258_137, x_258_138, x_258_141, x_258_143, x_258_146, x_258_147, x_258_148, x_258_151, x_258_153, x_258_156, x_258_158, bk_v, bk_n, nl_I, nl_R, nl_L, nl_0, oo_lt, oo_le, oo_eq, oo_add, oo_sub, oo_tn, oo_ir, nn_leT, nn_leF, nn_ltT, nn_ltF, nn_eqT, nn_eqF, bv_0, bv_1, ko_b, ko_1, ko_0, true_and, and_true, if_true, if_false, not_true_eq_false, not_false_eq_true, oo_02, decide_eq_true_eq, decide_eq_false_iff_not, ite_not, Nat.reduceAdd, Nat.reduceLT, Nat.reduceSub, Nat.reduceLeDiff, reduceIte, Bool.true_eq_false, Bool.false_eq_true, reduceCtorEq, eq_self, decide_true, decide_false, bv_t, bv_f, and_self, t_si, t_sl, t_sr, t_sI, t_sR, n_si, n_sl, n_sr, n_sI, n_sR, r_si, r_sl, r_sI, hM, hT, hS, hB, hR]
  · have h := RM_fr h9 hV hf
    have hX9 := hV.2.2.2.1.1
    have hn10 := hV.1.1
    have hLn := hX9.1
    have hq0 := RM_MQ h hV
    have hM9 := h.1
    unfold sh_M at hM9
    have a60 : w_t w0 1460 = 1 ∧ w_n w0 1460 = 43 := by simp only [hM9, and_self]
    have a35 : w_r w0 1440 35 = some 1460 := by simp only [hM9]
    have a0 : w_t w0 1440 = 25 := hM9.1
    obtain ⟨w1, f1, r1, q1⟩ := m_pack (d := d + 7) h.1 (A := 1460) (f := 0) a60.1 (by omega) (by omega) (by omega)
    clear hM9
    have hq1 := MQ_w hq0 f1
    have fs : Fr_ p_tr w1 (s_i w1 1440 49 sd) := fr_si (fr_rf _ _) (Or.inr ⟨by omega, by unfold pm_; omega⟩)
    have c1 : w_i (s_i w1 1440 49 sd) 1440 3 = Int32.ofNat 0 := by rw [i_si, if_neg (by omega), f1.2.2.2.2.2 _ _ (by omega)]; exact hc
    have tro : ∀ a k, p_tr a k → pm_ a k ∨ p_st a k := fun a k z => z.elim Or.inr (fun y => Or.inl y.2)
    obtain ⟨t, ⟨j1, j2, j3, j4, j5, j6⟩, q2⟩ := lp_ig (fun k (s : (Xm × Int32) × Nat × Option Nat) (t : Wd) Q => wp (d + 8) 258 64 [some (v_R (some 1440)), some (v_I sd), some (v_I (Int32.ofNat m)), some (v_I x), some (v_I (Int32.ofNat s.2.1)), some (v_I (o_i s.2.2)), some (v_I (Int32.ofNat k))] [] t Q) (fun k s t => Fr_ p_tr w1 t ∧ MS_ t (tm_n (sm_T S)) s.1.1 ∧ WX_ (tm_n (sm_T S)) s.1.1 ∧ w_i t 1440 49 = s.1.2 ∧ d_ok s ∧ w_i t 1440 3 = Int32.ofNat 0) (fun k s => f_dc (sm_T S) (k + 1) s) m 0 ((bm_X (sm_B S), sd), 0, none) (s_i w1 1440 49 sd) (fun k s t _ hk hC => by
      obtain ⟨i1, i2, i3, i4, i5, i6⟩ := hC
      have hq2 := MQ_Y hq1 (fr_mo i1 tro) i2 i3
      obtain ⟨t1, g1, g2, g3, g4⟩ := m_year hq2 (d := d + 6) i4
      have hq3 := MQ_Y hq2 (fr_mo g1 (fun a k z => pyr_o z)) g2 (WX_yr i3)
      refine ⟨t1, ⟨fr_tr i1 (fr_mo g1 (fun a k z => z.elim Or.inl (fun y => Or.inr ⟨by omega, by unfold pm_; omega⟩))), g2, WX_dc i3, g3, d_ok1 i5 (by omega), by rw [g1.2.2.2.2.2 _ _ (by unfold pyr_ p_st; omega)]; exact i6⟩, fun Q => ?_⟩
      have u0 : w_t t 1440 = 25 := hq2.1.1
      have u1 : w_t t1 1440 = 25 := hq3.1.1
      have hst := fun Q => m_st hq3 (d := d + 2) (Q := Q)
      unfold f_dc
      rw [x_258_64]
      cases e : f_st (sm_T S) (f_yr (sm_T S) s.1).1 with
      | true =>
        rw [e] at hst
        simp (disch := first | omega | decide | exact ko_b _ | assumption | (simp only [t_si, t_sl, t_sr, t_sI, t_sR, n_si, n_sl, n_sr, n_sI, n_sR, r_si, r_sl, r_sI]; first | done | omega)) only [x_258_e, x_258_b, x_258_66, x_258_67, x_258_70, x_258_71, x_258_74, x_258_75, x_258_78, x_258_81, x_258_84, x_258_87, x_258_89, x_258_90, x_258_93, x_258_95, x_258_96, x_258_97, x_258_100, x_258_102, x_258_104, x_258_107, bk_v, bk_n, nl_I, nl_R, nl_L, nl_0, oo_lt, oo_le, oo_eq, oo_add, oo_sub, oo_tn, oo_ir, nn_leT, nn_leF, nn_ltT, nn_ltF, nn_eqT, nn_eqF, bv_0, bv_1, ko_b, ko_1, ko_0, true_and, and_true, if_true, if_false, not_true_eq_false, not_false_eq_true, oo_02, decide_eq_true_eq, decide_eq_false_iff_not, ite_not, Nat.reduceAdd, Nat.reduceLT, Nat.reduceSub, Nat.reduceLeDiff, reduceIte, Bool.true_eq_false, Bool.false_eq_true, reduceCtorEq, eq_self, decide_true, decide_false, bv_t, bv_f, and_self, t_si, t_sl, t_sr, t_sI, t_sR, n_si, n_sl, n_sr, n_sI, n_sR, r_si, r_sl, r_sI, g4, hst]
      | false =>
        rw [e] at hst
        cases e2 : s.2.2 with
        | none => simp (disch := first | omega | decide | exact ko_b _ | assumption | (simp only [t_si, t_sl, t_sr, t_sI, t_sR, n_si, n_sl, n_sr, n_sI, n_sR, r_si, r_sl, r_sI]; first | done | omega)) only [x_258_e, x_258_b, x_258_66, x_258_67, x_258_70, x_258_71, x_258_74, x_258_75, x_258_78, x_258_81, x_258_84, x_258_87, x_258_89, x_258_90, x_258_93, x_258_95, x_258_96, x_258_97, x_258_100, x_258_102, x_258_104, x_258_107, bk_v, bk_n, nl_I, nl_R, nl_L, nl_0, oo_lt, oo_le, oo_eq, oo_add, oo_sub, oo_tn, oo_ir, nn_leT, nn_leF, nn_ltT, nn_ltF, nn_eqT, nn_eqF, bv_0, bv_1, ko_b, ko_1, ko_0, true_and, and_true, if_true, if_false, not_true_eq_false, not_false_eq_true, oo_02, decide_eq_true_eq, decide_eq_false_iff_not, ite_not, Nat.reduceAdd, Nat.reduceLT, Nat.reduceSub, Nat.reduceLeDiff, reduceIte, Bool.true_eq_false, Bool.false_eq_true, reduceCtorEq, eq_self, decide_true, decide_false, bv_t, bv_f, and_self, t_si, t_sl, t_sr, t_sI, t_sR, n_si, n_sl, n_sr, n_sI, n_sR, r_si, r_sl, r_sI, g4, hst, o_i_n, o_i_s, Option.getD_none]
        | some y =>
          have hy := i5 y e2
          have hne := oi_s1 (by omega : y < 2147483648)
          simp (disch := first | omega | decide | exact ko_b _ | assumption | (simp only [t_si, t_sl, t_sr, t_sI, t_sR, n_si, n_sl, n_sr, n_sI, n_sR, r_si, r_sl, r_sI]; first | done | omega)) only [x_258_e, x_258_b, x_258_66, x_258_67, x_258_70, x_258_71, x_258_74, x_258_75, x_258_78, x_258_81, x_258_84, x_258_87, x_258_89, x_258_90, x_258_93, x_258_95, x_258_96, x_258_97, x_258_100, x_258_102, x_258_104, x_258_107, bk_v, bk_n, nl_I, nl_R, nl_L, nl_0, oo_lt, oo_le, oo_eq, oo_add, oo_sub, oo_tn, oo_ir, nn_leT, nn_leF, nn_ltT, nn_ltF, nn_eqT, nn_eqF, bv_0, bv_1, ko_b, ko_1, ko_0, true_and, and_true, if_true, if_false, not_true_eq_false, not_false_eq_true, oo_02, decide_eq_true_eq, decide_eq_false_iff_not, ite_not, Nat.reduceAdd, Nat.reduceLT, Nat.reduceSub, Nat.reduceLeDiff, reduceIte, Bool.true_eq_false, Bool.false_eq_true, reduceCtorEq, eq_self, decide_true, decide_false, bv_t, bv_f, and_self, t_si, t_sl, t_sr, t_sI, t_sR, n_si, n_sl, n_sr, n_sI, n_sR, r_si, r_sl, r_sI, g4, hst, o_i_s, hne, Option.getD_some]) ⟨fs, MS_49 hq1.2.2.1, hX9, by rw [i_si, if_pos ⟨rfl, rfl⟩], fun y hy => (by cases hy), c1⟩
    rw [dc_sh] at j2 j3 j4 j5 q2
    have hq2 := MQ_Y hq1 (fr_mo j1 tro) j2 j3
    have u60 : w_t t 1460 = 1 ∧ w_n t 1460 = 43 := ⟨by rw [j1.1, f1.1]; exact a60.1, by rw [j1.2.1, f1.2.1]; exact a60.2⟩
    have u35 : w_r t 1440 35 = some 1460 := by rw [j1.2.2.1, f1.2.2.1]; exact a35
    obtain ⟨w3, f3, r3, q3⟩ := m_unpack (d := d + 7) hq2.1 (A := 1460) (f := 0) u60.1 (by omega) (by omega) (by omega)
    refine ⟨w3, m_back f1 r1 j1 f3 r3, ?_, fun Q => ?_⟩
    · rw [f3.2.2.2.2.2 _ _ (by unfold p_st; omega)]; exact j6
    · have u0 : w_t t 1440 = 25 := hq2.1.1
      have t1 : w_t w1 1440 = 25 := hq1.1.1
      have t3 : w_t w3 1440 = 25 := by rw [f3.1]; exact u0
      have u28 : w_i t 1440 28 = Int32.ofNat (xm_L (it_ (f_dc (sm_T S)) 1 m ((bm_X (sm_B S), sd), 0, none)).1.1) := j2.1
      have fin : wp (d + 8) 258 64 [some (v_R (some 1440)), some (v_I sd), some (v_I (Int32.ofNat m)), some (v_I x), some (v_I (Int32.ofNat (it_ (f_dc (sm_T S)) 1 m ((bm_X (sm_B S), sd), 0, none)).2.1)), some (v_I (o_i (it_ (f_dc (sm_T S)) 1 m ((bm_X (sm_B S), sd), 0, none)).2.2)), some (v_I (Int32.ofNat (0 + m)))] [] t Q = Q (Sum.inl (some (v_I (q_dec (sm_T S) (f_dec (sm_T S) (bm_X (sm_B S)) sd m) x)))) w3 := by
        unfold q_dec f_dec
        generalize it_ (f_dc (sm_T S)) 1 m ((bm_X (sm_B S), sd), 0, none) = s at *
        have hLs := j3.1
        rw [x_258_64]
        by_cases z2 : xm_L s.1.1 = 0
        · by_cases z0 : x = Int32.ofNat 0
          · simp (disch := first | omega | decide | exact ko_b _ | assumption | (simp only [t_si, t_sl, t_sr, t_sI, t_sR, n_si, n_sl, n_sr, n_sI, n_sR, r_si, r_sl, r_sI]; first | done | omega)) only [x_258_e, x_258_b, x_258_66, x_258_67, x_258_e, x_258_b, x_258_110, x_258_111, x_258_114, x_258_117, x_258_118, x_258_121, x_258_122, x_258_123, x_258_126, x_258_128, x_258_129, x_258_130, x_258_133, x_258_134, x_258_137, x_258_138, x_258_141, x_258_143, x_258_146, x_258_147, x_258_148, x_258_151, x_258_153, x_258_156, x_258_158, bk_v, bk_n, nl_I, nl_R, nl_L, nl_0, oo_lt, oo_le, oo_eq, oo_add, oo_sub, oo_tn, oo_ir, nn_leT, nn_leF, nn_ltT, nn_ltF, nn_eqT, nn_eqF, bv_0, bv_1, ko_b, ko_1, ko_0, true_and, and_true, if_true, if_false, not_true_eq_false, not_false_eq_true, oo_02, decide_eq_true_eq, decide_eq_false_iff_not, ite_not, Nat.reduceAdd, Nat.reduceLT, Nat.reduceSub, Nat.reduceLeDiff, reduceIte, Bool.true_eq_false, Bool.false_eq_true, reduceCtorEq, eq_self, decide_true, decide_false, bv_t, bv_f, and_self, t_si, t_sl, t_sr, t_sI, t_sR, n_si, n_sl, n_sr, n_sI, n_sR, r_si, r_sl, r_sI, u28, z2, u35, q3, z0]
          · by_cases z1 : x = Int32.ofNat 1
            · simp (disch := first | omega | decide | exact ko_b _ | assumption | (simp only [t_si, t_sl, t_sr, t_sI, t_sR, n_si, n_sl, n_sr, n_sI, n_sR, r_si, r_sl, r_sI]; first | done | omega)) only [x_258_e, x_258_b, x_258_66, x_258_67, x_258_e, x_258_b, x_258_110, x_258_111, x_258_114, x_258_117, x_258_118, x_258_121, x_258_122, x_258_123, x_258_126, x_258_128, x_258_129, x_258_130, x_258_133, x_258_134, x_258_137, x_258_138, x_258_141, x_258_143, x_258_146, x_258_147, x_258_148, x_258_151, x_258_153, x_258_156, x_258_158, bk_v, bk_n, nl_I, nl_R, nl_L, nl_0, oo_lt, oo_le, oo_eq, oo_add, oo_sub, oo_tn, oo_ir, nn_leT, nn_leF, nn_ltT, nn_ltF, nn_eqT, nn_eqF, bv_0, bv_1, ko_b, ko_1, ko_0, true_and, and_true, if_true, if_false, not_true_eq_false, not_false_eq_true, oo_02, decide_eq_true_eq, decide_eq_false_iff_not, ite_not, Nat.reduceAdd, Nat.reduceLT, Nat.reduceSub, Nat.reduceLeDiff, reduceIte, Bool.true_eq_false, Bool.false_eq_true, reduceCtorEq, eq_self, decide_true, decide_false, bv_t, bv_f, and_self, t_si, t_sl, t_sr, t_sI, t_sR, n_si, n_sl, n_sr, n_sI, n_sR, r_si, r_sl, r_sI, u28, z2, u35, q3, z0, z1]
            · simp (disch := first | omega | decide | exact ko_b _ | assumption | (simp only [t_si, t_sl, t_sr, t_sI, t_sR, n_si, n_sl, n_sr, n_sI, n_sR, r_si, r_sl, r_sI]; first | done | omega)) only [x_258_e, x_258_b, x_258_66, x_258_67, x_258_e, x_258_b, x_258_110, x_258_111, x_258_114, x_258_117, x_258_118, x_258_121, x_258_122, x_258_123, x_258_126, x_258_128, x_258_129, x_258_130, x_258_133, x_258_134, x_258_137, x_258_138, x_258_141, x_258_143, x_258_146, x_258_147, x_258_148, x_258_151, x_258_153, x_258_156, x_258_158, bk_v, bk_n, nl_I, nl_R, nl_L, nl_0, oo_lt, oo_le, oo_eq, oo_add, oo_sub, oo_tn, oo_ir, nn_leT, nn_leF, nn_ltT, nn_ltF, nn_eqT, nn_eqF, bv_0, bv_1, ko_b, ko_1, ko_0, true_and, and_true, if_true, if_false, not_true_eq_false, not_false_eq_true, oo_02, decide_eq_true_eq, decide_eq_false_iff_not, ite_not, Nat.reduceAdd, Nat.reduceLT, Nat.reduceSub, Nat.reduceLeDiff, reduceIte, Bool.true_eq_false, Bool.false_eq_true, reduceCtorEq, eq_self, decide_true, decide_false, bv_t, bv_f, and_self, t_si, t_sl, t_sr, t_sI, t_sR, n_si, n_sl, n_sr, n_sI, n_sR, r_si, r_sl, r_sI, u28, z2, u35, q3, z0, z1]
        · have hld := fun d Q => m_load hq2 (d := d) (l := 0) (Q := Q) (by omega)
          by_cases z0 : x = Int32.ofNat 0
          · simp (disch := first | omega | decide | exact ko_b _ | assumption | (simp only [t_si, t_sl, t_sr, t_sI, t_sR, n_si, n_sl, n_sr, n_sI, n_sR, r_si, r_sl, r_sI]; first | done | omega)) only [x_258_e, x_258_b, x_258_66, x_258_67, x_258_e, x_258_b, x_258_110, x_258_111, x_258_114, x_258_117, x_258_118, x_258_121, x_258_122, x_258_123, x_258_126, x_258_128, x_258_129, x_258_130, x_258_133, x_258_134, x_258_137, x_258_138, x_258_141, x_258_143, x_258_146, x_258_147, x_258_148, x_258_151, x_258_153, x_258_156, x_258_158, bk_v, bk_n, nl_I, nl_R, nl_L, nl_0, oo_lt, oo_le, oo_eq, oo_add, oo_sub, oo_tn, oo_ir, nn_leT, nn_leF, nn_ltT, nn_ltF, nn_eqT, nn_eqF, bv_0, bv_1, ko_b, ko_1, ko_0, true_and, and_true, if_true, if_false, not_true_eq_false, not_false_eq_true, oo_02, decide_eq_true_eq, decide_eq_false_iff_not, ite_not, Nat.reduceAdd, Nat.reduceLT, Nat.reduceSub, Nat.reduceLeDiff, reduceIte, Bool.true_eq_false, Bool.false_eq_true, reduceCtorEq, eq_self, decide_true, decide_false, bv_t, bv_f, and_self, t_si, t_sl, t_sr, t_sI, t_sR, n_si, n_sl, n_sr, n_sI, n_sR, r_si, r_sl, r_sI, u28, z2, hld, u35, q3, z0]
          · by_cases z1 : x = Int32.ofNat 1
            · simp (disch := first | omega | decide | exact ko_b _ | assumption | (simp only [t_si, t_sl, t_sr, t_sI, t_sR, n_si, n_sl, n_sr, n_sI, n_sR, r_si, r_sl, r_sI]; first | done | omega)) only [x_258_e, x_258_b, x_258_66, x_258_67, x_258_e, x_258_b, x_258_110, x_258_111, x_258_114, x_258_117, x_258_118, x_258_121, x_258_122, x_258_123, x_258_126, x_258_128, x_258_129, x_258_130, x_258_133, x_258_134, x_258_137, x_258_138, x_258_141, x_258_143, x_258_146, x_258_147, x_258_148, x_258_151, x_258_153, x_258_156, x_258_158, bk_v, bk_n, nl_I, nl_R, nl_L, nl_0, oo_lt, oo_le, oo_eq, oo_add, oo_sub, oo_tn, oo_ir, nn_leT, nn_leF, nn_ltT, nn_ltF, nn_eqT, nn_eqF, bv_0, bv_1, ko_b, ko_1, ko_0, true_and, and_true, if_true, if_false, not_true_eq_false, not_false_eq_true, oo_02, decide_eq_true_eq, decide_eq_false_iff_not, ite_not, Nat.reduceAdd, Nat.reduceLT, Nat.reduceSub, Nat.reduceLeDiff, reduceIte, Bool.true_eq_false, Bool.false_eq_true, reduceCtorEq, eq_self, decide_true, decide_false, bv_t, bv_f, and_self, t_si, t_sl, t_sr, t_sI, t_sR, n_si, n_sl, n_sr, n_sI, n_sR, r_si, r_sl, r_sI, u28, z2, hld, u35, q3, z0, z1]
            · simp (disch := first | omega | decide | exact ko_b _ | assumption | (simp only [t_si, t_sl, t_sr, t_sI, t_sR, n_si, n_sl, n_sr, n_sI, n_sR, r_si, r_sl, r_sI]; first | done | omega)) only [x_258_e, x_258_b, x_258_66, x_258_67, x_258_e, x_258_b, x_258_110, x_258_111, x_258_114, x_258_117, x_258_118, x_258_121, x_258_122, x_258_123, x_258_126, x_258_128, x_258_129, x_258_130, x_258_133, x_258_134, x_258_137, x_258_138, x_258_141, x_258_143, x_258_146, x_258_147, x_258_148, x_258_151, x_258_153, x_258_156, x_258_158, bk_v, bk_n, nl_I, nl_R, nl_L, nl_0, oo_lt, oo_le, oo_eq, oo_add, oo_sub, oo_tn, oo_ir, nn_leT, nn_leF, nn_ltT, nn_ltF, nn_eqT, nn_eqF, bv_0, bv_1, ko_b, ko_1, ko_0, true_and, and_true, if_true, if_false, not_true_eq_false, not_false_eq_true, oo_02, decide_eq_true_eq, decide_eq_false_iff_not, ite_not, Nat.reduceAdd, Nat.reduceLT, Nat.reduceSub, Nat.reduceLeDiff, reduceIte, Bool.true_eq_false, Bool.false_eq_true, reduceCtorEq, eq_self, decide_true, decide_false, bv_t, bv_f, and_self, t_si, t_sl, t_sr, t_sI, t_sR, n_si, n_sl, n_sr, n_sI, n_sR, r_si, r_sl, r_sI, u28, z2, hld, u35, q3, z0, z1]
      refine Eq.trans ?_ ((q2 Q).trans fin)
      have hm2 : Int32.ofNat 0 ≤ Int32.ofNat m ∧ Int32.ofNat m ≤ Int32.ofNat 40 := by
        rw [oo_le (by omega) (by omega), oo_le (by omega) (by omega)]; omega
      simp (disch := first | omega | decide | exact ko_b _ | assumption | (simp only [t_si, t_sl, t_sr, t_sI, t_sR, n_si, n_sl, n_sr, n_sI, n_sR, r_si, r_sl, r_sI]; first | done | omega)) only [x_258_e, x_258_b, x_258_5, x_258_6, x_258_7, x_258_8, x_258_11, x_258_14, x_258_17, x_258_18, x_258_19, x_258_22, x_258_23, x_258_24, x_258_25, x_258_26, x_258_29, x_258_32, x_258_35, x_258_36, x_258_37, x_258_40, x_258_41, x_258_42, x_258_43, x_258_46, x_258_47, x_258_50, x_258_51, x_258_52, x_258_55, x_258_56, x_258_58, x_258_59, x_258_61, x_258_62, bk_v, bk_n, nl_I, nl_R, nl_L, nl_0, oo_lt, oo_le, oo_eq, oo_add, oo_sub, oo_tn, oo_ir, nn_leT, nn_leF, nn_ltT, nn_ltF, nn_eqT, nn_eqF, bv_0, bv_1, ko_b, ko_1, ko_0, true_and, and_true, if_true, if_false, not_true_eq_false, not_false_eq_true, oo_02, decide_eq_true_eq, decide_eq_false_iff_not, ite_not, Nat.reduceAdd, Nat.reduceLT, Nat.reduceSub, Nat.reduceLeDiff, reduceIte, Bool.true_eq_false, Bool.false_eq_true, reduceCtorEq, eq_self, decide_true, decide_false, bv_t, bv_f, and_self, t_si, t_sl, t_sr, t_sI, t_sR, n_si, n_sl, n_sr, n_sI, n_sR, r_si, r_sl, r_sI, m_in, ll_o, ll_le, hx, hm2, a35, q1, o_i_n]
theorem m_dec_1 (h9 : RM_ w S) (hV : WS_ S) {d : Nat} {sd m x : Int32} (hx : ¬ (Int32.ofNat 0 ≤ x ∧ x ≤ Int32.ofNat 2)) : MR_ (d + 8) 258 [v_R (some 1440), v_I sd, v_I m, v_I x] w (v_I (Int32.ofNat 0)) 1 := by
  refine mr_go (ls := [some (v_R (some 1440)), some (v_I sd), some (v_I m), some (v_I x), none, none, none]) (fun Q => ?_) (fun w0 hf hc => mr_f (fun Q => ?_))
  · have h := h9
    have hq := RM_MQ h hV
    have hMM := hq
    obtain ⟨hM, hT, hS, ⟨hn, hk4⟩, hW1, hW2, hW3⟩ := hMM
    unfold sh_M at hM
    unfold MT_ at hT
    unfold MS_ at hS
    have hB := h.2.2.1.2
    unfold PK_ at hB
    have hR := h.2.2.2
    simp (disch := first | omega | decide | exact ko_b _ | assumption | (simp only [t_si, t_sl, t_sr, t_sI, t_sR, n_si, n_sl, n_sr, n_sI, n_sR, r_si, r_sl, r_sI]; first | done | omega)) only [x_258_e, x_258_b, x_258_0, x_258_1, x_258_2, x_258_6, x_258_7, x_258_8, x_258_11, x_258_14, x_258_17, x_258_18, x_258_19, x_258_22, x_258_23, x_258_24, x_258_25, x_258_26, x_258_29, x_258_32, x_258_35, x_258_36, x_258_37, x_258_40, x_258_41, x_258_42, x_258_43, x_258_46, x_258_47, x_258_50, x_258_51, x_258_52, x_258_55, x_258_56, x_258_58, x_258_59, x_258_61, x_258_62, x_258_66, x_258_67, x_258_70, x_258_71, x_258_74, x_258_75, x_258_78, x_258_81, x_258_84, x_258_87, x_258_89, x_258_90, x_258_93, x_258_95, x_258_96, x_258_97, x_258_100, x_258_102, x_258_104, x_258_107, x_258_110, x_258_111, x_258_114, x_258_117, x_258_118, x_258_121, x_258_122, x_258_123, x_258_126, x_258_128, x_258_129, x_258_130, x_258_133, x_258_134, x_258_137, x_258_138, x_258_141, x_258_143, x_258_146, x_258_147, x_258_148, x_258_151, x_258_153, x_258_156, x_258_158, bk_v, bk_n, nl_I, nl_R, nl_L, nl_0, oo_lt, oo_le, oo_eq, oo_add, oo_sub, oo_tn, oo_ir, nn_leT, nn_leF, nn_ltT, nn_ltF, nn_eqT, nn_eqF, bv_0, bv_1, ko_b, ko_1, ko_0, true_and, and_true, if_true, if_false, not_true_eq_false, not_false_eq_true, oo_02, decide_eq_true_eq, decide_eq_false_iff_not, ite_not, Nat.reduceAdd, Nat.reduceLT, Nat.reduceSub, Nat.reduceLeDiff, reduceIte, Bool.true_eq_false, Bool.false_eq_true, reduceCtorEq, eq_self, decide_true, decide_false, bv_t, bv_f, and_self, t_si, t_sl, t_sr, t_sI, t_sR, n_si, n_sl, n_sr, n_sI, n_sR, r_si, r_sl, r_sI, hM, hT, hS, hB, hR]
  · have h := RM_fr h9 hV hf
    have hM0 := h.1.1
    simp (disch := first | omega | decide | exact ko_b _ | assumption | (simp only [t_si, t_sl, t_sr, t_sI, t_sR, n_si, n_sl, n_sr, n_sI, n_sR, r_si, r_sl, r_sI]; first | done | omega)) only [x_258_e, x_258_b, x_258_5, x_258_6, x_258_7, x_258_8, x_258_11, x_258_14, x_258_17, x_258_18, x_258_19, x_258_22, bk_v, bk_n, nl_I, nl_R, nl_L, nl_0, oo_lt, oo_le, oo_eq, oo_add, oo_sub, oo_tn, oo_ir, nn_leT, nn_leF, nn_ltT, nn_ltF, nn_eqT, nn_eqF, bv_0, bv_1, ko_b, ko_1, ko_0, true_and, and_true, if_true, if_false, not_true_eq_false, not_false_eq_true, oo_02, decide_eq_true_eq, decide_eq_false_iff_not, ite_not, Nat.reduceAdd, Nat.reduceLT, Nat.reduceSub, Nat.reduceLeDiff, reduceIte, Bool.true_eq_false, Bool.false_eq_true, reduceCtorEq, eq_self, decide_true, decide_false, bv_t, bv_f, and_self, t_si, t_sl, t_sr, t_sI, t_sR, n_si, n_sl, n_sr, n_sI, n_sR, r_si, r_sl, r_sI, m_in, ll_o, ll_le, hx, m_fail hM0]
theorem m_dec_2 (h9 : RM_ w S) (hV : WS_ S) {d : Nat} {sd m x : Int32} (hx : Int32.ofNat 0 ≤ x ∧ x ≤ Int32.ofNat 2) (hm : ¬ (Int32.ofNat 0 ≤ m ∧ m ≤ Int32.ofNat 40)) : MR_ (d + 8) 258 [v_R (some 1440), v_I sd, v_I m, v_I x] w (v_I (Int32.ofNat 0)) 2 := by
  refine mr_go (ls := [some (v_R (some 1440)), some (v_I sd), some (v_I m), some (v_I x), none, none, none]) (fun Q => ?_) (fun w0 hf hc => mr_f (fun Q => ?_))
  · have h := h9
    have hq := RM_MQ h hV
    have hMM := hq
    obtain ⟨hM, hT, hS, ⟨hn, hk4⟩, hW1, hW2, hW3⟩ := hMM
    unfold sh_M at hM
    unfold MT_ at hT
    unfold MS_ at hS
    have hB := h.2.2.1.2
    unfold PK_ at hB
    have hR := h.2.2.2
    simp (disch := first | omega | decide | exact ko_b _ | assumption | (simp only [t_si, t_sl, t_sr, t_sI, t_sR, n_si, n_sl, n_sr, n_sI, n_sR, r_si, r_sl, r_sI]; first | done | omega)) only [x_258_e, x_258_b, x_258_0, x_258_1, x_258_2, x_258_6, x_258_7, x_258_8, x_258_11, x_258_14, x_258_17, x_258_18, x_258_19, x_258_22, x_258_23, x_258_24, x_258_25, x_258_26, x_258_29, x_258_32, x_258_35, x_258_36, x_258_37, x_258_40, x_258_41, x_258_42, x_258_43, x_258_46, x_258_47, x_258_50, x_258_51, x_258_52, x_258_55, x_258_56, x_258_58, x_258_59, x_258_61, x_258_62, x_258_66, x_258_67, x_258_70, x_258_71, x_258_74, x_258_75, x_258_78, x_258_81, x_258_84, x_258_87, x_258_89, x_258_90, x_258_93, x_258_95, x_258_96, x_258_97, x_258_100, x_258_102, x_258_104, x_258_107, x_258_110, x_258_111, x_258_114, x_258_117, x_258_118, x_258_121, x_258_122, x_258_123, x_258_126, x_258_128, x_258_129, x_258_130, x_258_133, x_258_134, x_258_137, x_258_138, x_258_141, x_258_143, x_258_146, x_258_147, x_258_148, x_258_151, x_258_153, x_258_156, x_258_158, bk_v, bk_n, nl_I, nl_R, nl_L, nl_0, oo_lt, oo_le, oo_eq, oo_add, oo_sub, oo_tn, oo_ir, nn_leT, nn_leF, nn_ltT, nn_ltF, nn_eqT, nn_eqF, bv_0, bv_1, ko_b, ko_1, ko_0, true_and, and_true, if_true, if_false, not_true_eq_false, not_false_eq_true, oo_02, decide_eq_true_eq, decide_eq_false_iff_not, ite_not, Nat.reduceAdd, Nat.reduceLT, Nat.reduceSub, Nat.reduceLeDiff, reduceIte, Bool.true_eq_false, Bool.false_eq_true, reduceCtorEq, eq_self, decide_true, decide_false, bv_t, bv_f, and_self, t_si, t_sl, t_sr, t_sI, t_sR, n_si, n_sl, n_sr, n_sI, n_sR, r_si, r_sl, r_sI, hM, hT, hS, hB, hR]
  · have h := RM_fr h9 hV hf
    have hM0 := h.1.1
    simp (disch := first | omega | decide | exact ko_b _ | assumption | (simp only [t_si, t_sl, t_sr, t_sI, t_sR, n_si, n_sl, n_sr, n_sI, n_sR, r_si, r_sl, r_sI]; first | done | omega)) only [x_258_e, x_258_b, x_258_5, x_258_6, x_258_7, x_258_8, x_258_11, x_258_14, x_258_17, x_258_18, x_258_19, x_258_22, x_258_23, x_258_24, x_258_25, x_258_26, x_258_29, x_258_32, x_258_35, x_258_36, x_258_37, x_258_40, bk_v, bk_n, nl_I, nl_R, nl_L, nl_0, oo_lt, oo_le, oo_eq, oo_add, oo_sub, oo_tn, oo_ir, nn_leT, nn_leF, nn_ltT, nn_ltF, nn_eqT, nn_eqF, bv_0, bv_1, ko_b, ko_1, ko_0, true_and, and_true, if_true, if_false, not_true_eq_false, not_false_eq_true, oo_02, decide_eq_true_eq, decide_eq_false_iff_not, ite_not, Nat.reduceAdd, Nat.reduceLT, Nat.reduceSub, Nat.reduceLeDiff, reduceIte, Bool.true_eq_false, Bool.false_eq_true, reduceCtorEq, eq_self, decide_true, decide_false, bv_t, bv_f, and_self, t_si, t_sl, t_sr, t_sI, t_sR, n_si, n_sl, n_sr, n_sI, n_sR, r_si, r_sl, r_sI, m_in, ll_o, ll_le, hx, hm, m_fail hM0]
end
