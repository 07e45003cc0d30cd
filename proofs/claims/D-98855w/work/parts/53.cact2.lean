/-! ACTS: the component's half, keeps, puts, takes -/
set_option maxRecDepth 100000
def CA_ (d t : Nat) (as : S_) (w : Wd) (r : Vl) (G : Gm) (S1 : Sm) : Prop := ∃ w1 σ1, Fb_ w w1 ∧ RC_ w1 G σ1 S1 ∧ ∀ Q, cl d t as w Q = Q (Sum.inl (some r)) w1
section
variable {w : Wd} {S : Sm} {G : Gm} {σ : Nat → Nat}
theorem SO_fb {w1 : Wd} {a : Nat} (h : SO_ w a) (hf : Fb_ w w1) (ha : a + 4 < 1014 ∨ 1014 < a) : SO_ w1 a := SO_ag h (fun b b1 b2 => ⟨by rw [hf.1], by rw [hf.2.1], fun k => hf.2.2.1 b k (by omega)⟩)
theorem c_keep2 {d a0 : Nat} {v : Nat} (h1 : w_t w 1007 = 23) (h2 : w_r w 1007 1 = some 1013) (h0 : w_r w 1007 0 = some 1008) (h3 : w_t w 1013 = 36) (h4 : w_r w 1013 1 = some 1014) (h5 : w_t w 1014 = 5) (h6 : w_n w 1014 = 40) (h7 : w_i w 1013 2 = Int32.ofNat 40) (h8 : w_r w 1014 a0 = some v) (hv : 1018 ≤ v) (h9 : SO_ w v) (h11 : SO_ w 1008) (ha : a0 < 40) (h10 : w_i w 1007 5 = Int32.ofNat a0) : ∃ w1, Fr_ (fun x _ => v ≤ x ∧ x ≤ v + 4) w w1 ∧ (∀ i, i ≤ 4 → 1 ≤ i → ∀ k, k < 10 → w_i w1 (v + i) k = w_i w (1008 + i) k) ∧ (∀ k, 4 ≤ k → k ≤ 6 → w_i w1 v k = w_i w 1008 k) ∧ ∀ Q, wp (d + 5) 131 38 [some (v_R (some 1007))] [] w Q = Q (Sum.inl none) (s_i w1 1007 5 (Int32.ofNat (a0 + 1))) := by
  obtain ⟨w1, f1, g1, g2, q1⟩ := c_like (d := d + 4) h9 h11 (by omega)
  refine ⟨w1, f1, g1, g2, fun Q => ?_⟩
  have t24 := h9.1
  have hg := fun d Q => j_get (d := d) (Q := Q) (k := a0) h3 h7 ha (by omega) h4 h5 (by omega) (by omega)
  have e5 : w_i w1 1007 5 = Int32.ofNat a0 := by rw [f1.2.2.2.2.2 _ _ (by omega)]; exact h10
  have t1 : w_t w1 1007 = 23 := by rw [f1.1]; exact h1
  simp (disch := first | omega | decide | exact ko_b _ | assumption | (simp only [t_si, t_sl, t_sr, t_sI, t_sR, n_si, n_sl, n_sr, n_sI, n_sR, r_si, r_sl, r_sI]; first | done | omega)) only [x_131_e, x_131_b, x_131_38, x_131_39, x_131_42, x_131_43, x_131_46, x_131_49, x_131_52, x_131_53, x_131_56, x_131_59, x_131_60, x_131_61, x_131_64, x_131_65, x_131_66, x_131_69, bk_v, bk_n, nl_I, nl_R, nl_L, nl_0, oo_lt, oo_le, oo_eq, oo_add, oo_sub, oo_tn, oo_ir, nn_leT, nn_leF, nn_ltT, nn_ltF, nn_eqT, nn_eqF, bv_0, bv_1, ko_b, ko_1, ko_0, true_and, and_true, if_true, if_false, not_true_eq_false, not_false_eq_true, oo_02, decide_eq_true_eq, decide_eq_false_iff_not, ite_not, Nat.reduceAdd, Nat.reduceLT, Nat.reduceSub, Nat.reduceLeDiff, reduceIte, Bool.true_eq_false, Bool.false_eq_true, reduceCtorEq, eq_self, decide_true, decide_false, bv_t, bv_f, and_self, t_si, t_sl, t_sr, t_sI, t_sR, n_si, n_sl, n_sr, n_sI, n_sR, r_si, r_sl, r_sI, h0, h2, h10, hg, h8, q1, e5]
theorem c_keeps (h : RC_ w G σ S) (hV : WS_ S) {d : Nat} : ∃ w1 σ1, Fb_ w w1 ∧ RC_ w1 G σ1 (s_set S (b_keep (sm_B S))) ∧ ∀ Q, cl (d + 5) 131 [v_R (some 1007)] w Q = Q (Sum.inl none) w1 := by
  have hK : sh_B w 1007 := h.2.1.1
  have hKK : sh_K w 1007 := h.2.1.2.1
  have hL : CL_ w 1007 σ := h.2.2.2.2.2.2.1
  have hB : CB_ w 1007 σ (tm_n (sm_T S)) (sm_B S) := h.2.2.2.2.2.2.2.1
  unfold sh_B at hK
  simp only [Nat.reduceAdd] at hK
  obtain ⟨k1, k2, k3, -, -, -, k7, k8, k9, k10, -⟩ := hK
  obtain ⟨l1, l2, l3, l4⟩ := hL
  simp only [Nat.reduceAdd] at l1 l2
  have ha40 := hV.2.2.2.1.2.2.1
  have ha0 := b_a0_le ha40
  have hn10 := hV.1.1
  have A : ∃ wA σA, Fb_ w wA ∧ CL_ wA 1007 σA ∧ w_i wA 1007 5 = Int32.ofNat (b_a0 (sm_B S)) ∧ (∀ a k, a ≠ 1013 → (a ≠ 1007 ∨ k ≠ 5) → w_i wA a k = w_i w a k) ∧ (∀ k, k < b_a0 (sm_B S) → CS_ w (1018 + 5 * σA k) (tm_n (sm_T S)) (b_h0 (sm_B S) k)) ∧ ∀ Q, cl (d + 5) 131 [v_R (some 1007)] w Q = wp (d + 5) 131 38 [some (v_R (some 1007))] [] wA Q := by
    by_cases e40 : bm_a (sm_B S) = 40
    · refine ⟨_, s_rot σ, ?_, ?_, ?_, ?_, ?_, fun Q => j_rot (σ := σ) (v := none) k1 k3 k7 k8 k9 k10 l1 l2 (fun k hk => (hKK.2 _ (l3 k hk)).1) (by rw [← e40]; exact hB.2.1)⟩
      · refine ⟨rfl, rfl, fun a k z => ?_, rfl, rfl, fun a k z => ?_⟩
        · simp (disch := omega) only [r_si, r_sr, r_sR, z, false_and, if_false]
        · simp (disch := omega) only [i_si, i_sr, i_sR, nn_eqF, false_and, if_false]
      · refine ⟨?_, fun k hk => ?_, fun k hk => ?_, fun i j hi hj e => ?_⟩
        · simp only [i_si, i_sr, i_sR, Nat.reduceAdd, Nat.reduceEqDiff, false_and, and_false, and_self, if_false, if_true]
        · show _ = some (1007 + 11 + 5 * (if k < 39 then σ (k + 1) else σ 0))
          simp only [r_si, r_sr, r_sR, Nat.reduceAdd, true_and, if_true]
          by_cases c : k = 39
          · subst c; rfl
          · rw [if_neg c, if_neg c, if_pos (by omega)]
            unfold va_cpy
            rw [if_pos (by omega), l2 _ (by omega), Nat.sub_zero, Nat.add_comm 1 k]
        · show (if k < 39 then σ (k + 1) else σ 0) < 40
          by_cases c : k < 39
          · rw [if_pos c]; exact l3 _ (by omega)
          · rw [if_neg c]; exact l3 _ (by omega)
        · have e : (if i < 39 then σ (i + 1) else σ 0) = (if j < 39 then σ (j + 1) else σ 0) := e
          by_cases c : i < 39 <;> by_cases c2 : j < 39
          · rw [if_pos c, if_pos c2] at e; have := l4 _ _ (by omega) (by omega) e; omega
          · rw [if_pos c, if_neg c2] at e; have := l4 _ _ (by omega) (by omega) e; omega
          · rw [if_neg c, if_pos c2] at e; have := l4 _ _ (by omega) (by omega) e; omega
          · omega
      · unfold b_a0
        rw [if_pos e40, i_si, if_pos ⟨rfl, rfl⟩]
      · intro a k z y
        simp (disch := omega) only [i_si, i_sr, i_sR]
        rw [if_neg (by omega), if_neg (by omega), if_neg (by omega), if_neg (by omega), if_neg (by omega)]
      · intro k hk
        unfold b_a0 at hk
        unfold b_h0
        rw [if_pos e40] at hk ⊢
        have := hB.2.2.1 (k + 1) (by omega)
        show CS_ w (1018 + 5 * (if k < 39 then σ (k + 1) else σ 0)) _ _
        rw [if_pos hk]
        exact this
    · unfold b_a0 b_h0
      simp only [e40, if_false]
      refine ⟨w, σ, ⟨rfl, rfl, fun _ _ _ => rfl, rfl, rfl, fun _ _ _ => rfl⟩, ⟨l1, l2, l3, l4⟩, hB.2.1, fun _ _ _ _ => rfl, hB.2.2.1, fun Q => ?_⟩
      have h5 := hB.2.1
      simp (disch := first | omega | decide | exact ko_b _ | assumption | (simp only [t_si, t_sl, t_sr, t_sI, t_sR, n_si, n_sl, n_sr, n_sI, n_sR, r_si, r_sl, r_sI]; first | done | omega)) only [x_131_e, x_131_b, x_131_0, x_131_1, x_131_4, x_131_6, x_131_9, x_131_10, x_131_13, x_131_14, x_131_17, x_131_18, x_131_21, x_131_24, x_131_27, x_131_28, x_131_29, x_131_30, x_131_33, x_131_34, x_131_35, bk_v, bk_n, nl_I, nl_R, nl_L, nl_0, oo_lt, oo_le, oo_eq, oo_add, oo_sub, oo_tn, oo_ir, nn_leT, nn_leF, nn_ltT, nn_ltF, nn_eqT, nn_eqF, bv_0, bv_1, ko_b, ko_1, ko_0, true_and, and_true, if_true, if_false, not_true_eq_false, not_false_eq_true, oo_02, decide_eq_true_eq, decide_eq_false_iff_not, ite_not, Nat.reduceAdd, Nat.reduceLT, Nat.reduceSub, Nat.reduceLeDiff, reduceIte, Bool.true_eq_false, Bool.false_eq_true, reduceCtorEq, eq_self, decide_true, decide_false, bv_t, bv_f, and_self, t_si, t_sl, t_sr, t_sI, t_sR, n_si, n_sl, n_sr, n_sI, n_sR, r_si, r_sl, r_sI, h5]
  obtain ⟨wA, σA, fA, LA, a5, gA, cA, qA⟩ := A
  obtain ⟨m1, m2, m3, m4⟩ := LA
  obtain ⟨w1, f1, g1, g2, q1⟩ := c_keep2 (w := wA) (d := d) (a0 := b_a0 (sm_B S)) (v := 1018 + 5 * σA (b_a0 (sm_B S))) (by rw [fA.1]; exact k1) (by rw [fA.2.2.1 _ _ (by omega)]; exact k3) (by rw [fA.2.2.1 _ _ (by omega)]; exact k2) (by rw [fA.1]; exact k7) (by rw [fA.2.2.1 _ _ (by omega)]; exact k8) (by rw [fA.1]; exact k9) (by rw [fA.2.1]; exact k10) m1 (m2 _ ha0) (by omega) (SO_fb (hKK.2 _ (m3 _ ha0)) fA (by omega)) (SO_fb hKK.1 fA (by omega)) ha0 a5
  have bd := m3 _ ha0
  have f2 : Fb_ wA (s_i w1 1007 5 (Int32.ofNat (b_a0 (sm_B S) + 1))) := by
    refine fb_tr (fr_fb f1 (fun a k z => by omega)) ⟨rfl, rfl, fun _ _ _ => rfl, rfl, rfl, fun a k z => by rw [i_si, if_neg (by omega)]⟩
  have ff := fb_tr fA f2
  have g : ∀ a k, a ≠ 1013 → (a ≠ 1007 ∨ k ≠ 5) → (a < 1018 + 5 * σA (b_a0 (sm_B S)) ∨ 1018 + 5 * σA (b_a0 (sm_B S)) + 4 < a) → w_i (s_i w1 1007 5 (Int32.ofNat (b_a0 (sm_B S) + 1))) a k = w_i w a k := fun a k z y x => by
    rw [i_si, if_neg (by omega), f1.2.2.2.2.2 _ _ (by omega)]; exact gA a k z y
  obtain ⟨b1, b2, b3, b4, b5, b6, b7⟩ := hB
  refine ⟨_, σA, ff, RC_B h hV ff ⟨?_, fun k hk => ?_, m3, m4⟩ ⟨?_, ?_, fun k hk => ?_, ?_, fun k hk => ?_, fun k hk => ?_, fun k hk => ?_⟩, fun Q => (qA Q).trans (q1 Q)⟩
  · rw [i_si, if_neg (by omega), f1.2.2.2.2.2 _ _ (by omega)]; exact m1
  · rw [show w_r (s_i w1 1007 5 (Int32.ofNat (b_a0 (sm_B S) + 1))) (1007 + 7) k = w_r w1 (1007 + 7) k from rfl, f1.2.2.1]; exact m2 k hk
  · exact CS_ag b1 (fun b k e1 e2 => g b k (by omega) (by omega) (by omega))
  · rw [i_si, if_pos ⟨rfl, rfl⟩]; rfl
  · have hk : k < b_a0 (sm_B S) + 1 := hk
    show CS_ _ (1007 + 11 + 5 * σA k) (tm_n (sm_T S)) (if k = b_a0 (sm_B S) then bm_X (sm_B S) else b_h0 (sm_B S) k)
    by_cases e : k = b_a0 (sm_B S)
    · rw [if_pos e]
      subst e
      have g3 : ∀ a j, 1018 + 5 * σA (b_a0 (sm_B S)) ≤ a → w_i (s_i w1 1007 5 (Int32.ofNat (b_a0 (sm_B S) + 1))) a j = w_i w1 a j := fun a j z => by rw [i_si, if_neg (by omega)]
      have g4 : ∀ i j, i ≤ 4 → w_i wA (1008 + i) j = w_i w (1008 + i) j := fun i j z => gA _ _ (by omega) (by omega)
      have hL10 := hV.2.2.2.1.1.1
      refine CS_like (b := 1008) b1 (by omega) hn10 (fun i i1 i2 k hk => ?_) (fun k i1 i2 => ?_)
      · rw [g3 _ _ (by omega), ← g4 i k i1]; exact g1 i i1 i2 k hk
      · rw [g3 _ _ (by omega)]; exact (g2 k i1 i2).trans (g4 0 k (by omega))
    · rw [if_neg e]
      have hne : σA k ≠ σA (b_a0 (sm_B S)) := fun z => e (m4 _ _ (by omega) ha0 z)
      have := m3 k (by omega)
      exact CS_ag (cA k (by omega)) (fun b j e1 e2 => g b j (by omega) (by omega) (by omega))
  · rw [g _ _ (by omega) (by omega) (by omega)]; exact b4
  · rw [g _ _ (by omega) (by omega) (by omega)]; exact b5 k hk
  · rw [g _ _ (by omega) (by omega) (by omega)]; exact b6 k hk
  · rw [g _ _ (by omega) (by omega) (by omega)]; exact b7 k hk
theorem c_refuses (h : RC_ w G σ S) (hV : WS_ S) {d j : Nat} (hj : j < 3) : ∃ w1, Fb_ w w1 ∧ RC_ w1 G σ (s_set S (b_ref (sm_B S) j)) ∧ ∀ Q, cl d 33 [v_R (some 1000), v_I (Int32.ofNat j)] w Q = Q (Sum.inl (some (v_I (Int32.ofInt (-1))))) w1 := by
  have hL : CL_ w 1007 σ := h.2.2.2.2.2.2.1
  have hB : CB_ w 1007 σ (tm_n (sm_T S)) (sm_B S) := h.2.2.2.2.2.2.2.1
  have hC := h.1
  unfold sh_C at hC
  have hK : sh_B w 1007 := h.2.1.1
  unfold sh_B at hK
  have hR := hB.2.2.2.2.2.2
  simp only [Nat.reduceAdd] at hK hR
  have ff : Fb_ w (s_i w 1017 j (w_i w 1017 j + Int32.ofNat 1)) := ⟨rfl, rfl, fun _ _ _ => rfl, rfl, rfl, fun a k z => by rw [i_si, if_neg (by omega)]⟩
  have g : ∀ a k, a ≠ 1017 → w_i (s_i w 1017 j (w_i w 1017 j + Int32.ofNat 1)) a k = w_i w a k := fun a k z => by rw [i_si, if_neg (by omega)]
  obtain ⟨b1, b2, b3, b4, b5, b6, b7⟩ := hB
  refine ⟨_, ff, RC_B h hV ff (CL_ag hL (g _ _ (by omega)) (fun k => rfl)) ⟨?_, ?_, fun k hk => ?_, ?_, fun k hk => ?_, fun k hk => ?_, fun k hk => ?_⟩, fun Q => ?_⟩
  · exact CS_ag b1 (fun b k e1 e2 => g b k (by omega))
  · rw [g _ _ (by omega)]; exact b2
  · exact CS_ag (b3 k hk) (fun b k e1 e2 => g b k (by omega))
  · rw [g _ _ (by omega)]; exact b4
  · rw [g _ _ (by omega)]; exact b5 k hk
  · rw [g _ _ (by omega)]; exact b6 k hk
  · show w_i _ 1017 k = if k = j then bm_r (sm_B S) k + Int32.ofNat 1 else bm_r (sm_B S) k
    rw [i_si]
    by_cases e : k = j
    · rw [if_pos ⟨rfl, e⟩, if_pos e, e, hR j hj]
    · rw [if_neg (fun z => e z.2), if_neg e]; exact hR k hk
  · simp (disch := first | omega | decide | exact ko_b _ | assumption | (simp only [t_si, t_sl, t_sr, t_sI, t_sR, n_si, n_sl, n_sr, n_sI, n_sR, r_si, r_sl, r_sI]; first | done | omega)) only [x_33_e, x_33_b, x_33_0, x_33_1, x_33_4, x_33_7, x_33_8, x_33_9, x_33_10, x_33_11, x_33_12, x_33_13, x_33_14, bk_v, bk_n, nl_I, nl_R, nl_L, nl_0, oo_lt, oo_le, oo_eq, oo_add, oo_sub, oo_tn, oo_ir, nn_leT, nn_leF, nn_ltT, nn_ltF, nn_eqT, nn_eqF, bv_0, bv_1, ko_b, ko_1, ko_0, true_and, and_true, if_true, if_false, not_true_eq_false, not_false_eq_true, oo_02, decide_eq_true_eq, decide_eq_false_iff_not, ite_not, Nat.reduceAdd, Nat.reduceLT, Nat.reduceSub, Nat.reduceLeDiff, reduceIte, Bool.true_eq_false, Bool.false_eq_true, reduceCtorEq, eq_self, decide_true, decide_false, bv_t, bv_f, and_self, t_si, t_sl, t_sr, t_sI, t_sR, n_si, n_sl, n_sr, n_sI, n_sR, r_si, r_sl, r_sI, hC, hK, hR]
theorem c_does1 (h : RC_ w G σ S) (hV : WS_ S) {d : Nat} : ∃ w1 σ1, Fb_ w w1 ∧ RC_ w1 G σ1 (s_set S (b_keep (sm_B S))) ∧ ∀ Q, cl (d + 6) 32 [v_R (some 1000), v_I (Int32.ofNat 1)] w Q = Q (Sum.inl (some (v_I (Int32.ofNat 1)))) w1 := by
  obtain ⟨w1, σ1, f1, r1, q1⟩ := c_keeps h hV (d := d)
  refine ⟨w1, σ1, f1, r1, fun Q => ?_⟩
  have hC := h.1
  unfold sh_C at hC
  have k1 := h.2.1.1.1
  simp (disch := first | omega | decide | exact ko_b _ | assumption | (simp only [t_si, t_sl, t_sr, t_sI, t_sR, n_si, n_sl, n_sr, n_sI, n_sR, r_si, r_sl, r_sI]; first | done | omega)) only [x_32_e, x_32_b, x_32_0, x_32_1, x_32_4, x_32_5, x_32_8, x_32_11, x_32_14, x_32_15, x_32_16, x_32_19, x_32_20, x_32_21, bk_v, bk_n, nl_I, nl_R, nl_L, nl_0, oo_lt, oo_le, oo_eq, oo_add, oo_sub, oo_tn, oo_ir, nn_leT, nn_leF, nn_ltT, nn_ltF, nn_eqT, nn_eqF, bv_0, bv_1, ko_b, ko_1, ko_0, true_and, and_true, if_true, if_false, not_true_eq_false, not_false_eq_true, oo_02, decide_eq_true_eq, decide_eq_false_iff_not, ite_not, Nat.reduceAdd, Nat.reduceLT, Nat.reduceSub, Nat.reduceLeDiff, reduceIte, Bool.true_eq_false, Bool.false_eq_true, reduceCtorEq, eq_self, decide_true, decide_false, bv_t, bv_f, and_self, t_si, t_sl, t_sr, t_sI, t_sR, n_si, n_sl, n_sr, n_sI, n_sR, r_si, r_sl, r_sI, hC, q1]
theorem c_does0 (h : RC_ w G σ S) (hV : WS_ S) {d : Nat} : ∃ w1, Fb_ w w1 ∧ RC_ w1 G σ (s_set S (b_ref (sm_B S) 1)) ∧ ∀ Q, cl (d + 6) 32 [v_R (some 1000), v_I (Int32.ofNat 0)] w Q = Q (Sum.inl (some (v_I (Int32.ofNat 0)))) w1 := by
  obtain ⟨w1, f1, r1, q1⟩ := c_refuses h hV (d := d + 5) (j := 1) (by omega)
  refine ⟨w1, f1, r1, fun Q => ?_⟩
  have hC := h.1
  unfold sh_C at hC
  simp (disch := first | omega | decide | exact ko_b _ | assumption | (simp only [t_si, t_sl, t_sr, t_sI, t_sR, n_si, n_sl, n_sr, n_sI, n_sR, r_si, r_sl, r_sI]; first | done | omega)) only [x_32_e, x_32_b, x_32_0, x_32_1, x_32_4, x_32_5, x_32_8, x_32_11, x_32_14, x_32_15, x_32_16, x_32_19, x_32_20, x_32_21, bk_v, bk_n, nl_I, nl_R, nl_L, nl_0, oo_lt, oo_le, oo_eq, oo_add, oo_sub, oo_tn, oo_ir, nn_leT, nn_leF, nn_ltT, nn_ltF, nn_eqT, nn_eqF, bv_0, bv_1, ko_b, ko_1, ko_0, true_and, and_true, if_true, if_false, not_true_eq_false, not_false_eq_true, oo_02, decide_eq_true_eq, decide_eq_false_iff_not, ite_not, Nat.reduceAdd, Nat.reduceLT, Nat.reduceSub, Nat.reduceLeDiff, reduceIte, Bool.true_eq_false, Bool.false_eq_true, reduceCtorEq, eq_self, decide_true, decide_false, bv_t, bv_f, and_self, t_si, t_sl, t_sr, t_sI, t_sR, n_si, n_sl, n_sr, n_sI, n_sR, r_si, r_sl, r_sI, hC, q1]
theorem c_puts {d a t l n : Nat} {X : Xm} (hA : SO_ w a) (hS : CS_ w a n X) (hL : xm_L X < 10) (ht : t < 10) (hl : l ≤ xm_L X) : ∃ w1, Fr_ (fun x _ => a ≤ x ∧ x ≤ a + 4) w w1 ∧ CS_ w1 a n (x_put X t l) ∧ ∀ Q, cl d 148 [v_R (some a), v_I (Int32.ofNat t), v_I (Int32.ofNat l)] w Q = Q (Sum.inl none) w1 := by
  unfold SO_ at hA
  unfold CS_ at hS
  refine ⟨s_i (s_i (s_I w (a + 1) (va_cpy (w_i w (a + 1)) (w_i w (a + 1)) l (l + 1) (xm_L X - l))) (a + 1) l (Int32.ofNat t)) a 4 (Int32.ofNat (xm_L X + 1)), ?_, ?_, fun Q => ?_⟩
  · refine ⟨rfl, rfl, rfl, rfl, rfl, fun x k hx => ?_⟩
    simp (disch := omega) only [i_si, i_sI, nn_eqF, false_and, if_false]
  · unfold CS_
    obtain ⟨g1, g2, g3, g4, g5, g6, g7⟩ := hS
    refine ⟨?_, ?_, ?_, fun k hk => ?_, fun k hk => ?_, fun k hk => ?_, fun k hk => ?_⟩
    · rw [i_si, if_pos ⟨rfl, rfl⟩]; rfl
    · simp (disch := omega) only [i_si, i_sI, nn_eqF, false_and, and_false, if_false]; exact g2
    · simp (disch := omega) only [i_si, i_sI, nn_eqF, false_and, and_false, if_false]; exact g3
    · have hk : k < xm_L X + 1 := hk
      show _ = Int32.ofNat (if k < l then xm_t X k else if k = l then t else xm_t X (k - 1))
      simp (disch := omega) only [i_si, i_sI, nn_eqF, false_and, true_and, and_false, if_false, if_true]
      by_cases c : k = l
      · rw [if_pos c, if_neg (by omega), if_pos c]
      · rw [if_neg c]
        unfold va_cpy
        by_cases c2 : k < l
        · rw [if_neg (by omega), if_pos c2]; exact g4 k (by omega)
        · rw [if_pos (by omega), if_neg c2, if_neg c, show l + (k - (l + 1)) = k - 1 by omega]; exact g4 (k - 1) (by omega)
    · simp (disch := omega) only [i_si, i_sI, nn_eqF, false_and, and_false, if_false]; exact g5 k hk
    · simp (disch := omega) only [i_si, i_sI, nn_eqF, false_and, and_false, if_false]; exact g6 k hk
    · simp (disch := omega) only [i_si, i_sI, nn_eqF, false_and, and_false, if_false]; exact g7 k hk
  · have g1 := hS.1
    simp (disch := first | omega | decide | exact ko_b _ | assumption | (simp only [t_si, t_sl, t_sr, t_sI, t_sR, n_si, n_sl, n_sr, n_sI, n_sR, r_si, r_sl, r_sI]; first | done | omega)) only [x_148_e, x_148_b, x_148_0, x_148_1, x_148_4, x_148_5, x_148_6, x_148_9, x_148_10, x_148_11, x_148_12, x_148_13, x_148_16, x_148_17, x_148_18, x_148_21, x_148_22, x_148_25, x_148_26, x_148_27, x_148_28, x_148_29, x_148_30, x_148_33, x_148_34, x_148_35, x_148_38, bk_v, bk_n, nl_I, nl_R, nl_L, nl_0, oo_lt, oo_le, oo_eq, oo_add, oo_sub, oo_tn, oo_ir, nn_leT, nn_leF, nn_ltT, nn_ltF, nn_eqT, nn_eqF, bv_0, bv_1, ko_b, ko_1, ko_0, true_and, and_true, if_true, if_false, not_true_eq_false, not_false_eq_true, oo_02, decide_eq_true_eq, decide_eq_false_iff_not, ite_not, Nat.reduceAdd, Nat.reduceLT, Nat.reduceSub, Nat.reduceLeDiff, reduceIte, Bool.true_eq_false, Bool.false_eq_true, reduceCtorEq, eq_self, decide_true, decide_false, bv_t, bv_f, and_self, t_si, t_sl, t_sr, t_sI, t_sR, n_si, n_sl, n_sr, n_sI, n_sR, r_si, r_sl, r_sI, hA, g1, oo_cp, i_si, i_sI, nn_eqF, false_and, and_false]
theorem c_takes {d a l n : Nat} {X : Xm} (hA : SO_ w a) (hS : CS_ w a n X) (hX : WX_ n X) (hn : n ≤ 10) (hl : l < xm_L X) : ∃ w1, Fr_ (fun x _ => a ≤ x ∧ x ≤ a + 4) w w1 ∧ CS_ w1 a n (x_take X l) ∧ ∀ Q, cl d 147 [v_R (some a), v_I (Int32.ofNat l)] w Q = Q (Sum.inl none) w1 := by
  unfold SO_ at hA
  unfold CS_ at hS
  obtain ⟨hW1, hW2, hW3⟩ := hX
  have h0 := hW2 l hl
  refine ⟨s_I (s_i (s_i w (a + 2) (xm_t X l) (Int32.ofNat 0)) a 4 (Int32.ofNat (xm_L X - 1))) (a + 1) (va_cpy (w_i w (a + 1)) (w_i w (a + 1)) (l + 1) l (xm_L X - 1 - l)), ?_, ?_, fun Q => ?_⟩
  · refine ⟨rfl, rfl, rfl, rfl, rfl, fun x k hx => ?_⟩
    simp (disch := omega) only [i_si, i_sI, nn_eqF, false_and, if_false]
  · unfold CS_
    obtain ⟨g1, g2, g3, g4, g5, g6, g7⟩ := hS
    refine ⟨?_, ?_, ?_, fun k hk => ?_, fun k hk => ?_, fun k hk => ?_, fun k hk => ?_⟩
    · simp (disch := omega) only [i_si, i_sI, nn_eqF, false_and, and_false, if_false, and_self, if_true]; rfl
    · simp (disch := omega) only [i_si, i_sI, nn_eqF, false_and, and_false, if_false]; exact g2
    · simp (disch := omega) only [i_si, i_sI, nn_eqF, false_and, and_false, if_false]; exact g3
    · have hk : k < xm_L X - 1 := hk
      show _ = Int32.ofNat (if k < l then xm_t X k else xm_t X (k + 1))
      simp (disch := omega) only [i_sI, if_true]
      unfold va_cpy
      by_cases c2 : k < l
      · rw [if_neg (by omega), if_pos c2]; exact g4 k (by omega)
      · rw [if_pos (by omega), if_neg c2, show l + 1 + (k - l) = k + 1 by omega]; exact g4 (k + 1) (by omega)
    · show _ = if k = xm_t X l then Int32.ofNat 0 else xm_m X k
      simp (disch := omega) only [i_si, i_sI, nn_eqF, false_and, true_and, and_false, if_false]
      by_cases c : k = xm_t X l
      · rw [if_pos c, if_pos c]
      · rw [if_neg c, if_neg c]; exact g5 k hk
    · simp (disch := omega) only [i_si, i_sI, nn_eqF, false_and, and_false, if_false]; exact g6 k hk
    · simp (disch := omega) only [i_si, i_sI, nn_eqF, false_and, and_false, if_false]; exact g7 k hk
  · have g1 := hS.1
    have g4 := hS.2.2.2.1
    have ei : ∀ (w : Wd) (x k y : Nat) (v : Int32), x < y ∨ y < x → w_i (s_i w x k v) y = w_i w y := fun w x k y v h => funext fun j => by rw [i_si, if_neg (by omega)]
    simp (disch := first | omega | decide | exact ko_b _ | assumption | (simp only [t_si, t_sl, t_sr, t_sI, t_sR, n_si, n_sl, n_sr, n_sI, n_sR, r_si, r_sl, r_sI]; first | done | omega)) only [x_147_e, x_147_b, x_147_0, x_147_1, x_147_4, x_147_5, x_147_8, x_147_9, x_147_10, x_147_11, x_147_12, x_147_13, x_147_14, x_147_17, x_147_18, x_147_19, x_147_22, x_147_23, x_147_26, x_147_27, x_147_28, x_147_29, x_147_30, x_147_33, x_147_34, x_147_35, x_147_38, x_147_39, x_147_40, x_147_43, bk_v, bk_n, nl_I, nl_R, nl_L, nl_0, oo_lt, oo_le, oo_eq, oo_add, oo_sub, oo_tn, oo_ir, nn_leT, nn_leF, nn_ltT, nn_ltF, nn_eqT, nn_eqF, bv_0, bv_1, ko_b, ko_1, ko_0, true_and, and_true, if_true, if_false, not_true_eq_false, not_false_eq_true, oo_02, decide_eq_true_eq, decide_eq_false_iff_not, ite_not, Nat.reduceAdd, Nat.reduceLT, Nat.reduceSub, Nat.reduceLeDiff, reduceIte, Bool.true_eq_false, Bool.false_eq_true, reduceCtorEq, eq_self, decide_true, decide_false, bv_t, bv_f, and_self, t_si, t_sl, t_sr, t_sI, t_sR, n_si, n_sl, n_sr, n_sI, n_sR, r_si, r_sl, r_sI, hA, g1, g4, oo_cp, ei, i_si, nn_eqF, false_and, and_false]
end
