/-! ACTS: the component's half, states and keeps -/
set_option maxRecDepth 100000
theorem r_k_si (w : Wd) (a k : Nat) (x : Int32) (o : Option Nat) : r_k (s_i w a k x) o = r_k w o := by cases o <;> rfl
theorem rr_si (w : Wd) (a k b : Nat) (x : Int32) : w_r (s_i w a k x) b = w_r w b := rfl
section
variable {w : Wd} {S : Sm} {G : Gm} {σ : Nat → Nat}
theorem c_like {d a b : Nat} (ha : SO_ w a) (hb : SO_ w b) (hab : a + 4 < b ∨ b + 4 < a) : ∃ w1, Fr_ (fun x _ => a ≤ x ∧ x ≤ a + 4) w w1 ∧ (∀ i, i ≤ 4 → 1 ≤ i → ∀ k, k < 10 → w_i w1 (a + i) k = w_i w (b + i) k) ∧ (∀ k, 4 ≤ k → k ≤ 6 → w_i w1 a k = w_i w b k) ∧ ∀ Q, cl d 136 [v_R (some a), v_R (some b)] w Q = Q (Sum.inl none) w1 := by
  unfold SO_ at ha hb
  refine ⟨s_i (s_i (s_i (s_I (s_I (s_I (s_I w (a + 1) (va_cpy (w_i w (b + 1)) (w_i w (a + 1)) 0 0 10)) (a + 2) (va_cpy (w_i w (b + 2)) (w_i w (a + 2)) 0 0 10)) (a + 3) (va_cpy (w_i w (b + 3)) (w_i w (a + 3)) 0 0 10)) (a + 4) (va_cpy (w_i w (b + 4)) (w_i w (a + 4)) 0 0 10)) a 4 (w_i w b 4)) a 5 (w_i w b 5)) a 6 (w_i w b 6), ?_, fun i h1 h2 k hk => ?_, fun k h1 h2 => ?_, fun Q => ?_⟩
  · refine ⟨rfl, rfl, rfl, rfl, rfl, fun x k hx => ?_⟩
    simp (disch := omega) only [i_si, i_sI, nn_eqF, false_and, if_false]
  · rcases (by omega : i = 1 ∨ i = 2 ∨ i = 3 ∨ i = 4) with rfl | rfl | rfl | rfl
    all_goals
      simp (disch := omega) only [i_si, i_sI, nn_eqF, false_and, if_false, if_true]
      unfold va_cpy
      rw [if_pos (by omega), Nat.zero_add, Nat.sub_zero]
  · rcases (by omega : k = 4 ∨ k = 5 ∨ k = 6) with rfl | rfl | rfl
    all_goals simp (disch := omega) only [i_si, i_sI, nn_eqF, false_and, and_false, if_false, if_true, and_self]
  · have e : ∀ x y : Nat, (∀ f g : Nat → Int32, x ≠ y → ∀ w : Wd, w_i (s_I w x f) y = w_i w y) := fun x y f g h w => funext fun k => by rw [i_sI, if_neg (fun z => h z.symm)]
    have e1 : ∀ (w : Wd) (x y : Nat) (f : Nat → Int32), x < y ∨ y < x → w_i (s_I w x f) y = w_i w y := fun w x y f h => funext fun k => by rw [i_sI, if_neg (by omega)]
    simp (disch := first | omega | decide | exact ko_b _ | assumption | (simp only [t_si, t_sl, t_sr, t_sI, t_sR, n_si, n_sl, n_sr, n_sI, n_sR, r_si, r_sl, r_sI]; first | done | omega)) only [x_136_e, x_136_b, x_136_0, x_136_1, x_136_4, x_136_5, x_136_6, x_136_9, x_136_10, x_136_12, x_136_15, x_136_16, x_136_19, x_136_20, x_136_21, x_136_24, x_136_25, x_136_27, x_136_30, x_136_31, x_136_34, x_136_35, x_136_36, x_136_39, x_136_40, x_136_42, x_136_45, x_136_46, x_136_49, x_136_50, x_136_51, x_136_54, x_136_55, x_136_57, x_136_60, x_136_61, x_136_62, x_136_65, x_136_68, x_136_69, x_136_70, x_136_73, x_136_76, x_136_77, x_136_78, x_136_81, x_136_84, bk_v, bk_n, nl_I, nl_R, nl_L, nl_0, oo_lt, oo_le, oo_eq, oo_add, oo_sub, oo_tn, oo_ir, nn_leT, nn_leF, nn_ltT, nn_ltF, nn_eqT, nn_eqF, bv_0, bv_1, ko_b, ko_1, ko_0, true_and, and_true, if_true, if_false, not_true_eq_false, not_false_eq_true, oo_02, decide_eq_true_eq, decide_eq_false_iff_not, ite_not, Nat.reduceAdd, Nat.reduceLT, Nat.reduceSub, Nat.reduceLeDiff, reduceIte, Bool.true_eq_false, Bool.false_eq_true, reduceCtorEq, eq_self, decide_true, decide_false, bv_t, bv_f, and_self, t_si, t_sl, t_sr, t_sI, t_sR, n_si, n_sl, n_sr, n_sI, n_sR, r_si, r_sl, r_sI, ha, hb, oo_cp, e1, i_si, nn_eqF, false_and, and_false]
theorem CS_like {w1 : Wd} {a b n : Nat} {X : Xm} (h : CS_ w b n X) (hL : xm_L X ≤ 10) (hn : n ≤ 10) (h1 : ∀ i, i ≤ 4 → 1 ≤ i → ∀ k, k < 10 → w_i w1 (a + i) k = w_i w (b + i) k) (h2 : ∀ k, 4 ≤ k → k ≤ 6 → w_i w1 a k = w_i w b k) : CS_ w1 a n X := by
  obtain ⟨g1, g2, g3, g4, g5, g6, g7⟩ := h
  exact ⟨(h2 4 (by omega) (by omega)).trans g1, (h2 5 (by omega) (by omega)).trans g2, (h2 6 (by omega) (by omega)).trans g3, fun k hk => (h1 1 (by omega) (by omega) k (by omega)).trans (g4 k hk), fun k hk => (h1 2 (by omega) (by omega) k (by omega)).trans (g5 k hk), fun k hk => (h1 3 (by omega) (by omega) k (by omega)).trans (g6 k hk), fun k hk => (h1 4 (by omega) (by omega) k (by omega)).trans (g7 k hk)⟩
/-- changes of the book alone -/
def Fb_ (w w1 : Wd) : Prop := w_t w1 = w_t w ∧ w_n w1 = w_n w ∧ (∀ a k, a ≠ 1014 → w_r w1 a k = w_r w a k) ∧ w_z w1 = w_z w ∧ sl_ w1 = sl_ w ∧ ∀ a k, (a < 1007 ∨ 1217 < a) → w_i w1 a k = w_i w a k
theorem fb_tr {w w1 w2 : Wd} (h1 : Fb_ w w1) (h2 : Fb_ w1 w2) : Fb_ w w2 :=
  ⟨h2.1.trans h1.1, h2.2.1.trans h1.2.1, fun a k h => (h2.2.2.1 a k h).trans (h1.2.2.1 a k h), h2.2.2.2.1.trans h1.2.2.2.1, h2.2.2.2.2.1.trans h1.2.2.2.2.1, fun a k h => (h2.2.2.2.2.2 a k h).trans (h1.2.2.2.2.2 a k h)⟩
theorem fr_fb {P : Nat → Nat → Prop} {w w1 : Wd} (h : Fr_ P w w1) (hP : ∀ a k, P a k → 1007 ≤ a ∧ a ≤ 1217) : Fb_ w w1 :=
  ⟨h.1, h.2.1, fun a k _ => by rw [h.2.2.1], h.2.2.2.1, h.2.2.2.2.1, fun a k z => h.2.2.2.2.2 a k (fun y => by have := hP a k y; omega)⟩
theorem RC_B {w1 : Wd} {σ1 : Nat → Nat} {B : Bm} (h : RC_ w G σ S) (hV : WS_ S) (hf : Fb_ w w1) (hL : CL_ w1 1007 σ1) (hB : CB_ w1 1007 σ1 (tm_n (sm_T S)) B) : RC_ w1 G σ1 (s_set S B) := by
  obtain ⟨h1, h2, h3, h4, h5, h6, h7, h8, h9, h10, h11, h12, h13, h14⟩ := h
  obtain ⟨f1, f2, f3, f4, f5, f6⟩ := hf
  have hzz : 1477 ≤ w_z w := h1.2.2.2.2.2.2.2.2.2.2.2.2.2.2.2.2.2.2.2.2.2.2.2
  have hS : ∀ a, a ≠ 1014 → Sh_ w w1 a := fun a z => ⟨by rw [f1], by rw [f2], fun k => f3 a k z⟩
  have hz : w_z w ≤ w_z w1 := by omega
  have fS : ∀ a, gz_ a → a < w_z w → Sh_ w w1 a := fun a b1 _ => hS a (by unfold gz_ at b1; omega)
  have f6S : ∀ a k, gz_ a → a < w_z w → 20 ≤ w_t w a → w_i w1 a k = w_i w a k := fun a k b1 _ _ => f6 a k (by unfold gz_ at b1; omega)
  have SB : ∀ u, (u = 1007 ∨ u = 1218) → sh_B w u → sh_B w1 u := fun u hu hs => by
    have e3 : ∀ k, w_r w1 u k = w_r w u k := fun k => f3 u k (by omega)
    have e4 : ∀ k, w_r w1 (u + 6) k = w_r w (u + 6) k := fun k => f3 (u + 6) k (by omega)
    unfold sh_B at hs ⊢
    rw [f1, f2]
    simp only [e3, e4]
    exact hs
  have SK : ∀ u, (u = 1007 ∨ u = 1218) → sh_K w u → sh_K w1 u := fun u hu hs => ⟨SO_ag hs.1 (fun b b1 b2 => hS b (by omega)), fun k hk => SO_ag (hs.2 k hk) (fun b b1 b2 => hS b (by omega))⟩
  refine ⟨sh_C_ag h1 hz (fun b b0 b1 => ⟨by rw [f1], by rw [f2]⟩) (fun k _ => f3 1000 k (by omega)), ⟨SB _ (Or.inl rfl) h2.1, SK _ (Or.inl rfl) h2.2.1, SB _ (Or.inr rfl) h2.2.2.1, SK _ (Or.inr rfl) h2.2.2.2.1, SO_ag h2.2.2.2.2 (fun b b1 b2 => hS b (by omega))⟩, (f3 1000 0 (by omega)).trans h3, CT_ag h4 h6 fS f6S, CE_ag h5 hz fS f6S, GZ_ag h6 hz, hL, hB, CL_ag h9 (f6 _ _ (by omega)) (fun k => f3 _ k (by omega)), (f6 _ _ (by omega)).trans h10, fun B1 hB1 => CB_ag (h11 B1 hB1) (hV.2.2.2.2.1 B1 hB1).2.2.1 (fun k hk => hk) (fun b k b1 b2 => f6 b k (by omega)), fun k hk => (f6 _ _ (by omega)).trans (h12 k hk), (f6 _ _ (by omega)).trans h13, (f6 _ _ (by omega)).trans h14⟩
theorem RM_fb {w1 : Wd} (h : RM_ w S) (hf : Fb_ w w1) : RM_ w1 S := RM_ag h (fun a h1 h2 => ⟨by rw [hf.1], by rw [hf.2.1], fun k => hf.2.2.1 a k (by omega), fun k => hf.2.2.2.2.2 a k (by omega)⟩)
def s_rot (σ : Nat → Nat) : Nat → Nat := fun k => if k < 39 then σ (k + 1) else σ 0
/-- the first of forty goes to the end -/
theorem j_rot {d : Nat} {Q : Q_} {v : Option Vl} (h1 : w_t w 1007 = 23) (h2 : w_r w 1007 1 = some 1013) (h3 : w_t w 1013 = 36) (h4 : w_r w 1013 1 = some 1014) (h5 : w_t w 1014 = 5) (h6 : w_n w 1014 = 40) (h7 : w_i w 1013 2 = Int32.ofNat 40) (h8 : ∀ k, k < 40 → w_r w 1014 k = some (1018 + 5 * σ k)) (h9 : ∀ k, k < 40 → w_t w (1018 + 5 * σ k) = 24) (h10 : w_i w 1007 5 = Int32.ofNat 40) : cl (d + 5) 131 [v_R (some 1007)] w Q = wp (d + 5) 131 38 [some (v_R (some 1007))] [] (s_i (s_i (s_r (s_i (s_r (s_i (s_R (s_i w 1013 0 (w_i w 1013 0 + Int32.ofNat 1)) 1014 (va_cpy (w_r w 1014) (w_r w 1014) 1 0 39)) 1013 2 (Int32.ofNat 39)) 1014 39 none) 1013 0 (w_i w 1013 0 + Int32.ofNat 1 + Int32.ofNat 1)) 1014 39 (some (1018 + 5 * σ 0))) 1013 2 (Int32.ofNat 40)) 1007 5 (Int32.ofNat 39)) Q := by
  have hall : (List.range 39).all (fun i => r_k w (w_r w 1014 (1 + i))) = true := by
    refine List.all_eq_true.mpr (fun i hi => ?_)
    have := List.mem_range.mp hi
    rw [h8 _ (by omega)]
    exact decide_eq_true (by rw [h9 _ (by omega)]; omega)
  have e0 : w_r w 1014 0 = some (1018 + 5 * σ 0) := h8 0 (by omega)
  have t0 := h9 0 (by omega)
  have hci := fun d w Q => j_oc (w := w) (d := d) (Q := Q) (by omega : 0 < 40) (by omega)
  simp (disch := first | omega | decide | exact ko_b _ | assumption | (simp only [t_si, t_sl, t_sr, t_sI, t_sR, n_si, n_sl, n_sr, n_sI, n_sR, r_si, r_sl, r_sI]; first | done | omega)) only [x_131_e, x_131_b, x_131_0, x_131_1, x_131_4, x_131_6, x_131_9, x_131_10, x_131_13, x_131_14, x_131_17, x_131_18, x_131_21, x_131_24, x_131_27, x_131_28, x_131_29, x_131_30, x_131_33, x_131_34, x_131_35, x_315_e, x_315_b, x_315_0, x_315_1, x_315_2, x_315_5, x_315_8, x_315_9, x_315_10, x_315_13, x_315_14, x_315_15, x_315_16, x_315_17, x_315_18, x_315_19, x_315_20, x_315_21, x_315_24, x_315_25, x_316_e, x_316_b, x_316_0, x_316_1, x_316_2, x_316_5, x_316_6, x_316_7, x_316_10, x_316_11, x_316_14, x_316_15, x_316_16, x_316_17, x_316_18, x_316_19, x_316_22, x_316_23, x_316_24, x_316_25, x_316_26, x_316_27, x_316_28, x_316_29, x_316_30, x_316_31, x_316_34, x_316_35, x_316_36, x_316_37, x_316_38, x_316_41, x_316_42, x_316_43, x_308_e, x_308_b, x_308_0, x_308_1, x_308_2, x_308_5, x_308_6, x_308_7, x_308_10, x_308_11, x_308_12, x_308_13, x_308_16, x_308_17, x_308_20, x_308_23, x_308_24, x_309_e, x_309_b, x_309_0, x_309_1, x_309_2, x_309_3, x_309_6, x_309_7, x_309_10, x_309_11, x_309_12, x_309_13, x_309_14, x_309_15, x_309_16, x_309_17, x_309_18, x_309_19, x_309_22, bk_v, bk_n, nl_I, nl_R, nl_L, nl_0, oo_lt, oo_le, oo_eq, oo_add, oo_sub, oo_tn, oo_ir, nn_leT, nn_leF, nn_ltT, nn_ltF, nn_eqT, nn_eqF, bv_0, bv_1, ko_b, ko_1, ko_0, true_and, and_true, if_true, if_false, not_true_eq_false, not_false_eq_true, oo_02, decide_eq_true_eq, decide_eq_false_iff_not, ite_not, Nat.reduceAdd, Nat.reduceLT, Nat.reduceSub, Nat.reduceLeDiff, reduceIte, Bool.true_eq_false, Bool.false_eq_true, reduceCtorEq, eq_self, decide_true, decide_false, bv_t, bv_f, and_self, t_si, t_sl, t_sr, t_sI, t_sR, n_si, n_sl, n_sr, n_sI, n_sR, r_si, r_sl, r_sI, h2, h4, h7, h10, e0, hci, i_si, i_sR, i_sr, oo_cp, r_k_si, hall, h6, Nat.reduceEqDiff, false_and, and_false, r_sr, r_sR, rr_si]
end
