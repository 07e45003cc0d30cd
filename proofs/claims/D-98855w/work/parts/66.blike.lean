/-! IMAGE AND RESTORE: a book like another -/
set_option maxRecDepth 100000
section
variable {w : Wd}
theorem bl_end {d u v n : Nat} {B : Bm} {Q : Q_} (hu : sh_B w u) (hv : sh_B w v) (hd : u + 210 < v ∨ v + 210 < u) (e5 : w_i w v 5 = Int32.ofNat (bm_a B)) (e6 : w_i w v 6 = Int32.ofNat (bm_m B)) (ha : bm_a B ≤ 40) : wp d 132 13 [some (v_R (some u)), some (v_R (some v)), some (v_I (Int32.ofNat (bm_a B)))] [] w Q = Q (Sum.inl none) (s_i (s_i (s_I (s_I (s_I w (u + 8) (va_cpy (w_i w (v + 8)) (w_i w (u + 8)) 0 0 8)) (u + 9) (va_cpy (w_i w (v + 9)) (w_i w (u + 9)) 0 0 8)) (u + 10) (va_cpy (w_i w (v + 10)) (w_i w (u + 10)) 0 0 3)) u 5 (Int32.ofNat (bm_a B))) u 6 (Int32.ofNat (bm_m B))) := by
  unfold sh_B at hu hv
  have e1 : ∀ (w : Wd) (x y : Nat) (f : Nat → Int32), x < y ∨ y < x → w_i (s_I w x f) y = w_i w y := fun w x y f h => funext fun k => by rw [i_sI, if_neg (by omega)]
  rw [x_132_13]
  simp (disch := first | omega | decide | exact ko_b _ | assumption | (simp only [t_si, t_sl, t_sr, t_sI, t_sR, n_si, n_sl, n_sr, n_sI, n_sR, r_si, r_sl, r_sI]; first | done | omega)) only [x_132_e, x_132_b, x_132_14, x_132_15, x_132_18, x_132_21, x_132_22, x_132_25, x_132_26, x_132_29, x_132_32, x_132_33, x_132_36, x_132_37, x_132_40, x_132_43, x_132_46, x_132_49, x_132_52, x_132_53, x_132_56, x_132_57, x_132_58, x_132_61, x_132_62, x_132_64, x_132_67, x_132_68, x_132_71, x_132_72, x_132_73, x_132_76, x_132_77, x_132_79, x_132_82, x_132_83, x_132_86, x_132_87, x_132_88, x_132_91, x_132_92, x_132_93, x_132_96, x_132_97, x_132_100, x_132_101, x_132_102, x_132_105, x_132_108, x_132_109, x_132_110, x_132_113, x_132_116, bk_v, bk_n, nl_I, nl_R, nl_L, nl_0, oo_lt, oo_le, oo_eq, oo_add, oo_sub, oo_tn, oo_ir, nn_leT, nn_leF, nn_ltT, nn_ltF, nn_eqT, nn_eqF, bv_0, bv_1, ko_b, ko_1, ko_0, true_and, and_true, if_true, if_false, not_true_eq_false, not_false_eq_true, oo_02, decide_eq_true_eq, decide_eq_false_iff_not, ite_not, Nat.reduceAdd, Nat.reduceLT, Nat.reduceSub, Nat.reduceLeDiff, reduceIte, Bool.true_eq_false, Bool.false_eq_true, reduceCtorEq, eq_self, decide_true, decide_false, bv_t, bv_f, and_self, t_si, t_sl, t_sr, t_sI, t_sR, n_si, n_sl, n_sr, n_sI, n_sR, r_si, r_sl, r_sI, hu, hv, e5, e6, oo_cp, e1, i_si, i_sI, nn_eqF, false_and]
theorem c_blike {d u v n : Nat} {σu σv : Nat → Nat} {B : Bm} (hu : sh_B w u) (hv : sh_B w v) (ku : sh_K w u) (kv : sh_K w v) (hd : u + 210 < v ∨ v + 210 < u) (lu : CL_ w u σu) (lv : CL_ w v σv) (hB : CB_ w v σv n B) (hn : n ≤ 10) (hW : WB_ n B) : ∃ w1, Fr_ (fun a _ => u ≤ a ∧ a ≤ u + 210 ∧ a ≠ u + 6) w w1 ∧ CB_ w1 u σu n B ∧ ∀ Q, cl (d + 3) 132 [v_R (some u), v_R (some v)] w Q = Q (Sum.inl none) w1 := by
  obtain ⟨b1, b2, b3, b4, b5, b6, b7⟩ := hB
  obtain ⟨l1, l2, l3, l4⟩ := lu
  obtain ⟨m1, m2, m3, m4⟩ := lv
  have ha40 := hW.2.2.1
  have hm8 := hW.2.2.2.2.2.1
  have hL10 := hW.1.1
  obtain ⟨w0, f0, g1, g2, q0⟩ := c_like (d := d + 2) (a := u + 1) (b := v + 1) ku.1 kv.1 (by omega)
  have s0 : CS_ w0 (u + 1) n (bm_X B) := CS_like b1 (by omega) hn g1 g2
  have F0 : Fr_ (fun a _ => u ≤ a ∧ a ≤ u + 210 ∧ a ≠ u + 6) w w0 := fr_mo f0 (fun a k z => by omega)
  obtain ⟨w2, ⟨i1, i2, i3, i4⟩, q2⟩ := lp_ex (fun k (w2 : Wd) (Q : Q_) => wp (d + 3) 132 13 [some (v_R (some u)), some (v_R (some v)), some (v_I (Int32.ofNat k))] [] w2 Q) (fun k w2 => Fr_ (fun a _ => u ≤ a ∧ a ≤ u + 210 ∧ a ≠ u + 6) w w2 ∧ CS_ w2 (u + 1) n (bm_X B) ∧ (∀ j, j < k → CS_ w2 (u + 11 + 5 * σu j) n (bm_h B j)) ∧ (∀ a j, (a = u ∨ (u + 8 ≤ a ∧ a ≤ u + 10)) → w_i w2 a j = w_i w a j)) (bm_a B) (fun k w2 hk hI => by
    obtain ⟨i1, i2, i3, i4⟩ := hI
    have hσu := l3 k (by omega)
    have hσv := m3 k (by omega)
    have so : ∀ x, SO_ w x → SO_ w2 x := fun x hx => SO_ag hx (fun b _ _ => ⟨by rw [i1.1], by rw [i1.2.1], fun k => by rw [i1.2.2.1]⟩)
    obtain ⟨w3, f3, g3, g4, q3⟩ := c_like (d := d + 2) (a := u + 11 + 5 * σu k) (b := v + 11 + 5 * σv k) (so _ (ku.2 _ hσu)) (so _ (kv.2 _ hσv)) (by omega)
    have cv : CS_ w2 (v + 11 + 5 * σv k) n (bm_h B k) := CS_ag (b3 k hk) (fun b j e1 e2 => i1.2.2.2.2.2 _ _ (by omega))
    have hLk := (hW.2.2.2.1 k hk).1
    have cn := CS_like cv (by omega) hn g3 g4
    refine ⟨w3, ⟨fr_tr i1 (fr_mo f3 (fun a j z => by omega)), CS_ag i2 (fun b j e1 e2 => f3.2.2.2.2.2 _ _ (by omega)), fun j hj => ?_, fun a j z => ?_⟩, fun Q => ?_⟩
    · by_cases c : j = k
      · subst c; exact cn
      · have hne : σu j ≠ σu k := fun z => c (l4 _ _ (by omega) (by omega) z)
        have := l3 j (by omega)
        exact CS_ag (i3 j (by omega)) (fun b i e1 e2 => f3.2.2.2.2.2 _ _ (by omega))
    · rw [f3.2.2.2.2.2 _ _ (by omega)]; exact i4 a j z
    · have hu2 : sh_B w2 u := sh_B_ag hu (fun b _ _ => ⟨by rw [i1.1], by rw [i1.2.1], fun k => by rw [i1.2.2.1]⟩)
      have hv2 : sh_B w2 v := sh_B_ag hv (fun b _ _ => ⟨by rw [i1.1], by rw [i1.2.1], fun k => by rw [i1.2.2.1]⟩)
      unfold sh_B at hu2 hv2
      have t1 := (so _ (ku.2 _ hσu)).1
      have t2 := (so _ (kv.2 _ hσv)).1
      have e5 : w_i w2 v 5 = Int32.ofNat (bm_a B) := by rw [i1.2.2.2.2.2 _ _ (by omega)]; exact b2
      have r1 : w_r w2 (u + 7) k = some (u + 11 + 5 * σu k) := by rw [i1.2.2.1]; exact l2 k (by omega)
      have r2 : w_r w2 (v + 7) k = some (v + 11 + 5 * σv k) := by rw [i1.2.2.1]; exact m2 k (by omega)
      have hgu := fun d Q => j_get (w := w2) (d := d) (Q := Q) (l := u + 6) (e := u + 7) (k := k) (n := 40) (by omega) (by rw [i1.2.2.2.2.2 _ _ (by omega)]; exact l1) (by omega) (by omega) (by simp only [hu2]) (by omega) (by omega) (by omega)
      have hgv := fun d Q => j_get (w := w2) (d := d) (Q := Q) (l := v + 6) (e := v + 7) (k := k) (n := 40) (by omega) (by rw [i1.2.2.2.2.2 _ _ (by omega)]; exact m1) (by omega) (by omega) (by simp only [hv2]) (by omega) (by omega) (by omega)
      rw [x_132_13]
      simp (disch := first | omega | decide | exact ko_b _ | assumption | (simp only [t_si, t_sl, t_sr, t_sI, t_sR, n_si, n_sl, n_sr, n_sI, n_sR, r_si, r_sl, r_sI]; first | done | omega)) only [x_132_e, x_132_b, x_132_14, x_132_15, x_132_18, x_132_21, x_132_22, x_132_25, x_132_26, x_132_29, x_132_32, x_132_33, x_132_36, x_132_37, x_132_40, x_132_43, x_132_46, x_132_49, bk_v, bk_n, nl_I, nl_R, nl_L, nl_0, oo_lt, oo_le, oo_eq, oo_add, oo_sub, oo_tn, oo_ir, nn_leT, nn_leF, nn_ltT, nn_ltF, nn_eqT, nn_eqF, bv_0, bv_1, ko_b, ko_1, ko_0, true_and, and_true, if_true, if_false, not_true_eq_false, not_false_eq_true, oo_02, decide_eq_true_eq, decide_eq_false_iff_not, ite_not, Nat.reduceAdd, Nat.reduceLT, Nat.reduceSub, Nat.reduceLeDiff, reduceIte, Bool.true_eq_false, Bool.false_eq_true, reduceCtorEq, eq_self, decide_true, decide_false, bv_t, bv_f, and_self, t_si, t_sl, t_sr, t_sI, t_sR, n_si, n_sl, n_sr, n_sI, n_sR, r_si, r_sl, r_sI, hu2, hv2, e5, hgu, hgv, r1, r2, q3]) (bm_a B) 0 w0 (Nat.zero_add _) ⟨F0, s0, fun j hj => absurd hj (Nat.not_lt_zero j), fun a j z => f0.2.2.2.2.2 _ _ (by omega)⟩
  have hu2 : sh_B w2 u := sh_B_ag hu (fun b _ _ => ⟨by rw [i1.1], by rw [i1.2.1], fun k => by rw [i1.2.2.1]⟩)
  have hv2 : sh_B w2 v := sh_B_ag hv (fun b _ _ => ⟨by rw [i1.1], by rw [i1.2.1], fun k => by rw [i1.2.2.1]⟩)
  have nv : ∀ a j, v ≤ a → a ≤ v + 210 → w_i w2 a j = w_i w a j := fun a j z1 z2 => i1.2.2.2.2.2 _ _ (by omega)
  have fin := fun Q => bl_end (d := d + 3) (n := n) (Q := Q) hu2 hv2 hd (by rw [nv _ _ (by omega) (by omega)]; exact b2) (by rw [nv _ _ (by omega) (by omega)]; exact b4) ha40
  refine ⟨(s_i (s_i (s_I (s_I (s_I w2 (u + 8) (va_cpy (w_i w2 (v + 8)) (w_i w2 (u + 8)) 0 0 8)) (u + 9) (va_cpy (w_i w2 (v + 9)) (w_i w2 (u + 9)) 0 0 8)) (u + 10) (va_cpy (w_i w2 (v + 10)) (w_i w2 (u + 10)) 0 0 3)) u 5 (Int32.ofNat (bm_a B))) u 6 (Int32.ofNat (bm_m B))), ?_, ?_, fun Q => ?_⟩
  rotate_left 2
  · refine Eq.trans ?_ ((q2 Q).trans (fin Q))
    have hu9 := hu
    have hv9 := hv
    have tu1 := ku.1.1
    unfold sh_B at hu9 hv9
    simp (disch := first | omega | decide | exact ko_b _ | assumption | (simp only [t_si, t_sl, t_sr, t_sI, t_sR, n_si, n_sl, n_sr, n_sI, n_sR, r_si, r_sl, r_sI]; first | done | omega)) only [x_132_e, x_132_b, x_132_0, x_132_1, x_132_4, x_132_5, x_132_8, x_132_11, x_132_12, bk_v, bk_n, nl_I, nl_R, nl_L, nl_0, oo_lt, oo_le, oo_eq, oo_add, oo_sub, oo_tn, oo_ir, nn_leT, nn_leF, nn_ltT, nn_ltF, nn_eqT, nn_eqF, bv_0, bv_1, ko_b, ko_1, ko_0, true_and, and_true, if_true, if_false, not_true_eq_false, not_false_eq_true, oo_02, decide_eq_true_eq, decide_eq_false_iff_not, ite_not, Nat.reduceAdd, Nat.reduceLT, Nat.reduceSub, Nat.reduceLeDiff, reduceIte, Bool.true_eq_false, Bool.false_eq_true, reduceCtorEq, eq_self, decide_true, decide_false, bv_t, bv_f, and_self, t_si, t_sl, t_sr, t_sI, t_sR, n_si, n_sl, n_sr, n_sI, n_sR, r_si, r_sl, r_sI, hu9, hv9, q0]
  · refine fr_tr i1 ⟨rfl, rfl, rfl, rfl, rfl, fun a k z => ?_⟩
    simp (disch := omega) only [i_si, i_sI, nn_eqF, false_and, if_false]
  · have gg : ∀ a k, (a < u + 8 ∨ u + 10 < a) → (a ≠ u ∨ (k ≠ 5 ∧ k ≠ 6)) → w_i (s_i (s_i (s_I (s_I (s_I w2 (u + 8) (va_cpy (w_i w2 (v + 8)) (w_i w2 (u + 8)) 0 0 8)) (u + 9) (va_cpy (w_i w2 (v + 9)) (w_i w2 (u + 9)) 0 0 8)) (u + 10) (va_cpy (w_i w2 (v + 10)) (w_i w2 (u + 10)) 0 0 3)) u 5 (Int32.ofNat (bm_a B))) u 6 (Int32.ofNat (bm_m B))) a k = w_i w2 a k := fun a k z y => by
      rw [i_si, if_neg (by omega), i_si, if_neg (by omega), i_sI, if_neg (by omega), i_sI, if_neg (by omega), i_sI, if_neg (by omega)]
    refine ⟨CS_ag i2 (fun b k e1 e2 => gg b k (by omega) (by omega)), ?_, fun k hk => CS_ag (i3 k hk) (fun b j e1 e2 => gg b j (by omega) (by omega)), ?_, fun k hk => ?_, fun k hk => ?_, fun k hk => ?_⟩
    · rw [i_si, if_neg (by omega), i_si, if_pos ⟨rfl, rfl⟩]
    · rw [i_si, if_pos ⟨rfl, rfl⟩]
    · rw [i_si, if_neg (by omega), i_si, if_neg (by omega), i_sI, if_neg (by omega), i_sI, if_neg (by omega), i_sI, if_pos rfl]
      unfold va_cpy
      rw [if_pos (by omega), Nat.zero_add, Nat.sub_zero, nv _ _ (by omega) (by omega)]; exact b5 k hk
    · rw [i_si, if_neg (by omega), i_si, if_neg (by omega), i_sI, if_neg (by omega), i_sI, if_pos rfl]
      unfold va_cpy
      rw [if_pos (by omega), Nat.zero_add, Nat.sub_zero, nv _ _ (by omega) (by omega)]; exact b6 k hk
    · rw [i_si, if_neg (by omega), i_si, if_neg (by omega), i_sI, if_pos rfl]
      unfold va_cpy
      rw [if_pos (by omega), Nat.zero_add, Nat.sub_zero, nv _ _ (by omega) (by omega)]; exact b7 k hk
end
