/-! THE LAW's CALLS, each from its two halves (by program, wip/pure/gen96.py) -/
set_option maxRecDepth 100000
section
variable {w : Wd} {d c L : Nat} {xs : Nat → Int32} {G G1 : Gm} {σ : Nat → Nat} {S S1 : Sm}
theorem sp_0 {r : Int32} {kk : Nat} (I : In_ L xs c w G σ S) (hL : L ≤ 384) (hi : 6 * c + 6 ≤ L) (hc : CF_ (d + 13) 24 [v_R (some 1000), v_I (w_i w 0 (6 * c + 1)), v_I (w_i w 0 (6 * c + 2)), v_I (w_i w 0 (6 * c + 3)), v_I (w_i w 0 (6 * c + 4)), v_I (w_i w 0 (6 * c + 5))] w (v_I r) G1 S1) (hm : ∀ w1, RM_ w1 S → MU_ (d + 13) 151 [v_R (some 1440), v_I (w_i w 0 (6 * c + 1)), v_I (w_i w 0 (6 * c + 2)), v_I (w_i w 0 (6 * c + 3)), v_I (w_i w 0 (6 * c + 4)), v_I (w_i w 0 (6 * c + 5))] w1 (v_I r) kk S1) (hV : WS_ S1) (hE : WE_ (sm_T S1)) : Stp_ L xs c d 232 w := by
  obtain ⟨h0, hn, hx, hy, hz⟩ := in_0 I
  obtain ⟨w1, σ1, e1, e2, e3, e4, q1⟩ := hc
  have hM : RM_ w1 S := RM_ag I.2.1 fun a h1 h2 => e1 a (Or.inr ⟨h1, by omega⟩)
  obtain ⟨w2, f1, f2, f3, q2⟩ := hm w1 hM
  have k0 := e1 0 (Or.inl (by omega))
  have s1 : w_s w1 = w_s w := congrArg Prod.fst e3
  intro a5 a6 a7
  exact ⟨w2, a5, a6, a7, G1, σ1, S1, jn_ I (fun a h => e1 a h) (by omega) (by omega) e4 f1 f2 hV hE, fun Q => lc_0 h0 hn hL hi hx hM.1.1 (k0.1.trans h0) (k0.2.1.trans hn) (fun k => k0.2.2.2 k) q1 q2⟩
theorem sp_1 {r : Int32} (I : In_ L xs c w G σ S) (hL : L ≤ 384) (hi : 6 * c + 6 ≤ L) (hc : CF_ (d + 12) 65 [v_R (some 1000), v_I (w_i w 0 (6 * c + 1))] w (v_I r) G1 S1) (hm : ∀ w1, RM_ w1 S → MU_ (d + 13) 152 [v_R (some 1440), v_I (w_i w 0 (6 * c + 1))] w1 (v_I r) 0 S1) (hV : WS_ S1) (hE : WE_ (sm_T S1)) : Stp_ L xs c d 305 w := by
  obtain ⟨h0, hn, hx, hy, hz⟩ := in_0 I
  obtain ⟨w1, σ1, e1, e2, e3, e4, q1⟩ := hc
  have k6 := e1 1476 (Or.inr ⟨by omega, by omega⟩)
  have t6 : w_t w1 1476 = 4 := k6.1.trans I.2.2.2.2.2.1.1
  have n6 : w_n w1 1476 = 1 := k6.2.1.trans I.2.2.2.2.2.1.2
  have hM : RM_ (s_l w1 1476 0 r.toInt64) S := RM_ag I.2.1 fun a h1 h2 => e1 a (Or.inr ⟨h1, by omega⟩)
  obtain ⟨w2, f1, f2, f3, q2⟩ := hm _ hM
  have k0 := e1 0 (Or.inl (by omega))
  have s1 : w_s w1 = w_s w := congrArg Prod.fst e3
  intro a5 a6 a7
  refine ⟨w2, some (v_I (Int32.ofNat 0)), some (v_I r), a7, G1, σ1, S1, jn_ (w1 := s_l w1 1476 0 r.toInt64) I (fun a h => e1 a h) (by rw [z_sl]; omega) (by show w_s w1 ≤ _; omega) (RC_sl e4 hV) f1 f2 hV hE, fun Q => lc_1 (kk := 0) h0 hn hL hi hx hM.1.1 (k0.1.trans h0) (k0.2.1.trans hn) (fun k => k0.2.2.2 k) f2.1.1 ?_ ?_ (fun Q => lw_ok_1 hx t6 n6 q1) q2 (by omega) f3 fun _ => ?_⟩
  · rw [f1.1]; exact t6
  · rw [f1.2.1]; exact n6
  · have := congrArg Prod.snd f1.2.2.2.2.1
    have h2 : w_l w2 1476 = w_l (s_l w1 1476 0 r.toInt64) 1476 := this
    rw [h2, l_sl, if_pos ⟨rfl, rfl⟩]
theorem sx_1_1 {r : Int32} (I : In_ L xs c w G σ S) (hL : L ≤ 384) (hi : 6 * c + 6 ≤ L) (hc : CXF_ (d + 12) 65 [v_R (some 1000), v_I (w_i w 0 (6 * c + 1))] w 39 G1 S1) (hm : ∀ w1, RM_ w1 S → MU_ (d + 13) 152 [v_R (some 1440), v_I (w_i w 0 (6 * c + 1))] w1 (v_I r) 1 S1) (hV : WS_ S1) (hE : WE_ (sm_T S1)) : Stp_ L xs c d 305 w := by
  obtain ⟨h0, hn, hx, hy, hz⟩ := in_0 I
  obtain ⟨w1, σ1, e1, e2, e3, e4, q1⟩ := hc
  have eN : ∀ a, a < 1000 ∨ (1440 ≤ a ∧ a ≤ 1476) → Eq_ w (s_n w1 39 6) a := fun a h => eq_tr (e1 a h) ⟨by rw [t_sn, if_neg (by omega)], by rw [n_sn, if_neg (by omega)], fun k => by rw [r_sn, if_neg (by omega)], fun k => by rw [i_sn, if_neg (by omega)]⟩
  have k6 := eN 1476 (Or.inr ⟨by omega, by omega⟩)
  have t6 : w_t (s_n w1 39 6) 1476 = 4 := k6.1.trans I.2.2.2.2.2.1.1
  have n6 : w_n (s_n w1 39 6) 1476 = 1 := k6.2.1.trans I.2.2.2.2.2.1.2
  have hM : RM_ (s_n w1 39 6) S := RM_ag I.2.1 fun a h1 h2 => eN a (Or.inr ⟨h1, by omega⟩)
  obtain ⟨w2, f1, f2, f3, q2⟩ := hm _ hM
  have k0 := eN 0 (Or.inl (by omega))
  have s1 : w_s w1 = w_s w := congrArg Prod.fst e3
  intro a5 a6 a7
  refine ⟨w2, some (v_I (Int32.ofNat 1)), some (v_I r), a7, G1, σ1, S1, jn_ (w1 := s_n w1 39 6) I (fun a h => eN a h) (by rw [z_sn]; omega) (by rw [s_sn]; omega) (RC_sn e4 hV) f1 f2 hV hE, fun Q => lc_1 (kk := 1) h0 hn hL hi hx hM.1.1 (k0.1.trans h0) (k0.2.1.trans hn) (fun k => k0.2.2.2 k) f2.1.1 ?_ ?_ (fun Q => lw_ex_1_39 hx q1) q2 (by omega) f3 fun h => absurd h (by omega)⟩
  · rw [f1.1]; exact t6
  · rw [f1.2.1]; exact n6
theorem sp_2 {r : Int32} {kk : Nat} (I : In_ L xs c w G σ S) (hL : L ≤ 384) (hi : 6 * c + 6 ≤ L) (hc : CF_ (d + 13) 26 [v_R (some 1000)] w (v_I r) G1 S1) (hm : ∀ w1, RM_ w1 S → MU_ (d + 13) 176 [v_R (some 1440)] w1 (v_I r) kk S1) (hV : WS_ S1) (hE : WE_ (sm_T S1)) : Stp_ L xs c d 361 w := by
  obtain ⟨h0, hn, hx, hy, hz⟩ := in_0 I
  obtain ⟨w1, σ1, e1, e2, e3, e4, q1⟩ := hc
  have hM : RM_ w1 S := RM_ag I.2.1 fun a h1 h2 => e1 a (Or.inr ⟨h1, by omega⟩)
  obtain ⟨w2, f1, f2, f3, q2⟩ := hm w1 hM
  have k0 := e1 0 (Or.inl (by omega))
  have s1 : w_s w1 = w_s w := congrArg Prod.fst e3
  intro a5 a6 a7
  exact ⟨w2, a5, a6, a7, G1, σ1, S1, jn_ I (fun a h => e1 a h) (by omega) (by omega) e4 f1 f2 hV hE, fun Q => lc_2 h0 hn hL hi hx hM.1.1 (k0.1.trans h0) (k0.2.1.trans hn) (fun k => k0.2.2.2 k) q1 q2⟩
theorem sp_3 {r : Int32} (I : In_ L xs c w G σ S) (hL : L ≤ 384) (hi : 6 * c + 6 ≤ L) (hc : CF_ (d + 12) 67 [v_R (some 1000), v_I (w_i w 0 (6 * c + 1))] w (v_I r) G1 S1) (hm : ∀ w1, RM_ w1 S → MU_ (d + 13) 177 [v_R (some 1440), v_I (w_i w 0 (6 * c + 1))] w1 (v_I r) 0 S1) (hV : WS_ S1) (hE : WE_ (sm_T S1)) : Stp_ L xs c d 374 w := by
  obtain ⟨h0, hn, hx, hy, hz⟩ := in_0 I
  obtain ⟨w1, σ1, e1, e2, e3, e4, q1⟩ := hc
  have k6 := e1 1476 (Or.inr ⟨by omega, by omega⟩)
  have t6 : w_t w1 1476 = 4 := k6.1.trans I.2.2.2.2.2.1.1
  have n6 : w_n w1 1476 = 1 := k6.2.1.trans I.2.2.2.2.2.1.2
  have hM : RM_ (s_l w1 1476 0 r.toInt64) S := RM_ag I.2.1 fun a h1 h2 => e1 a (Or.inr ⟨h1, by omega⟩)
  obtain ⟨w2, f1, f2, f3, q2⟩ := hm _ hM
  have k0 := e1 0 (Or.inl (by omega))
  have s1 : w_s w1 = w_s w := congrArg Prod.fst e3
  intro a5 a6 a7
  refine ⟨w2, some (v_I (Int32.ofNat 0)), some (v_I r), a7, G1, σ1, S1, jn_ (w1 := s_l w1 1476 0 r.toInt64) I (fun a h => e1 a h) (by rw [z_sl]; omega) (by show w_s w1 ≤ _; omega) (RC_sl e4 hV) f1 f2 hV hE, fun Q => lc_3 (kk := 0) h0 hn hL hi hx hM.1.1 (k0.1.trans h0) (k0.2.1.trans hn) (fun k => k0.2.2.2 k) f2.1.1 ?_ ?_ (fun Q => lw_ok_2 hx t6 n6 q1) q2 (by omega) f3 fun _ => ?_⟩
  · rw [f1.1]; exact t6
  · rw [f1.2.1]; exact n6
  · have := congrArg Prod.snd f1.2.2.2.2.1
    have h2 : w_l w2 1476 = w_l (s_l w1 1476 0 r.toInt64) 1476 := this
    rw [h2, l_sl, if_pos ⟨rfl, rfl⟩]
theorem sx_3_1 {r : Int32} (I : In_ L xs c w G σ S) (hL : L ≤ 384) (hi : 6 * c + 6 ≤ L) (hc : CXF_ (d + 12) 67 [v_R (some 1000), v_I (w_i w 0 (6 * c + 1))] w 40 G1 S1) (hm : ∀ w1, RM_ w1 S → MU_ (d + 13) 177 [v_R (some 1440), v_I (w_i w 0 (6 * c + 1))] w1 (v_I r) 1 S1) (hV : WS_ S1) (hE : WE_ (sm_T S1)) : Stp_ L xs c d 374 w := by
  obtain ⟨h0, hn, hx, hy, hz⟩ := in_0 I
  obtain ⟨w1, σ1, e1, e2, e3, e4, q1⟩ := hc
  have eN : ∀ a, a < 1000 ∨ (1440 ≤ a ∧ a ≤ 1476) → Eq_ w (s_n w1 40 6) a := fun a h => eq_tr (e1 a h) ⟨by rw [t_sn, if_neg (by omega)], by rw [n_sn, if_neg (by omega)], fun k => by rw [r_sn, if_neg (by omega)], fun k => by rw [i_sn, if_neg (by omega)]⟩
  have k6 := eN 1476 (Or.inr ⟨by omega, by omega⟩)
  have t6 : w_t (s_n w1 40 6) 1476 = 4 := k6.1.trans I.2.2.2.2.2.1.1
  have n6 : w_n (s_n w1 40 6) 1476 = 1 := k6.2.1.trans I.2.2.2.2.2.1.2
  have hM : RM_ (s_n w1 40 6) S := RM_ag I.2.1 fun a h1 h2 => eN a (Or.inr ⟨h1, by omega⟩)
  obtain ⟨w2, f1, f2, f3, q2⟩ := hm _ hM
  have k0 := eN 0 (Or.inl (by omega))
  have s1 : w_s w1 = w_s w := congrArg Prod.fst e3
  intro a5 a6 a7
  refine ⟨w2, some (v_I (Int32.ofNat 1)), some (v_I r), a7, G1, σ1, S1, jn_ (w1 := s_n w1 40 6) I (fun a h => eN a h) (by rw [z_sn]; omega) (by rw [s_sn]; omega) (RC_sn e4 hV) f1 f2 hV hE, fun Q => lc_3 (kk := 1) h0 hn hL hi hx hM.1.1 (k0.1.trans h0) (k0.2.1.trans hn) (fun k => k0.2.2.2 k) f2.1.1 ?_ ?_ (fun Q => lw_ex_2_40 hx q1) q2 (by omega) f3 fun h => absurd h (by omega)⟩
  · rw [f1.1]; exact t6
  · rw [f1.2.1]; exact n6
theorem sp_4 {r : Int32} (I : In_ L xs c w G σ S) (hL : L ≤ 384) (hi : 6 * c + 6 ≤ L) (hc : CF_ (d + 12) 69 [v_R (some 1000), v_I (w_i w 0 (6 * c + 1)), v_I (w_i w 0 (6 * c + 2))] w (v_I r) G1 S1) (hm : ∀ w1, RM_ w1 S → MU_ (d + 13) 188 [v_R (some 1440), v_I (w_i w 0 (6 * c + 1)), v_I (w_i w 0 (6 * c + 2))] w1 (v_I r) 0 S1) (hV : WS_ S1) (hE : WE_ (sm_T S1)) : Stp_ L xs c d 430 w := by
  obtain ⟨h0, hn, hx, hy, hz⟩ := in_0 I
  obtain ⟨w1, σ1, e1, e2, e3, e4, q1⟩ := hc
  have k6 := e1 1476 (Or.inr ⟨by omega, by omega⟩)
  have t6 : w_t w1 1476 = 4 := k6.1.trans I.2.2.2.2.2.1.1
  have n6 : w_n w1 1476 = 1 := k6.2.1.trans I.2.2.2.2.2.1.2
  have hM : RM_ (s_l w1 1476 0 r.toInt64) S := RM_ag I.2.1 fun a h1 h2 => e1 a (Or.inr ⟨h1, by omega⟩)
  obtain ⟨w2, f1, f2, f3, q2⟩ := hm _ hM
  have k0 := e1 0 (Or.inl (by omega))
  have s1 : w_s w1 = w_s w := congrArg Prod.fst e3
  intro a5 a6 a7
  refine ⟨w2, some (v_I (Int32.ofNat 0)), some (v_I r), a7, G1, σ1, S1, jn_ (w1 := s_l w1 1476 0 r.toInt64) I (fun a h => e1 a h) (by rw [z_sl]; omega) (by show w_s w1 ≤ _; omega) (RC_sl e4 hV) f1 f2 hV hE, fun Q => lc_4 (kk := 0) h0 hn hL hi hx hM.1.1 (k0.1.trans h0) (k0.2.1.trans hn) (fun k => k0.2.2.2 k) f2.1.1 ?_ ?_ (fun Q => lw_ok_3 hx t6 n6 q1) q2 (by omega) f3 fun _ => ?_⟩
  · rw [f1.1]; exact t6
  · rw [f1.2.1]; exact n6
  · have := congrArg Prod.snd f1.2.2.2.2.1
    have h2 : w_l w2 1476 = w_l (s_l w1 1476 0 r.toInt64) 1476 := this
    rw [h2, l_sl, if_pos ⟨rfl, rfl⟩]
theorem sx_4_1 {r : Int32} (I : In_ L xs c w G σ S) (hL : L ≤ 384) (hi : 6 * c + 6 ≤ L) (hc : CXF_ (d + 12) 69 [v_R (some 1000), v_I (w_i w 0 (6 * c + 1)), v_I (w_i w 0 (6 * c + 2))] w 40 G1 S1) (hm : ∀ w1, RM_ w1 S → MU_ (d + 13) 188 [v_R (some 1440), v_I (w_i w 0 (6 * c + 1)), v_I (w_i w 0 (6 * c + 2))] w1 (v_I r) 1 S1) (hV : WS_ S1) (hE : WE_ (sm_T S1)) : Stp_ L xs c d 430 w := by
  obtain ⟨h0, hn, hx, hy, hz⟩ := in_0 I
  obtain ⟨w1, σ1, e1, e2, e3, e4, q1⟩ := hc
  have eN : ∀ a, a < 1000 ∨ (1440 ≤ a ∧ a ≤ 1476) → Eq_ w (s_n w1 40 6) a := fun a h => eq_tr (e1 a h) ⟨by rw [t_sn, if_neg (by omega)], by rw [n_sn, if_neg (by omega)], fun k => by rw [r_sn, if_neg (by omega)], fun k => by rw [i_sn, if_neg (by omega)]⟩
  have k6 := eN 1476 (Or.inr ⟨by omega, by omega⟩)
  have t6 : w_t (s_n w1 40 6) 1476 = 4 := k6.1.trans I.2.2.2.2.2.1.1
  have n6 : w_n (s_n w1 40 6) 1476 = 1 := k6.2.1.trans I.2.2.2.2.2.1.2
  have hM : RM_ (s_n w1 40 6) S := RM_ag I.2.1 fun a h1 h2 => eN a (Or.inr ⟨h1, by omega⟩)
  obtain ⟨w2, f1, f2, f3, q2⟩ := hm _ hM
  have k0 := eN 0 (Or.inl (by omega))
  have s1 : w_s w1 = w_s w := congrArg Prod.fst e3
  intro a5 a6 a7
  refine ⟨w2, some (v_I (Int32.ofNat 1)), some (v_I r), a7, G1, σ1, S1, jn_ (w1 := s_n w1 40 6) I (fun a h => eN a h) (by rw [z_sn]; omega) (by rw [s_sn]; omega) (RC_sn e4 hV) f1 f2 hV hE, fun Q => lc_4 (kk := 1) h0 hn hL hi hx hM.1.1 (k0.1.trans h0) (k0.2.1.trans hn) (fun k => k0.2.2.2 k) f2.1.1 ?_ ?_ (fun Q => lw_ex_3_40 hx q1) q2 (by omega) f3 fun h => absurd h (by omega)⟩
  · rw [f1.1]; exact t6
  · rw [f1.2.1]; exact n6
theorem sp_5 {r : Int32} (I : In_ L xs c w G σ S) (hL : L ≤ 384) (hi : 6 * c + 6 ≤ L) (hc : CF_ (d + 12) 71 [v_R (some 1000), v_I (w_i w 0 (6 * c + 1)), v_I (w_i w 0 (6 * c + 2))] w (v_I r) G1 S1) (hm : ∀ w1, RM_ w1 S → MU_ (d + 13) 194 [v_R (some 1440), v_I (w_i w 0 (6 * c + 1)), v_I (w_i w 0 (6 * c + 2))] w1 (v_I r) 0 S1) (hV : WS_ S1) (hE : WE_ (sm_T S1)) : Stp_ L xs c d 498 w := by
  obtain ⟨h0, hn, hx, hy, hz⟩ := in_0 I
  obtain ⟨w1, σ1, e1, e2, e3, e4, q1⟩ := hc
  have k6 := e1 1476 (Or.inr ⟨by omega, by omega⟩)
  have t6 : w_t w1 1476 = 4 := k6.1.trans I.2.2.2.2.2.1.1
  have n6 : w_n w1 1476 = 1 := k6.2.1.trans I.2.2.2.2.2.1.2
  have hM : RM_ (s_l w1 1476 0 r.toInt64) S := RM_ag I.2.1 fun a h1 h2 => e1 a (Or.inr ⟨h1, by omega⟩)
  obtain ⟨w2, f1, f2, f3, q2⟩ := hm _ hM
  have k0 := e1 0 (Or.inl (by omega))
  have s1 : w_s w1 = w_s w := congrArg Prod.fst e3
  intro a5 a6 a7
  refine ⟨w2, some (v_I (Int32.ofNat 0)), some (v_I r), a7, G1, σ1, S1, jn_ (w1 := s_l w1 1476 0 r.toInt64) I (fun a h => e1 a h) (by rw [z_sl]; omega) (by show w_s w1 ≤ _; omega) (RC_sl e4 hV) f1 f2 hV hE, fun Q => lc_5 (kk := 0) h0 hn hL hi hx hM.1.1 (k0.1.trans h0) (k0.2.1.trans hn) (fun k => k0.2.2.2 k) f2.1.1 ?_ ?_ (fun Q => lw_ok_4 hx t6 n6 q1) q2 (by omega) f3 fun _ => ?_⟩
  · rw [f1.1]; exact t6
  · rw [f1.2.1]; exact n6
  · have := congrArg Prod.snd f1.2.2.2.2.1
    have h2 : w_l w2 1476 = w_l (s_l w1 1476 0 r.toInt64) 1476 := this
    rw [h2, l_sl, if_pos ⟨rfl, rfl⟩]
theorem sx_5_1 {r : Int32} (I : In_ L xs c w G σ S) (hL : L ≤ 384) (hi : 6 * c + 6 ≤ L) (hc : CXF_ (d + 12) 71 [v_R (some 1000), v_I (w_i w 0 (6 * c + 1)), v_I (w_i w 0 (6 * c + 2))] w 40 G1 S1) (hm : ∀ w1, RM_ w1 S → MU_ (d + 13) 194 [v_R (some 1440), v_I (w_i w 0 (6 * c + 1)), v_I (w_i w 0 (6 * c + 2))] w1 (v_I r) 1 S1) (hV : WS_ S1) (hE : WE_ (sm_T S1)) : Stp_ L xs c d 498 w := by
  obtain ⟨h0, hn, hx, hy, hz⟩ := in_0 I
  obtain ⟨w1, σ1, e1, e2, e3, e4, q1⟩ := hc
  have eN : ∀ a, a < 1000 ∨ (1440 ≤ a ∧ a ≤ 1476) → Eq_ w (s_n w1 40 6) a := fun a h => eq_tr (e1 a h) ⟨by rw [t_sn, if_neg (by omega)], by rw [n_sn, if_neg (by omega)], fun k => by rw [r_sn, if_neg (by omega)], fun k => by rw [i_sn, if_neg (by omega)]⟩
  have k6 := eN 1476 (Or.inr ⟨by omega, by omega⟩)
  have t6 : w_t (s_n w1 40 6) 1476 = 4 := k6.1.trans I.2.2.2.2.2.1.1
  have n6 : w_n (s_n w1 40 6) 1476 = 1 := k6.2.1.trans I.2.2.2.2.2.1.2
  have hM : RM_ (s_n w1 40 6) S := RM_ag I.2.1 fun a h1 h2 => eN a (Or.inr ⟨h1, by omega⟩)
  obtain ⟨w2, f1, f2, f3, q2⟩ := hm _ hM
  have k0 := eN 0 (Or.inl (by omega))
  have s1 : w_s w1 = w_s w := congrArg Prod.fst e3
  intro a5 a6 a7
  refine ⟨w2, some (v_I (Int32.ofNat 1)), some (v_I r), a7, G1, σ1, S1, jn_ (w1 := s_n w1 40 6) I (fun a h => eN a h) (by rw [z_sn]; omega) (by rw [s_sn]; omega) (RC_sn e4 hV) f1 f2 hV hE, fun Q => lc_5 (kk := 1) h0 hn hL hi hx hM.1.1 (k0.1.trans h0) (k0.2.1.trans hn) (fun k => k0.2.2.2 k) f2.1.1 ?_ ?_ (fun Q => lw_ex_4_40 hx q1) q2 (by omega) f3 fun h => absurd h (by omega)⟩
  · rw [f1.1]; exact t6
  · rw [f1.2.1]; exact n6
theorem sp_6 {r : Int32} {kk : Nat} (I : In_ L xs c w G σ S) (hL : L ≤ 384) (hi : 6 * c + 6 ≤ L) (hc : CF_ (d + 13) 27 [v_R (some 1000)] w (v_I r) G1 S1) (hm : ∀ w1, RM_ w1 S → MU_ (d + 13) 192 [v_R (some 1440)] w1 (v_I r) kk S1) (hV : WS_ S1) (hE : WE_ (sm_T S1)) : Stp_ L xs c d 566 w := by
  obtain ⟨h0, hn, hx, hy, hz⟩ := in_0 I
  obtain ⟨w1, σ1, e1, e2, e3, e4, q1⟩ := hc
  have hM : RM_ w1 S := RM_ag I.2.1 fun a h1 h2 => e1 a (Or.inr ⟨h1, by omega⟩)
  obtain ⟨w2, f1, f2, f3, q2⟩ := hm w1 hM
  have k0 := e1 0 (Or.inl (by omega))
  have s1 : w_s w1 = w_s w := congrArg Prod.fst e3
  intro a5 a6 a7
  exact ⟨w2, a5, a6, a7, G1, σ1, S1, jn_ I (fun a h => e1 a h) (by omega) (by omega) e4 f1 f2 hV hE, fun Q => lc_6 h0 hn hL hi hx hM.1.1 (k0.1.trans h0) (k0.2.1.trans hn) (fun k => k0.2.2.2 k) q1 q2⟩
theorem sp_7 {r : Int32} (I : In_ L xs c w G σ S) (hL : L ≤ 384) (hi : 6 * c + 6 ≤ L) (hc : CF_ (d + 12) 73 [v_R (some 1000), v_I (w_i w 0 (6 * c + 1)), v_I (w_i w 0 (6 * c + 2))] w (v_I r) G1 S1) (hm : ∀ w1, RM_ w1 S → MU_ (d + 13) 196 [v_R (some 1440), v_I (w_i w 0 (6 * c + 1)), v_I (w_i w 0 (6 * c + 2))] w1 (v_I r) 0 S1) (hV : WS_ S1) (hE : WE_ (sm_T S1)) : Stp_ L xs c d 579 w := by
  obtain ⟨h0, hn, hx, hy, hz⟩ := in_0 I
  obtain ⟨w1, σ1, e1, e2, e3, e4, q1⟩ := hc
  have k6 := e1 1476 (Or.inr ⟨by omega, by omega⟩)
  have t6 : w_t w1 1476 = 4 := k6.1.trans I.2.2.2.2.2.1.1
  have n6 : w_n w1 1476 = 1 := k6.2.1.trans I.2.2.2.2.2.1.2
  have hM : RM_ (s_l w1 1476 0 r.toInt64) S := RM_ag I.2.1 fun a h1 h2 => e1 a (Or.inr ⟨h1, by omega⟩)
  obtain ⟨w2, f1, f2, f3, q2⟩ := hm _ hM
  have k0 := e1 0 (Or.inl (by omega))
  have s1 : w_s w1 = w_s w := congrArg Prod.fst e3
  intro a5 a6 a7
  refine ⟨w2, some (v_I (Int32.ofNat 0)), some (v_I r), a7, G1, σ1, S1, jn_ (w1 := s_l w1 1476 0 r.toInt64) I (fun a h => e1 a h) (by rw [z_sl]; omega) (by show w_s w1 ≤ _; omega) (RC_sl e4 hV) f1 f2 hV hE, fun Q => lc_7 (kk := 0) h0 hn hL hi hx hM.1.1 (k0.1.trans h0) (k0.2.1.trans hn) (fun k => k0.2.2.2 k) f2.1.1 ?_ ?_ (fun Q => lw_ok_5 hx t6 n6 q1) q2 (by omega) f3 fun _ => ?_⟩
  · rw [f1.1]; exact t6
  · rw [f1.2.1]; exact n6
  · have := congrArg Prod.snd f1.2.2.2.2.1
    have h2 : w_l w2 1476 = w_l (s_l w1 1476 0 r.toInt64) 1476 := this
    rw [h2, l_sl, if_pos ⟨rfl, rfl⟩]
theorem sx_7_1 {r : Int32} (I : In_ L xs c w G σ S) (hL : L ≤ 384) (hi : 6 * c + 6 ≤ L) (hc : CXF_ (d + 12) 73 [v_R (some 1000), v_I (w_i w 0 (6 * c + 1)), v_I (w_i w 0 (6 * c + 2))] w 40 G1 S1) (hm : ∀ w1, RM_ w1 S → MU_ (d + 13) 196 [v_R (some 1440), v_I (w_i w 0 (6 * c + 1)), v_I (w_i w 0 (6 * c + 2))] w1 (v_I r) 1 S1) (hV : WS_ S1) (hE : WE_ (sm_T S1)) : Stp_ L xs c d 579 w := by
  obtain ⟨h0, hn, hx, hy, hz⟩ := in_0 I
  obtain ⟨w1, σ1, e1, e2, e3, e4, q1⟩ := hc
  have eN : ∀ a, a < 1000 ∨ (1440 ≤ a ∧ a ≤ 1476) → Eq_ w (s_n w1 40 6) a := fun a h => eq_tr (e1 a h) ⟨by rw [t_sn, if_neg (by omega)], by rw [n_sn, if_neg (by omega)], fun k => by rw [r_sn, if_neg (by omega)], fun k => by rw [i_sn, if_neg (by omega)]⟩
  have k6 := eN 1476 (Or.inr ⟨by omega, by omega⟩)
  have t6 : w_t (s_n w1 40 6) 1476 = 4 := k6.1.trans I.2.2.2.2.2.1.1
  have n6 : w_n (s_n w1 40 6) 1476 = 1 := k6.2.1.trans I.2.2.2.2.2.1.2
  have hM : RM_ (s_n w1 40 6) S := RM_ag I.2.1 fun a h1 h2 => eN a (Or.inr ⟨h1, by omega⟩)
  obtain ⟨w2, f1, f2, f3, q2⟩ := hm _ hM
  have k0 := eN 0 (Or.inl (by omega))
  have s1 : w_s w1 = w_s w := congrArg Prod.fst e3
  intro a5 a6 a7
  refine ⟨w2, some (v_I (Int32.ofNat 1)), some (v_I r), a7, G1, σ1, S1, jn_ (w1 := s_n w1 40 6) I (fun a h => eN a h) (by rw [z_sn]; omega) (by rw [s_sn]; omega) (RC_sn e4 hV) f1 f2 hV hE, fun Q => lc_7 (kk := 1) h0 hn hL hi hx hM.1.1 (k0.1.trans h0) (k0.2.1.trans hn) (fun k => k0.2.2.2 k) f2.1.1 ?_ ?_ (fun Q => lw_ex_5_40 hx q1) q2 (by omega) f3 fun h => absurd h (by omega)⟩
  · rw [f1.1]; exact t6
  · rw [f1.2.1]; exact n6
theorem sp_8 {r : Int32} (I : In_ L xs c w G σ S) (hL : L ≤ 384) (hi : 6 * c + 6 ≤ L) (hc : CF_ (d + 12) 74 [v_R (some 1000), v_I (w_i w 0 (6 * c + 1))] w (v_I r) G1 S1) (hm : ∀ w1, RM_ w1 S → MU_ (d + 13) 200 [v_R (some 1440), v_I (w_i w 0 (6 * c + 1))] w1 (v_I r) 0 S1) (hV : WS_ S1) (hE : WE_ (sm_T S1)) : Stp_ L xs c d 647 w := by
  obtain ⟨h0, hn, hx, hy, hz⟩ := in_0 I
  obtain ⟨w1, σ1, e1, e2, e3, e4, q1⟩ := hc
  have k6 := e1 1476 (Or.inr ⟨by omega, by omega⟩)
  have t6 : w_t w1 1476 = 4 := k6.1.trans I.2.2.2.2.2.1.1
  have n6 : w_n w1 1476 = 1 := k6.2.1.trans I.2.2.2.2.2.1.2
  have hM : RM_ (s_l w1 1476 0 r.toInt64) S := RM_ag I.2.1 fun a h1 h2 => e1 a (Or.inr ⟨h1, by omega⟩)
  obtain ⟨w2, f1, f2, f3, q2⟩ := hm _ hM
  have k0 := e1 0 (Or.inl (by omega))
  have s1 : w_s w1 = w_s w := congrArg Prod.fst e3
  intro a5 a6 a7
  refine ⟨w2, some (v_I (Int32.ofNat 0)), some (v_I r), a7, G1, σ1, S1, jn_ (w1 := s_l w1 1476 0 r.toInt64) I (fun a h => e1 a h) (by rw [z_sl]; omega) (by show w_s w1 ≤ _; omega) (RC_sl e4 hV) f1 f2 hV hE, fun Q => lc_8 (kk := 0) h0 hn hL hi hx hM.1.1 (k0.1.trans h0) (k0.2.1.trans hn) (fun k => k0.2.2.2 k) f2.1.1 ?_ ?_ (fun Q => lw_ok_6 hx t6 n6 q1) q2 (by omega) f3 fun _ => ?_⟩
  · rw [f1.1]; exact t6
  · rw [f1.2.1]; exact n6
  · have := congrArg Prod.snd f1.2.2.2.2.1
    have h2 : w_l w2 1476 = w_l (s_l w1 1476 0 r.toInt64) 1476 := this
    rw [h2, l_sl, if_pos ⟨rfl, rfl⟩]
theorem sx_8_1 {r : Int32} (I : In_ L xs c w G σ S) (hL : L ≤ 384) (hi : 6 * c + 6 ≤ L) (hc : CXF_ (d + 12) 74 [v_R (some 1000), v_I (w_i w 0 (6 * c + 1))] w 40 G1 S1) (hm : ∀ w1, RM_ w1 S → MU_ (d + 13) 200 [v_R (some 1440), v_I (w_i w 0 (6 * c + 1))] w1 (v_I r) 1 S1) (hV : WS_ S1) (hE : WE_ (sm_T S1)) : Stp_ L xs c d 647 w := by
  obtain ⟨h0, hn, hx, hy, hz⟩ := in_0 I
  obtain ⟨w1, σ1, e1, e2, e3, e4, q1⟩ := hc
  have eN : ∀ a, a < 1000 ∨ (1440 ≤ a ∧ a ≤ 1476) → Eq_ w (s_n w1 40 6) a := fun a h => eq_tr (e1 a h) ⟨by rw [t_sn, if_neg (by omega)], by rw [n_sn, if_neg (by omega)], fun k => by rw [r_sn, if_neg (by omega)], fun k => by rw [i_sn, if_neg (by omega)]⟩
  have k6 := eN 1476 (Or.inr ⟨by omega, by omega⟩)
  have t6 : w_t (s_n w1 40 6) 1476 = 4 := k6.1.trans I.2.2.2.2.2.1.1
  have n6 : w_n (s_n w1 40 6) 1476 = 1 := k6.2.1.trans I.2.2.2.2.2.1.2
  have hM : RM_ (s_n w1 40 6) S := RM_ag I.2.1 fun a h1 h2 => eN a (Or.inr ⟨h1, by omega⟩)
  obtain ⟨w2, f1, f2, f3, q2⟩ := hm _ hM
  have k0 := eN 0 (Or.inl (by omega))
  have s1 : w_s w1 = w_s w := congrArg Prod.fst e3
  intro a5 a6 a7
  refine ⟨w2, some (v_I (Int32.ofNat 1)), some (v_I r), a7, G1, σ1, S1, jn_ (w1 := s_n w1 40 6) I (fun a h => eN a h) (by rw [z_sn]; omega) (by rw [s_sn]; omega) (RC_sn e4 hV) f1 f2 hV hE, fun Q => lc_8 (kk := 1) h0 hn hL hi hx hM.1.1 (k0.1.trans h0) (k0.2.1.trans hn) (fun k => k0.2.2.2 k) f2.1.1 ?_ ?_ (fun Q => lw_ex_6_40 hx q1) q2 (by omega) f3 fun h => absurd h (by omega)⟩
  · rw [f1.1]; exact t6
  · rw [f1.2.1]; exact n6
theorem sp_9 {r : Bool} (I : In_ L xs c w G σ S) (hL : L ≤ 384) (hi : 6 * c + 6 ≤ L) (hc : CF_ (d + 12) 75 [v_R (some 1000), v_I (w_i w 0 (6 * c + 1)), v_I (w_i w 0 (6 * c + 2))] w (v_I (b_v r)) G1 S1) (hm : ∀ w1, RM_ w1 S → MU_ (d + 13) 202 [v_R (some 1440), v_I (w_i w 0 (6 * c + 1)), v_I (w_i w 0 (6 * c + 2))] w1 (v_I (b_v r)) 0 S1) (hV : WS_ S1) (hE : WE_ (sm_T S1)) : Stp_ L xs c d 703 w := by
  obtain ⟨h0, hn, hx, hy, hz⟩ := in_0 I
  obtain ⟨w1, σ1, e1, e2, e3, e4, q1⟩ := hc
  have k6 := e1 1476 (Or.inr ⟨by omega, by omega⟩)
  have t6 : w_t w1 1476 = 4 := k6.1.trans I.2.2.2.2.2.1.1
  have n6 : w_n w1 1476 = 1 := k6.2.1.trans I.2.2.2.2.2.1.2
  have hM : RM_ (s_l w1 1476 0 (if r = true then Int64.ofNat 1 else Int64.ofNat 0)) S := RM_ag I.2.1 fun a h1 h2 => e1 a (Or.inr ⟨h1, by omega⟩)
  obtain ⟨w2, f1, f2, f3, q2⟩ := hm _ hM
  have k0 := e1 0 (Or.inl (by omega))
  have s1 : w_s w1 = w_s w := congrArg Prod.fst e3
  intro a5 a6 a7
  refine ⟨w2, some (v_I (Int32.ofNat 0)), some (v_I (b_v r)), a7, G1, σ1, S1, jn_ (w1 := s_l w1 1476 0 (if r = true then Int64.ofNat 1 else Int64.ofNat 0)) I (fun a h => e1 a h) (by rw [z_sl]; omega) (by show w_s w1 ≤ _; omega) (RC_sl e4 hV) f1 f2 hV hE, fun Q => lc_9 (kk := 0) h0 hn hL hi hx hM.1.1 (k0.1.trans h0) (k0.2.1.trans hn) (fun k => k0.2.2.2 k) f2.1.1 ?_ ?_ (fun Q => lw_ok_7 hx t6 n6 q1) q2 (by omega) f3 fun _ => ?_⟩
  · rw [f1.1]; exact t6
  · rw [f1.2.1]; exact n6
  · have := congrArg Prod.snd f1.2.2.2.2.1
    have h2 : w_l w2 1476 = w_l (s_l w1 1476 0 (if r = true then Int64.ofNat 1 else Int64.ofNat 0)) 1476 := this
    rw [h2, l_sl, if_pos ⟨rfl, rfl⟩]
theorem sx_9_1 {r : Bool} (I : In_ L xs c w G σ S) (hL : L ≤ 384) (hi : 6 * c + 6 ≤ L) (hc : CXF_ (d + 12) 75 [v_R (some 1000), v_I (w_i w 0 (6 * c + 1)), v_I (w_i w 0 (6 * c + 2))] w 40 G1 S1) (hm : ∀ w1, RM_ w1 S → MU_ (d + 13) 202 [v_R (some 1440), v_I (w_i w 0 (6 * c + 1)), v_I (w_i w 0 (6 * c + 2))] w1 (v_I (b_v r)) 1 S1) (hV : WS_ S1) (hE : WE_ (sm_T S1)) : Stp_ L xs c d 703 w := by
  obtain ⟨h0, hn, hx, hy, hz⟩ := in_0 I
  obtain ⟨w1, σ1, e1, e2, e3, e4, q1⟩ := hc
  have eN : ∀ a, a < 1000 ∨ (1440 ≤ a ∧ a ≤ 1476) → Eq_ w (s_n w1 40 6) a := fun a h => eq_tr (e1 a h) ⟨by rw [t_sn, if_neg (by omega)], by rw [n_sn, if_neg (by omega)], fun k => by rw [r_sn, if_neg (by omega)], fun k => by rw [i_sn, if_neg (by omega)]⟩
  have k6 := eN 1476 (Or.inr ⟨by omega, by omega⟩)
  have t6 : w_t (s_n w1 40 6) 1476 = 4 := k6.1.trans I.2.2.2.2.2.1.1
  have n6 : w_n (s_n w1 40 6) 1476 = 1 := k6.2.1.trans I.2.2.2.2.2.1.2
  have hM : RM_ (s_n w1 40 6) S := RM_ag I.2.1 fun a h1 h2 => eN a (Or.inr ⟨h1, by omega⟩)
  obtain ⟨w2, f1, f2, f3, q2⟩ := hm _ hM
  have k0 := eN 0 (Or.inl (by omega))
  have s1 : w_s w1 = w_s w := congrArg Prod.fst e3
  intro a5 a6 a7
  refine ⟨w2, some (v_I (Int32.ofNat 1)), some (v_I (b_v r)), a7, G1, σ1, S1, jn_ (w1 := s_n w1 40 6) I (fun a h => eN a h) (by rw [z_sn]; omega) (by rw [s_sn]; omega) (RC_sn e4 hV) f1 f2 hV hE, fun Q => lc_9 (kk := 1) h0 hn hL hi hx hM.1.1 (k0.1.trans h0) (k0.2.1.trans hn) (fun k => k0.2.2.2 k) f2.1.1 ?_ ?_ (fun Q => lw_ex_7_40 hx q1) q2 (by omega) f3 fun h => absurd h (by omega)⟩
  · rw [f1.1]; exact t6
  · rw [f1.2.1]; exact n6
theorem sp_10 {r : Int32} (I : In_ L xs c w G σ S) (hL : L ≤ 384) (hi : 6 * c + 6 ≤ L) (hc : CF_ (d + 12) 76 [v_R (some 1000), v_I (w_i w 0 (6 * c + 1)), v_I (w_i w 0 (6 * c + 2))] w (v_I r) G1 S1) (hm : ∀ w1, RM_ w1 S → MU_ (d + 13) 205 [v_R (some 1440), v_I (w_i w 0 (6 * c + 1)), v_I (w_i w 0 (6 * c + 2))] w1 (v_I r) 0 S1) (hV : WS_ S1) (hE : WE_ (sm_T S1)) : Stp_ L xs c d 778 w := by
  obtain ⟨h0, hn, hx, hy, hz⟩ := in_0 I
  obtain ⟨w1, σ1, e1, e2, e3, e4, q1⟩ := hc
  have k6 := e1 1476 (Or.inr ⟨by omega, by omega⟩)
  have t6 : w_t w1 1476 = 4 := k6.1.trans I.2.2.2.2.2.1.1
  have n6 : w_n w1 1476 = 1 := k6.2.1.trans I.2.2.2.2.2.1.2
  have hM : RM_ (s_l w1 1476 0 r.toInt64) S := RM_ag I.2.1 fun a h1 h2 => e1 a (Or.inr ⟨h1, by omega⟩)
  obtain ⟨w2, f1, f2, f3, q2⟩ := hm _ hM
  have k0 := e1 0 (Or.inl (by omega))
  have s1 : w_s w1 = w_s w := congrArg Prod.fst e3
  intro a5 a6 a7
  refine ⟨w2, some (v_I (Int32.ofNat 0)), some (v_I r), a7, G1, σ1, S1, jn_ (w1 := s_l w1 1476 0 r.toInt64) I (fun a h => e1 a h) (by rw [z_sl]; omega) (by show w_s w1 ≤ _; omega) (RC_sl e4 hV) f1 f2 hV hE, fun Q => lc_10 (kk := 0) h0 hn hL hi hx hM.1.1 (k0.1.trans h0) (k0.2.1.trans hn) (fun k => k0.2.2.2 k) f2.1.1 ?_ ?_ (fun Q => lw_ok_8 hx t6 n6 q1) q2 (by omega) f3 fun _ => ?_⟩
  · rw [f1.1]; exact t6
  · rw [f1.2.1]; exact n6
  · have := congrArg Prod.snd f1.2.2.2.2.1
    have h2 : w_l w2 1476 = w_l (s_l w1 1476 0 r.toInt64) 1476 := this
    rw [h2, l_sl, if_pos ⟨rfl, rfl⟩]
theorem sx_10_1 {r : Int32} (I : In_ L xs c w G σ S) (hL : L ≤ 384) (hi : 6 * c + 6 ≤ L) (hc : CXF_ (d + 12) 76 [v_R (some 1000), v_I (w_i w 0 (6 * c + 1)), v_I (w_i w 0 (6 * c + 2))] w 40 G1 S1) (hm : ∀ w1, RM_ w1 S → MU_ (d + 13) 205 [v_R (some 1440), v_I (w_i w 0 (6 * c + 1)), v_I (w_i w 0 (6 * c + 2))] w1 (v_I r) 1 S1) (hV : WS_ S1) (hE : WE_ (sm_T S1)) : Stp_ L xs c d 778 w := by
  obtain ⟨h0, hn, hx, hy, hz⟩ := in_0 I
  obtain ⟨w1, σ1, e1, e2, e3, e4, q1⟩ := hc
  have eN : ∀ a, a < 1000 ∨ (1440 ≤ a ∧ a ≤ 1476) → Eq_ w (s_n w1 40 6) a := fun a h => eq_tr (e1 a h) ⟨by rw [t_sn, if_neg (by omega)], by rw [n_sn, if_neg (by omega)], fun k => by rw [r_sn, if_neg (by omega)], fun k => by rw [i_sn, if_neg (by omega)]⟩
  have k6 := eN 1476 (Or.inr ⟨by omega, by omega⟩)
  have t6 : w_t (s_n w1 40 6) 1476 = 4 := k6.1.trans I.2.2.2.2.2.1.1
  have n6 : w_n (s_n w1 40 6) 1476 = 1 := k6.2.1.trans I.2.2.2.2.2.1.2
  have hM : RM_ (s_n w1 40 6) S := RM_ag I.2.1 fun a h1 h2 => eN a (Or.inr ⟨h1, by omega⟩)
  obtain ⟨w2, f1, f2, f3, q2⟩ := hm _ hM
  have k0 := eN 0 (Or.inl (by omega))
  have s1 : w_s w1 = w_s w := congrArg Prod.fst e3
  intro a5 a6 a7
  refine ⟨w2, some (v_I (Int32.ofNat 1)), some (v_I r), a7, G1, σ1, S1, jn_ (w1 := s_n w1 40 6) I (fun a h => eN a h) (by rw [z_sn]; omega) (by rw [s_sn]; omega) (RC_sn e4 hV) f1 f2 hV hE, fun Q => lc_10 (kk := 1) h0 hn hL hi hx hM.1.1 (k0.1.trans h0) (k0.2.1.trans hn) (fun k => k0.2.2.2 k) f2.1.1 ?_ ?_ (fun Q => lw_ex_8_40 hx q1) q2 (by omega) f3 fun h => absurd h (by omega)⟩
  · rw [f1.1]; exact t6
  · rw [f1.2.1]; exact n6
theorem sp_11 {r : Int32} (I : In_ L xs c w G σ S) (hL : L ≤ 384) (hi : 6 * c + 6 ≤ L) (hc : CF_ (d + 12) 78 [v_R (some 1000), v_I (w_i w 0 (6 * c + 1)), v_I (w_i w 0 (6 * c + 2))] w (v_I r) G1 S1) (hm : ∀ w1, RM_ w1 S → MU_ (d + 13) 207 [v_R (some 1440), v_I (w_i w 0 (6 * c + 1)), v_I (w_i w 0 (6 * c + 2))] w1 (v_I r) 0 S1) (hV : WS_ S1) (hE : WE_ (sm_T S1)) : Stp_ L xs c d 846 w := by
  obtain ⟨h0, hn, hx, hy, hz⟩ := in_0 I
  obtain ⟨w1, σ1, e1, e2, e3, e4, q1⟩ := hc
  have k6 := e1 1476 (Or.inr ⟨by omega, by omega⟩)
  have t6 : w_t w1 1476 = 4 := k6.1.trans I.2.2.2.2.2.1.1
  have n6 : w_n w1 1476 = 1 := k6.2.1.trans I.2.2.2.2.2.1.2
  have hM : RM_ (s_l w1 1476 0 r.toInt64) S := RM_ag I.2.1 fun a h1 h2 => e1 a (Or.inr ⟨h1, by omega⟩)
  obtain ⟨w2, f1, f2, f3, q2⟩ := hm _ hM
  have k0 := e1 0 (Or.inl (by omega))
  have s1 : w_s w1 = w_s w := congrArg Prod.fst e3
  intro a5 a6 a7
  refine ⟨w2, some (v_I (Int32.ofNat 0)), some (v_I r), a7, G1, σ1, S1, jn_ (w1 := s_l w1 1476 0 r.toInt64) I (fun a h => e1 a h) (by rw [z_sl]; omega) (by show w_s w1 ≤ _; omega) (RC_sl e4 hV) f1 f2 hV hE, fun Q => lc_11 (kk := 0) h0 hn hL hi hx hM.1.1 (k0.1.trans h0) (k0.2.1.trans hn) (fun k => k0.2.2.2 k) f2.1.1 ?_ ?_ (fun Q => lw_ok_9 hx t6 n6 q1) q2 (by omega) f3 fun _ => ?_⟩
  · rw [f1.1]; exact t6
  · rw [f1.2.1]; exact n6
  · have := congrArg Prod.snd f1.2.2.2.2.1
    have h2 : w_l w2 1476 = w_l (s_l w1 1476 0 r.toInt64) 1476 := this
    rw [h2, l_sl, if_pos ⟨rfl, rfl⟩]
theorem sx_11_1 {r : Int32} (I : In_ L xs c w G σ S) (hL : L ≤ 384) (hi : 6 * c + 6 ≤ L) (hc : CXF_ (d + 12) 78 [v_R (some 1000), v_I (w_i w 0 (6 * c + 1)), v_I (w_i w 0 (6 * c + 2))] w 40 G1 S1) (hm : ∀ w1, RM_ w1 S → MU_ (d + 13) 207 [v_R (some 1440), v_I (w_i w 0 (6 * c + 1)), v_I (w_i w 0 (6 * c + 2))] w1 (v_I r) 1 S1) (hV : WS_ S1) (hE : WE_ (sm_T S1)) : Stp_ L xs c d 846 w := by
  obtain ⟨h0, hn, hx, hy, hz⟩ := in_0 I
  obtain ⟨w1, σ1, e1, e2, e3, e4, q1⟩ := hc
  have eN : ∀ a, a < 1000 ∨ (1440 ≤ a ∧ a ≤ 1476) → Eq_ w (s_n w1 40 6) a := fun a h => eq_tr (e1 a h) ⟨by rw [t_sn, if_neg (by omega)], by rw [n_sn, if_neg (by omega)], fun k => by rw [r_sn, if_neg (by omega)], fun k => by rw [i_sn, if_neg (by omega)]⟩
  have k6 := eN 1476 (Or.inr ⟨by omega, by omega⟩)
  have t6 : w_t (s_n w1 40 6) 1476 = 4 := k6.1.trans I.2.2.2.2.2.1.1
  have n6 : w_n (s_n w1 40 6) 1476 = 1 := k6.2.1.trans I.2.2.2.2.2.1.2
  have hM : RM_ (s_n w1 40 6) S := RM_ag I.2.1 fun a h1 h2 => eN a (Or.inr ⟨h1, by omega⟩)
  obtain ⟨w2, f1, f2, f3, q2⟩ := hm _ hM
  have k0 := eN 0 (Or.inl (by omega))
  have s1 : w_s w1 = w_s w := congrArg Prod.fst e3
  intro a5 a6 a7
  refine ⟨w2, some (v_I (Int32.ofNat 1)), some (v_I r), a7, G1, σ1, S1, jn_ (w1 := s_n w1 40 6) I (fun a h => eN a h) (by rw [z_sn]; omega) (by rw [s_sn]; omega) (RC_sn e4 hV) f1 f2 hV hE, fun Q => lc_11 (kk := 1) h0 hn hL hi hx hM.1.1 (k0.1.trans h0) (k0.2.1.trans hn) (fun k => k0.2.2.2 k) f2.1.1 ?_ ?_ (fun Q => lw_ex_9_40 hx q1) q2 (by omega) f3 fun h => absurd h (by omega)⟩
  · rw [f1.1]; exact t6
  · rw [f1.2.1]; exact n6
theorem sp_12 {r : Int32} {kk : Nat} (I : In_ L xs c w G σ S) (hL : L ≤ 384) (hi : 6 * c + 6 ≤ L) (hc : CF_ (d + 13) 29 [v_R (some 1000)] w (v_I r) G1 S1) (hm : ∀ w1, RM_ w1 S → MU_ (d + 13) 208 [v_R (some 1440)] w1 (v_I r) kk S1) (hV : WS_ S1) (hE : WE_ (sm_T S1)) : Stp_ L xs c d 914 w := by
  obtain ⟨h0, hn, hx, hy, hz⟩ := in_0 I
  obtain ⟨w1, σ1, e1, e2, e3, e4, q1⟩ := hc
  have hM : RM_ w1 S := RM_ag I.2.1 fun a h1 h2 => e1 a (Or.inr ⟨h1, by omega⟩)
  obtain ⟨w2, f1, f2, f3, q2⟩ := hm w1 hM
  have k0 := e1 0 (Or.inl (by omega))
  have s1 : w_s w1 = w_s w := congrArg Prod.fst e3
  intro a5 a6 a7
  exact ⟨w2, a5, a6, a7, G1, σ1, S1, jn_ I (fun a h => e1 a h) (by omega) (by omega) e4 f1 f2 hV hE, fun Q => lc_12 h0 hn hL hi hx hM.1.1 (k0.1.trans h0) (k0.2.1.trans hn) (fun k => k0.2.2.2 k) q1 q2⟩
theorem sp_13 {r : Int32} {kk : Nat} (I : In_ L xs c w G σ S) (hL : L ≤ 384) (hi : 6 * c + 6 ≤ L) (hc : CF_ (d + 13) 30 [v_R (some 1000), v_I (w_i w 0 (6 * c + 1))] w (v_I r) G1 S1) (hm : ∀ w1, RM_ w1 S → MU_ (d + 13) 212 [v_R (some 1440), v_I (w_i w 0 (6 * c + 1))] w1 (v_I r) kk S1) (hV : WS_ S1) (hE : WE_ (sm_T S1)) : Stp_ L xs c d 927 w := by
  obtain ⟨h0, hn, hx, hy, hz⟩ := in_0 I
  obtain ⟨w1, σ1, e1, e2, e3, e4, q1⟩ := hc
  have hM : RM_ w1 S := RM_ag I.2.1 fun a h1 h2 => e1 a (Or.inr ⟨h1, by omega⟩)
  obtain ⟨w2, f1, f2, f3, q2⟩ := hm w1 hM
  have k0 := e1 0 (Or.inl (by omega))
  have s1 : w_s w1 = w_s w := congrArg Prod.fst e3
  intro a5 a6 a7
  exact ⟨w2, a5, a6, a7, G1, σ1, S1, jn_ I (fun a h => e1 a h) (by omega) (by omega) e4 f1 f2 hV hE, fun Q => lc_13 h0 hn hL hi hx hM.1.1 (k0.1.trans h0) (k0.2.1.trans hn) (fun k => k0.2.2.2 k) q1 q2⟩
theorem sp_14 {r : Int32} {kk : Nat} (I : In_ L xs c w G σ S) (hL : L ≤ 384) (hi : 6 * c + 6 ≤ L) (hc : CF_ (d + 13) 34 [v_R (some 1000)] w (v_I r) G1 S1) (hm : ∀ w1, RM_ w1 S → MU_ (d + 13) 213 [v_R (some 1440)] w1 (v_I r) kk S1) (hV : WS_ S1) (hE : WE_ (sm_T S1)) : Stp_ L xs c d 952 w := by
  obtain ⟨h0, hn, hx, hy, hz⟩ := in_0 I
  obtain ⟨w1, σ1, e1, e2, e3, e4, q1⟩ := hc
  have hM : RM_ w1 S := RM_ag I.2.1 fun a h1 h2 => e1 a (Or.inr ⟨h1, by omega⟩)
  obtain ⟨w2, f1, f2, f3, q2⟩ := hm w1 hM
  have k0 := e1 0 (Or.inl (by omega))
  have s1 : w_s w1 = w_s w := congrArg Prod.fst e3
  intro a5 a6 a7
  exact ⟨w2, a5, a6, a7, G1, σ1, S1, jn_ I (fun a h => e1 a h) (by omega) (by omega) e4 f1 f2 hV hE, fun Q => lc_14 h0 hn hL hi hx hM.1.1 (k0.1.trans h0) (k0.2.1.trans hn) (fun k => k0.2.2.2 k) q1 q2⟩
theorem sp_15 {r : Int32} {kk : Nat} (I : In_ L xs c w G σ S) (hL : L ≤ 384) (hi : 6 * c + 6 ≤ L) (hc : CF_ (d + 13) 35 [v_R (some 1000)] w (v_I r) G1 S1) (hm : ∀ w1, RM_ w1 S → MU_ (d + 13) 215 [v_R (some 1440)] w1 (v_I r) kk S1) (hV : WS_ S1) (hE : WE_ (sm_T S1)) : Stp_ L xs c d 965 w := by
  obtain ⟨h0, hn, hx, hy, hz⟩ := in_0 I
  obtain ⟨w1, σ1, e1, e2, e3, e4, q1⟩ := hc
  have hM : RM_ w1 S := RM_ag I.2.1 fun a h1 h2 => e1 a (Or.inr ⟨h1, by omega⟩)
  obtain ⟨w2, f1, f2, f3, q2⟩ := hm w1 hM
  have k0 := e1 0 (Or.inl (by omega))
  have s1 : w_s w1 = w_s w := congrArg Prod.fst e3
  intro a5 a6 a7
  exact ⟨w2, a5, a6, a7, G1, σ1, S1, jn_ I (fun a h => e1 a h) (by omega) (by omega) e4 f1 f2 hV hE, fun Q => lc_15 h0 hn hL hi hx hM.1.1 (k0.1.trans h0) (k0.2.1.trans hn) (fun k => k0.2.2.2 k) q1 q2⟩
theorem sp_16 {r : Bool} (I : In_ L xs c w G σ S) (hL : L ≤ 384) (hi : 6 * c + 6 ≤ L) (hc : CF_ (d + 12) 79 [v_R (some 1000), v_I (w_i w 0 (6 * c + 1))] w (v_I (b_v r)) G1 S1) (hm : ∀ w1, RM_ w1 S → MU_ (d + 13) 217 [v_R (some 1440), v_I (w_i w 0 (6 * c + 1))] w1 (v_I (b_v r)) 0 S1) (hV : WS_ S1) (hE : WE_ (sm_T S1)) : Stp_ L xs c d 978 w := by
  obtain ⟨h0, hn, hx, hy, hz⟩ := in_0 I
  obtain ⟨w1, σ1, e1, e2, e3, e4, q1⟩ := hc
  have k6 := e1 1476 (Or.inr ⟨by omega, by omega⟩)
  have t6 : w_t w1 1476 = 4 := k6.1.trans I.2.2.2.2.2.1.1
  have n6 : w_n w1 1476 = 1 := k6.2.1.trans I.2.2.2.2.2.1.2
  have hM : RM_ (s_l w1 1476 0 (if r = true then Int64.ofNat 1 else Int64.ofNat 0)) S := RM_ag I.2.1 fun a h1 h2 => e1 a (Or.inr ⟨h1, by omega⟩)
  obtain ⟨w2, f1, f2, f3, q2⟩ := hm _ hM
  have k0 := e1 0 (Or.inl (by omega))
  have s1 : w_s w1 = w_s w := congrArg Prod.fst e3
  intro a5 a6 a7
  refine ⟨w2, some (v_I (Int32.ofNat 0)), some (v_I (b_v r)), a7, G1, σ1, S1, jn_ (w1 := s_l w1 1476 0 (if r = true then Int64.ofNat 1 else Int64.ofNat 0)) I (fun a h => e1 a h) (by rw [z_sl]; omega) (by show w_s w1 ≤ _; omega) (RC_sl e4 hV) f1 f2 hV hE, fun Q => lc_16 (kk := 0) h0 hn hL hi hx hM.1.1 (k0.1.trans h0) (k0.2.1.trans hn) (fun k => k0.2.2.2 k) f2.1.1 ?_ ?_ (fun Q => lw_ok_10 hx t6 n6 q1) q2 (by omega) f3 fun _ => ?_⟩
  · rw [f1.1]; exact t6
  · rw [f1.2.1]; exact n6
  · have := congrArg Prod.snd f1.2.2.2.2.1
    have h2 : w_l w2 1476 = w_l (s_l w1 1476 0 (if r = true then Int64.ofNat 1 else Int64.ofNat 0)) 1476 := this
    rw [h2, l_sl, if_pos ⟨rfl, rfl⟩]
theorem sx_16_1 {r : Bool} (I : In_ L xs c w G σ S) (hL : L ≤ 384) (hi : 6 * c + 6 ≤ L) (hc : CXF_ (d + 12) 79 [v_R (some 1000), v_I (w_i w 0 (6 * c + 1))] w 40 G1 S1) (hm : ∀ w1, RM_ w1 S → MU_ (d + 13) 217 [v_R (some 1440), v_I (w_i w 0 (6 * c + 1))] w1 (v_I (b_v r)) 1 S1) (hV : WS_ S1) (hE : WE_ (sm_T S1)) : Stp_ L xs c d 978 w := by
  obtain ⟨h0, hn, hx, hy, hz⟩ := in_0 I
  obtain ⟨w1, σ1, e1, e2, e3, e4, q1⟩ := hc
  have eN : ∀ a, a < 1000 ∨ (1440 ≤ a ∧ a ≤ 1476) → Eq_ w (s_n w1 40 6) a := fun a h => eq_tr (e1 a h) ⟨by rw [t_sn, if_neg (by omega)], by rw [n_sn, if_neg (by omega)], fun k => by rw [r_sn, if_neg (by omega)], fun k => by rw [i_sn, if_neg (by omega)]⟩
  have k6 := eN 1476 (Or.inr ⟨by omega, by omega⟩)
  have t6 : w_t (s_n w1 40 6) 1476 = 4 := k6.1.trans I.2.2.2.2.2.1.1
  have n6 : w_n (s_n w1 40 6) 1476 = 1 := k6.2.1.trans I.2.2.2.2.2.1.2
  have hM : RM_ (s_n w1 40 6) S := RM_ag I.2.1 fun a h1 h2 => eN a (Or.inr ⟨h1, by omega⟩)
  obtain ⟨w2, f1, f2, f3, q2⟩ := hm _ hM
  have k0 := eN 0 (Or.inl (by omega))
  have s1 : w_s w1 = w_s w := congrArg Prod.fst e3
  intro a5 a6 a7
  refine ⟨w2, some (v_I (Int32.ofNat 1)), some (v_I (b_v r)), a7, G1, σ1, S1, jn_ (w1 := s_n w1 40 6) I (fun a h => eN a h) (by rw [z_sn]; omega) (by rw [s_sn]; omega) (RC_sn e4 hV) f1 f2 hV hE, fun Q => lc_16 (kk := 1) h0 hn hL hi hx hM.1.1 (k0.1.trans h0) (k0.2.1.trans hn) (fun k => k0.2.2.2 k) f2.1.1 ?_ ?_ (fun Q => lw_ex_10_40 hx q1) q2 (by omega) f3 fun h => absurd h (by omega)⟩
  · rw [f1.1]; exact t6
  · rw [f1.2.1]; exact n6
theorem sp_17 {r : Int32} (I : In_ L xs c w G σ S) (hL : L ≤ 384) (hi : 6 * c + 6 ≤ L) (hc : CF_ (d + 12) 80 [v_R (some 1000), v_I (w_i w 0 (6 * c + 1))] w (v_I r) G1 S1) (hm : ∀ w1, RM_ w1 S → MU_ (d + 13) 218 [v_R (some 1440), v_I (w_i w 0 (6 * c + 1))] w1 (v_I r) 0 S1) (hV : WS_ S1) (hE : WE_ (sm_T S1)) : Stp_ L xs c d 1041 w := by
  obtain ⟨h0, hn, hx, hy, hz⟩ := in_0 I
  obtain ⟨w1, σ1, e1, e2, e3, e4, q1⟩ := hc
  have k6 := e1 1476 (Or.inr ⟨by omega, by omega⟩)
  have t6 : w_t w1 1476 = 4 := k6.1.trans I.2.2.2.2.2.1.1
  have n6 : w_n w1 1476 = 1 := k6.2.1.trans I.2.2.2.2.2.1.2
  have hM : RM_ (s_l w1 1476 0 r.toInt64) S := RM_ag I.2.1 fun a h1 h2 => e1 a (Or.inr ⟨h1, by omega⟩)
  obtain ⟨w2, f1, f2, f3, q2⟩ := hm _ hM
  have k0 := e1 0 (Or.inl (by omega))
  have s1 : w_s w1 = w_s w := congrArg Prod.fst e3
  intro a5 a6 a7
  refine ⟨w2, some (v_I (Int32.ofNat 0)), some (v_I r), a7, G1, σ1, S1, jn_ (w1 := s_l w1 1476 0 r.toInt64) I (fun a h => e1 a h) (by rw [z_sl]; omega) (by show w_s w1 ≤ _; omega) (RC_sl e4 hV) f1 f2 hV hE, fun Q => lc_17 (kk := 0) h0 hn hL hi hx hM.1.1 (k0.1.trans h0) (k0.2.1.trans hn) (fun k => k0.2.2.2 k) f2.1.1 ?_ ?_ (fun Q => lw_ok_11 hx t6 n6 q1) q2 (by omega) f3 fun _ => ?_⟩
  · rw [f1.1]; exact t6
  · rw [f1.2.1]; exact n6
  · have := congrArg Prod.snd f1.2.2.2.2.1
    have h2 : w_l w2 1476 = w_l (s_l w1 1476 0 r.toInt64) 1476 := this
    rw [h2, l_sl, if_pos ⟨rfl, rfl⟩]
theorem sx_17_1 {r : Int32} (I : In_ L xs c w G σ S) (hL : L ≤ 384) (hi : 6 * c + 6 ≤ L) (hc : CXF_ (d + 12) 80 [v_R (some 1000), v_I (w_i w 0 (6 * c + 1))] w 40 G1 S1) (hm : ∀ w1, RM_ w1 S → MU_ (d + 13) 218 [v_R (some 1440), v_I (w_i w 0 (6 * c + 1))] w1 (v_I r) 1 S1) (hV : WS_ S1) (hE : WE_ (sm_T S1)) : Stp_ L xs c d 1041 w := by
  obtain ⟨h0, hn, hx, hy, hz⟩ := in_0 I
  obtain ⟨w1, σ1, e1, e2, e3, e4, q1⟩ := hc
  have eN : ∀ a, a < 1000 ∨ (1440 ≤ a ∧ a ≤ 1476) → Eq_ w (s_n w1 40 6) a := fun a h => eq_tr (e1 a h) ⟨by rw [t_sn, if_neg (by omega)], by rw [n_sn, if_neg (by omega)], fun k => by rw [r_sn, if_neg (by omega)], fun k => by rw [i_sn, if_neg (by omega)]⟩
  have k6 := eN 1476 (Or.inr ⟨by omega, by omega⟩)
  have t6 : w_t (s_n w1 40 6) 1476 = 4 := k6.1.trans I.2.2.2.2.2.1.1
  have n6 : w_n (s_n w1 40 6) 1476 = 1 := k6.2.1.trans I.2.2.2.2.2.1.2
  have hM : RM_ (s_n w1 40 6) S := RM_ag I.2.1 fun a h1 h2 => eN a (Or.inr ⟨h1, by omega⟩)
  obtain ⟨w2, f1, f2, f3, q2⟩ := hm _ hM
  have k0 := eN 0 (Or.inl (by omega))
  have s1 : w_s w1 = w_s w := congrArg Prod.fst e3
  intro a5 a6 a7
  refine ⟨w2, some (v_I (Int32.ofNat 1)), some (v_I r), a7, G1, σ1, S1, jn_ (w1 := s_n w1 40 6) I (fun a h => eN a h) (by rw [z_sn]; omega) (by rw [s_sn]; omega) (RC_sn e4 hV) f1 f2 hV hE, fun Q => lc_17 (kk := 1) h0 hn hL hi hx hM.1.1 (k0.1.trans h0) (k0.2.1.trans hn) (fun k => k0.2.2.2 k) f2.1.1 ?_ ?_ (fun Q => lw_ex_11_40 hx q1) q2 (by omega) f3 fun h => absurd h (by omega)⟩
  · rw [f1.1]; exact t6
  · rw [f1.2.1]; exact n6
theorem sp_18 {r : Int32} (I : In_ L xs c w G σ S) (hL : L ≤ 384) (hi : 6 * c + 6 ≤ L) (hc : CF_ (d + 12) 82 [v_R (some 1000), v_I (w_i w 0 (6 * c + 1))] w (v_I r) G1 S1) (hm : ∀ w1, RM_ w1 S → MU_ (d + 13) 225 [v_R (some 1440), v_I (w_i w 0 (6 * c + 1))] w1 (v_I r) 0 S1) (hV : WS_ S1) (hE : WE_ (sm_T S1)) : Stp_ L xs c d 1097 w := by
  obtain ⟨h0, hn, hx, hy, hz⟩ := in_0 I
  obtain ⟨w1, σ1, e1, e2, e3, e4, q1⟩ := hc
  have k6 := e1 1476 (Or.inr ⟨by omega, by omega⟩)
  have t6 : w_t w1 1476 = 4 := k6.1.trans I.2.2.2.2.2.1.1
  have n6 : w_n w1 1476 = 1 := k6.2.1.trans I.2.2.2.2.2.1.2
  have hM : RM_ (s_l w1 1476 0 r.toInt64) S := RM_ag I.2.1 fun a h1 h2 => e1 a (Or.inr ⟨h1, by omega⟩)
  obtain ⟨w2, f1, f2, f3, q2⟩ := hm _ hM
  have k0 := e1 0 (Or.inl (by omega))
  have s1 : w_s w1 = w_s w := congrArg Prod.fst e3
  intro a5 a6 a7
  refine ⟨w2, some (v_I (Int32.ofNat 0)), some (v_I r), a7, G1, σ1, S1, jn_ (w1 := s_l w1 1476 0 r.toInt64) I (fun a h => e1 a h) (by rw [z_sl]; omega) (by show w_s w1 ≤ _; omega) (RC_sl e4 hV) f1 f2 hV hE, fun Q => lc_18 (kk := 0) h0 hn hL hi hx hM.1.1 (k0.1.trans h0) (k0.2.1.trans hn) (fun k => k0.2.2.2 k) f2.1.1 ?_ ?_ (fun Q => lw_ok_12 hx t6 n6 q1) q2 (by omega) f3 fun _ => ?_⟩
  · rw [f1.1]; exact t6
  · rw [f1.2.1]; exact n6
  · have := congrArg Prod.snd f1.2.2.2.2.1
    have h2 : w_l w2 1476 = w_l (s_l w1 1476 0 r.toInt64) 1476 := this
    rw [h2, l_sl, if_pos ⟨rfl, rfl⟩]
theorem sx_18_1 {r : Int32} (I : In_ L xs c w G σ S) (hL : L ≤ 384) (hi : 6 * c + 6 ≤ L) (hc : CXF_ (d + 12) 82 [v_R (some 1000), v_I (w_i w 0 (6 * c + 1))] w 40 G1 S1) (hm : ∀ w1, RM_ w1 S → MU_ (d + 13) 225 [v_R (some 1440), v_I (w_i w 0 (6 * c + 1))] w1 (v_I r) 1 S1) (hV : WS_ S1) (hE : WE_ (sm_T S1)) : Stp_ L xs c d 1097 w := by
  obtain ⟨h0, hn, hx, hy, hz⟩ := in_0 I
  obtain ⟨w1, σ1, e1, e2, e3, e4, q1⟩ := hc
  have eN : ∀ a, a < 1000 ∨ (1440 ≤ a ∧ a ≤ 1476) → Eq_ w (s_n w1 40 6) a := fun a h => eq_tr (e1 a h) ⟨by rw [t_sn, if_neg (by omega)], by rw [n_sn, if_neg (by omega)], fun k => by rw [r_sn, if_neg (by omega)], fun k => by rw [i_sn, if_neg (by omega)]⟩
  have k6 := eN 1476 (Or.inr ⟨by omega, by omega⟩)
  have t6 : w_t (s_n w1 40 6) 1476 = 4 := k6.1.trans I.2.2.2.2.2.1.1
  have n6 : w_n (s_n w1 40 6) 1476 = 1 := k6.2.1.trans I.2.2.2.2.2.1.2
  have hM : RM_ (s_n w1 40 6) S := RM_ag I.2.1 fun a h1 h2 => eN a (Or.inr ⟨h1, by omega⟩)
  obtain ⟨w2, f1, f2, f3, q2⟩ := hm _ hM
  have k0 := eN 0 (Or.inl (by omega))
  have s1 : w_s w1 = w_s w := congrArg Prod.fst e3
  intro a5 a6 a7
  refine ⟨w2, some (v_I (Int32.ofNat 1)), some (v_I r), a7, G1, σ1, S1, jn_ (w1 := s_n w1 40 6) I (fun a h => eN a h) (by rw [z_sn]; omega) (by rw [s_sn]; omega) (RC_sn e4 hV) f1 f2 hV hE, fun Q => lc_18 (kk := 1) h0 hn hL hi hx hM.1.1 (k0.1.trans h0) (k0.2.1.trans hn) (fun k => k0.2.2.2 k) f2.1.1 ?_ ?_ (fun Q => lw_ex_12_40 hx q1) q2 (by omega) f3 fun h => absurd h (by omega)⟩
  · rw [f1.1]; exact t6
  · rw [f1.2.1]; exact n6
theorem sp_19 {r : Int64} {kk : Nat} (I : In_ L xs c w G σ S) (hL : L ≤ 384) (hi : 6 * c + 6 ≤ L) (hc : CF_ (d + 13) 37 [v_R (some 1000)] w (v_L r) G1 S1) (hm : ∀ w1, RM_ w1 S → MU_ (d + 13) 226 [v_R (some 1440)] w1 (v_L r) kk S1) (hV : WS_ S1) (hE : WE_ (sm_T S1)) : Stp_ L xs c d 1153 w := by
  obtain ⟨h0, hn, hx, hy, hz⟩ := in_0 I
  obtain ⟨w1, σ1, e1, e2, e3, e4, q1⟩ := hc
  have hM : RM_ w1 S := RM_ag I.2.1 fun a h1 h2 => e1 a (Or.inr ⟨h1, by omega⟩)
  obtain ⟨w2, f1, f2, f3, q2⟩ := hm w1 hM
  have k0 := e1 0 (Or.inl (by omega))
  have s1 : w_s w1 = w_s w := congrArg Prod.fst e3
  intro a5 a6 a7
  exact ⟨w2, a5, a6, a7, G1, σ1, S1, jn_ I (fun a h => e1 a h) (by omega) (by omega) e4 f1 f2 hV hE, fun Q => lc_19 h0 hn hL hi hx hM.1.1 (k0.1.trans h0) (k0.2.1.trans hn) (fun k => k0.2.2.2 k) q1 q2⟩
theorem sp_20 {r : Int32} {kk : Nat} (I : In_ L xs c w G σ S) (hL : L ≤ 384) (hi : 6 * c + 6 ≤ L) (hc : CF_ (d + 13) 43 [v_R (some 1000)] w (v_I r) G1 S1) (hm : ∀ w1, RM_ w1 S → MU_ (d + 13) 229 [v_R (some 1440)] w1 (v_I r) kk S1) (hV : WS_ S1) (hE : WE_ (sm_T S1)) : Stp_ L xs c d 1167 w := by
  obtain ⟨h0, hn, hx, hy, hz⟩ := in_0 I
  obtain ⟨w1, σ1, e1, e2, e3, e4, q1⟩ := hc
  have hM : RM_ w1 S := RM_ag I.2.1 fun a h1 h2 => e1 a (Or.inr ⟨h1, by omega⟩)
  obtain ⟨w2, f1, f2, f3, q2⟩ := hm w1 hM
  have k0 := e1 0 (Or.inl (by omega))
  have s1 : w_s w1 = w_s w := congrArg Prod.fst e3
  intro a5 a6 a7
  exact ⟨w2, a5, a6, a7, G1, σ1, S1, jn_ I (fun a h => e1 a h) (by omega) (by omega) e4 f1 f2 hV hE, fun Q => lc_20 h0 hn hL hi hx hM.1.1 (k0.1.trans h0) (k0.2.1.trans hn) (fun k => k0.2.2.2 k) q1 q2⟩
theorem sp_21 {r : Int32} {kk : Nat} (I : In_ L xs c w G σ S) (hL : L ≤ 384) (hi : 6 * c + 6 ≤ L) (hc : CF_ (d + 13) 45 [v_R (some 1000)] w (v_I r) G1 S1) (hm : ∀ w1, RM_ w1 S → MU_ (d + 13) 231 [v_R (some 1440)] w1 (v_I r) kk S1) (hV : WS_ S1) (hE : WE_ (sm_T S1)) : Stp_ L xs c d 1180 w := by
  obtain ⟨h0, hn, hx, hy, hz⟩ := in_0 I
  obtain ⟨w1, σ1, e1, e2, e3, e4, q1⟩ := hc
  have hM : RM_ w1 S := RM_ag I.2.1 fun a h1 h2 => e1 a (Or.inr ⟨h1, by omega⟩)
  obtain ⟨w2, f1, f2, f3, q2⟩ := hm w1 hM
  have k0 := e1 0 (Or.inl (by omega))
  have s1 : w_s w1 = w_s w := congrArg Prod.fst e3
  intro a5 a6 a7
  exact ⟨w2, a5, a6, a7, G1, σ1, S1, jn_ I (fun a h => e1 a h) (by omega) (by omega) e4 f1 f2 hV hE, fun Q => lc_21 h0 hn hL hi hx hM.1.1 (k0.1.trans h0) (k0.2.1.trans hn) (fun k => k0.2.2.2 k) q1 q2⟩
theorem sp_22 {r : Int32} {kk : Nat} (I : In_ L xs c w G σ S) (hL : L ≤ 384) (hi : 6 * c + 6 ≤ L) (hc : CF_ (d + 13) 46 [v_R (some 1000)] w (v_I r) G1 S1) (hm : ∀ w1, RM_ w1 S → MU_ (d + 13) 235 [v_R (some 1440)] w1 (v_I r) kk S1) (hV : WS_ S1) (hE : WE_ (sm_T S1)) : Stp_ L xs c d 1193 w := by
  obtain ⟨h0, hn, hx, hy, hz⟩ := in_0 I
  obtain ⟨w1, σ1, e1, e2, e3, e4, q1⟩ := hc
  have hM : RM_ w1 S := RM_ag I.2.1 fun a h1 h2 => e1 a (Or.inr ⟨h1, by omega⟩)
  obtain ⟨w2, f1, f2, f3, q2⟩ := hm w1 hM
  have k0 := e1 0 (Or.inl (by omega))
  have s1 : w_s w1 = w_s w := congrArg Prod.fst e3
  intro a5 a6 a7
  exact ⟨w2, a5, a6, a7, G1, σ1, S1, jn_ I (fun a h => e1 a h) (by omega) (by omega) e4 f1 f2 hV hE, fun Q => lc_22 h0 hn hL hi hx hM.1.1 (k0.1.trans h0) (k0.2.1.trans hn) (fun k => k0.2.2.2 k) q1 q2⟩
theorem sp_23 {r : Bool} (I : In_ L xs c w G σ S) (hL : L ≤ 384) (hi : 6 * c + 6 ≤ L) (hc : CF_ (d + 12) 84 [v_R (some 1000), v_I (w_i w 0 (6 * c + 1)), v_I (w_i w 0 (6 * c + 2))] w (v_I (b_v r)) G1 S1) (hm : ∀ w1, RM_ w1 S → MU_ (d + 13) 233 [v_R (some 1440), v_I (w_i w 0 (6 * c + 1)), v_I (w_i w 0 (6 * c + 2))] w1 (v_I (b_v r)) 0 S1) (hV : WS_ S1) (hE : WE_ (sm_T S1)) : Stp_ L xs c d 1206 w := by
  obtain ⟨h0, hn, hx, hy, hz⟩ := in_0 I
  obtain ⟨w1, σ1, e1, e2, e3, e4, q1⟩ := hc
  have k6 := e1 1476 (Or.inr ⟨by omega, by omega⟩)
  have t6 : w_t w1 1476 = 4 := k6.1.trans I.2.2.2.2.2.1.1
  have n6 : w_n w1 1476 = 1 := k6.2.1.trans I.2.2.2.2.2.1.2
  have hM : RM_ (s_l w1 1476 0 (if r = true then Int64.ofNat 1 else Int64.ofNat 0)) S := RM_ag I.2.1 fun a h1 h2 => e1 a (Or.inr ⟨h1, by omega⟩)
  obtain ⟨w2, f1, f2, f3, q2⟩ := hm _ hM
  have k0 := e1 0 (Or.inl (by omega))
  have s1 : w_s w1 = w_s w := congrArg Prod.fst e3
  intro a5 a6 a7
  refine ⟨w2, some (v_I (Int32.ofNat 0)), some (v_I (b_v r)), a7, G1, σ1, S1, jn_ (w1 := s_l w1 1476 0 (if r = true then Int64.ofNat 1 else Int64.ofNat 0)) I (fun a h => e1 a h) (by rw [z_sl]; omega) (by show w_s w1 ≤ _; omega) (RC_sl e4 hV) f1 f2 hV hE, fun Q => lc_23 (kk := 0) h0 hn hL hi hx hM.1.1 (k0.1.trans h0) (k0.2.1.trans hn) (fun k => k0.2.2.2 k) f2.1.1 ?_ ?_ (fun Q => lw_ok_13 hx t6 n6 q1) q2 (by omega) f3 fun _ => ?_⟩
  · rw [f1.1]; exact t6
  · rw [f1.2.1]; exact n6
  · have := congrArg Prod.snd f1.2.2.2.2.1
    have h2 : w_l w2 1476 = w_l (s_l w1 1476 0 (if r = true then Int64.ofNat 1 else Int64.ofNat 0)) 1476 := this
    rw [h2, l_sl, if_pos ⟨rfl, rfl⟩]
theorem sx_23_2 {r : Bool} (I : In_ L xs c w G σ S) (hL : L ≤ 384) (hi : 6 * c + 6 ≤ L) (hc : CXF_ (d + 12) 84 [v_R (some 1000), v_I (w_i w 0 (6 * c + 1)), v_I (w_i w 0 (6 * c + 2))] w 39 G1 S1) (hm : ∀ w1, RM_ w1 S → MU_ (d + 13) 233 [v_R (some 1440), v_I (w_i w 0 (6 * c + 1)), v_I (w_i w 0 (6 * c + 2))] w1 (v_I (b_v r)) 2 S1) (hV : WS_ S1) (hE : WE_ (sm_T S1)) : Stp_ L xs c d 1206 w := by
  obtain ⟨h0, hn, hx, hy, hz⟩ := in_0 I
  obtain ⟨w1, σ1, e1, e2, e3, e4, q1⟩ := hc
  have eN : ∀ a, a < 1000 ∨ (1440 ≤ a ∧ a ≤ 1476) → Eq_ w (s_n w1 39 6) a := fun a h => eq_tr (e1 a h) ⟨by rw [t_sn, if_neg (by omega)], by rw [n_sn, if_neg (by omega)], fun k => by rw [r_sn, if_neg (by omega)], fun k => by rw [i_sn, if_neg (by omega)]⟩
  have k6 := eN 1476 (Or.inr ⟨by omega, by omega⟩)
  have t6 : w_t (s_n w1 39 6) 1476 = 4 := k6.1.trans I.2.2.2.2.2.1.1
  have n6 : w_n (s_n w1 39 6) 1476 = 1 := k6.2.1.trans I.2.2.2.2.2.1.2
  have hM : RM_ (s_n w1 39 6) S := RM_ag I.2.1 fun a h1 h2 => eN a (Or.inr ⟨h1, by omega⟩)
  obtain ⟨w2, f1, f2, f3, q2⟩ := hm _ hM
  have k0 := eN 0 (Or.inl (by omega))
  have s1 : w_s w1 = w_s w := congrArg Prod.fst e3
  intro a5 a6 a7
  refine ⟨w2, some (v_I (Int32.ofNat 2)), some (v_I (b_v r)), a7, G1, σ1, S1, jn_ (w1 := s_n w1 39 6) I (fun a h => eN a h) (by rw [z_sn]; omega) (by rw [s_sn]; omega) (RC_sn e4 hV) f1 f2 hV hE, fun Q => lc_23 (kk := 2) h0 hn hL hi hx hM.1.1 (k0.1.trans h0) (k0.2.1.trans hn) (fun k => k0.2.2.2 k) f2.1.1 ?_ ?_ (fun Q => lw_ex_13_39 hx q1) q2 (by omega) f3 fun h => absurd h (by omega)⟩
  · rw [f1.1]; exact t6
  · rw [f1.2.1]; exact n6
theorem sx_23_1 {r : Bool} (I : In_ L xs c w G σ S) (hL : L ≤ 384) (hi : 6 * c + 6 ≤ L) (hc : CXF_ (d + 12) 84 [v_R (some 1000), v_I (w_i w 0 (6 * c + 1)), v_I (w_i w 0 (6 * c + 2))] w 40 G1 S1) (hm : ∀ w1, RM_ w1 S → MU_ (d + 13) 233 [v_R (some 1440), v_I (w_i w 0 (6 * c + 1)), v_I (w_i w 0 (6 * c + 2))] w1 (v_I (b_v r)) 1 S1) (hV : WS_ S1) (hE : WE_ (sm_T S1)) : Stp_ L xs c d 1206 w := by
  obtain ⟨h0, hn, hx, hy, hz⟩ := in_0 I
  obtain ⟨w1, σ1, e1, e2, e3, e4, q1⟩ := hc
  have eN : ∀ a, a < 1000 ∨ (1440 ≤ a ∧ a ≤ 1476) → Eq_ w (s_n w1 40 6) a := fun a h => eq_tr (e1 a h) ⟨by rw [t_sn, if_neg (by omega)], by rw [n_sn, if_neg (by omega)], fun k => by rw [r_sn, if_neg (by omega)], fun k => by rw [i_sn, if_neg (by omega)]⟩
  have k6 := eN 1476 (Or.inr ⟨by omega, by omega⟩)
  have t6 : w_t (s_n w1 40 6) 1476 = 4 := k6.1.trans I.2.2.2.2.2.1.1
  have n6 : w_n (s_n w1 40 6) 1476 = 1 := k6.2.1.trans I.2.2.2.2.2.1.2
  have hM : RM_ (s_n w1 40 6) S := RM_ag I.2.1 fun a h1 h2 => eN a (Or.inr ⟨h1, by omega⟩)
  obtain ⟨w2, f1, f2, f3, q2⟩ := hm _ hM
  have k0 := eN 0 (Or.inl (by omega))
  have s1 : w_s w1 = w_s w := congrArg Prod.fst e3
  intro a5 a6 a7
  refine ⟨w2, some (v_I (Int32.ofNat 1)), some (v_I (b_v r)), a7, G1, σ1, S1, jn_ (w1 := s_n w1 40 6) I (fun a h => eN a h) (by rw [z_sn]; omega) (by rw [s_sn]; omega) (RC_sn e4 hV) f1 f2 hV hE, fun Q => lc_23 (kk := 1) h0 hn hL hi hx hM.1.1 (k0.1.trans h0) (k0.2.1.trans hn) (fun k => k0.2.2.2 k) f2.1.1 ?_ ?_ (fun Q => lw_ex_13_40 hx q1) q2 (by omega) f3 fun h => absurd h (by omega)⟩
  · rw [f1.1]; exact t6
  · rw [f1.2.1]; exact n6
theorem sp_24 {r : Int32} (I : In_ L xs c w G σ S) (hL : L ≤ 384) (hi : 6 * c + 6 ≤ L) (hc : CF_ (d + 12) 85 [v_R (some 1000), v_I (w_i w 0 (6 * c + 1)), v_I (w_i w 0 (6 * c + 2))] w (v_I r) G1 S1) (hm : ∀ w1, RM_ w1 S → MU_ (d + 13) 237 [v_R (some 1440), v_I (w_i w 0 (6 * c + 1)), v_I (w_i w 0 (6 * c + 2))] w1 (v_I r) 0 S1) (hV : WS_ S1) (hE : WE_ (sm_T S1)) : Stp_ L xs c d 1281 w := by
  obtain ⟨h0, hn, hx, hy, hz⟩ := in_0 I
  obtain ⟨w1, σ1, e1, e2, e3, e4, q1⟩ := hc
  have k6 := e1 1476 (Or.inr ⟨by omega, by omega⟩)
  have t6 : w_t w1 1476 = 4 := k6.1.trans I.2.2.2.2.2.1.1
  have n6 : w_n w1 1476 = 1 := k6.2.1.trans I.2.2.2.2.2.1.2
  have hM : RM_ (s_l w1 1476 0 r.toInt64) S := RM_ag I.2.1 fun a h1 h2 => e1 a (Or.inr ⟨h1, by omega⟩)
  obtain ⟨w2, f1, f2, f3, q2⟩ := hm _ hM
  have k0 := e1 0 (Or.inl (by omega))
  have s1 : w_s w1 = w_s w := congrArg Prod.fst e3
  intro a5 a6 a7
  refine ⟨w2, some (v_I (Int32.ofNat 0)), some (v_I r), a7, G1, σ1, S1, jn_ (w1 := s_l w1 1476 0 r.toInt64) I (fun a h => e1 a h) (by rw [z_sl]; omega) (by show w_s w1 ≤ _; omega) (RC_sl e4 hV) f1 f2 hV hE, fun Q => lc_24 (kk := 0) h0 hn hL hi hx hM.1.1 (k0.1.trans h0) (k0.2.1.trans hn) (fun k => k0.2.2.2 k) f2.1.1 ?_ ?_ (fun Q => lw_ok_14 hx t6 n6 q1) q2 (by omega) f3 fun _ => ?_⟩
  · rw [f1.1]; exact t6
  · rw [f1.2.1]; exact n6
  · have := congrArg Prod.snd f1.2.2.2.2.1
    have h2 : w_l w2 1476 = w_l (s_l w1 1476 0 r.toInt64) 1476 := this
    rw [h2, l_sl, if_pos ⟨rfl, rfl⟩]
theorem sx_24_2 {r : Int32} (I : In_ L xs c w G σ S) (hL : L ≤ 384) (hi : 6 * c + 6 ≤ L) (hc : CXF_ (d + 12) 85 [v_R (some 1000), v_I (w_i w 0 (6 * c + 1)), v_I (w_i w 0 (6 * c + 2))] w 39 G1 S1) (hm : ∀ w1, RM_ w1 S → MU_ (d + 13) 237 [v_R (some 1440), v_I (w_i w 0 (6 * c + 1)), v_I (w_i w 0 (6 * c + 2))] w1 (v_I r) 2 S1) (hV : WS_ S1) (hE : WE_ (sm_T S1)) : Stp_ L xs c d 1281 w := by
  obtain ⟨h0, hn, hx, hy, hz⟩ := in_0 I
  obtain ⟨w1, σ1, e1, e2, e3, e4, q1⟩ := hc
  have eN : ∀ a, a < 1000 ∨ (1440 ≤ a ∧ a ≤ 1476) → Eq_ w (s_n w1 39 6) a := fun a h => eq_tr (e1 a h) ⟨by rw [t_sn, if_neg (by omega)], by rw [n_sn, if_neg (by omega)], fun k => by rw [r_sn, if_neg (by omega)], fun k => by rw [i_sn, if_neg (by omega)]⟩
  have k6 := eN 1476 (Or.inr ⟨by omega, by omega⟩)
  have t6 : w_t (s_n w1 39 6) 1476 = 4 := k6.1.trans I.2.2.2.2.2.1.1
  have n6 : w_n (s_n w1 39 6) 1476 = 1 := k6.2.1.trans I.2.2.2.2.2.1.2
  have hM : RM_ (s_n w1 39 6) S := RM_ag I.2.1 fun a h1 h2 => eN a (Or.inr ⟨h1, by omega⟩)
  obtain ⟨w2, f1, f2, f3, q2⟩ := hm _ hM
  have k0 := eN 0 (Or.inl (by omega))
  have s1 : w_s w1 = w_s w := congrArg Prod.fst e3
  intro a5 a6 a7
  refine ⟨w2, some (v_I (Int32.ofNat 2)), some (v_I r), a7, G1, σ1, S1, jn_ (w1 := s_n w1 39 6) I (fun a h => eN a h) (by rw [z_sn]; omega) (by rw [s_sn]; omega) (RC_sn e4 hV) f1 f2 hV hE, fun Q => lc_24 (kk := 2) h0 hn hL hi hx hM.1.1 (k0.1.trans h0) (k0.2.1.trans hn) (fun k => k0.2.2.2 k) f2.1.1 ?_ ?_ (fun Q => lw_ex_14_39 hx q1) q2 (by omega) f3 fun h => absurd h (by omega)⟩
  · rw [f1.1]; exact t6
  · rw [f1.2.1]; exact n6
theorem sx_24_1 {r : Int32} (I : In_ L xs c w G σ S) (hL : L ≤ 384) (hi : 6 * c + 6 ≤ L) (hc : CXF_ (d + 12) 85 [v_R (some 1000), v_I (w_i w 0 (6 * c + 1)), v_I (w_i w 0 (6 * c + 2))] w 40 G1 S1) (hm : ∀ w1, RM_ w1 S → MU_ (d + 13) 237 [v_R (some 1440), v_I (w_i w 0 (6 * c + 1)), v_I (w_i w 0 (6 * c + 2))] w1 (v_I r) 1 S1) (hV : WS_ S1) (hE : WE_ (sm_T S1)) : Stp_ L xs c d 1281 w := by
  obtain ⟨h0, hn, hx, hy, hz⟩ := in_0 I
  obtain ⟨w1, σ1, e1, e2, e3, e4, q1⟩ := hc
  have eN : ∀ a, a < 1000 ∨ (1440 ≤ a ∧ a ≤ 1476) → Eq_ w (s_n w1 40 6) a := fun a h => eq_tr (e1 a h) ⟨by rw [t_sn, if_neg (by omega)], by rw [n_sn, if_neg (by omega)], fun k => by rw [r_sn, if_neg (by omega)], fun k => by rw [i_sn, if_neg (by omega)]⟩
  have k6 := eN 1476 (Or.inr ⟨by omega, by omega⟩)
  have t6 : w_t (s_n w1 40 6) 1476 = 4 := k6.1.trans I.2.2.2.2.2.1.1
  have n6 : w_n (s_n w1 40 6) 1476 = 1 := k6.2.1.trans I.2.2.2.2.2.1.2
  have hM : RM_ (s_n w1 40 6) S := RM_ag I.2.1 fun a h1 h2 => eN a (Or.inr ⟨h1, by omega⟩)
  obtain ⟨w2, f1, f2, f3, q2⟩ := hm _ hM
  have k0 := eN 0 (Or.inl (by omega))
  have s1 : w_s w1 = w_s w := congrArg Prod.fst e3
  intro a5 a6 a7
  refine ⟨w2, some (v_I (Int32.ofNat 1)), some (v_I r), a7, G1, σ1, S1, jn_ (w1 := s_n w1 40 6) I (fun a h => eN a h) (by rw [z_sn]; omega) (by rw [s_sn]; omega) (RC_sn e4 hV) f1 f2 hV hE, fun Q => lc_24 (kk := 1) h0 hn hL hi hx hM.1.1 (k0.1.trans h0) (k0.2.1.trans hn) (fun k => k0.2.2.2 k) f2.1.1 ?_ ?_ (fun Q => lw_ex_14_40 hx q1) q2 (by omega) f3 fun h => absurd h (by omega)⟩
  · rw [f1.1]; exact t6
  · rw [f1.2.1]; exact n6
theorem sp_25 {r : Int32} {kk : Nat} (I : In_ L xs c w G σ S) (hL : L ≤ 384) (hi : 6 * c + 6 ≤ L) (hc : CF_ (d + 13) 49 [v_R (some 1000)] w (v_I r) G1 S1) (hm : ∀ w1, RM_ w1 S → MU_ (d + 13) 238 [v_R (some 1440)] w1 (v_I r) kk S1) (hV : WS_ S1) (hE : WE_ (sm_T S1)) : Stp_ L xs c d 1349 w := by
  obtain ⟨h0, hn, hx, hy, hz⟩ := in_0 I
  obtain ⟨w1, σ1, e1, e2, e3, e4, q1⟩ := hc
  have hM : RM_ w1 S := RM_ag I.2.1 fun a h1 h2 => e1 a (Or.inr ⟨h1, by omega⟩)
  obtain ⟨w2, f1, f2, f3, q2⟩ := hm w1 hM
  have k0 := e1 0 (Or.inl (by omega))
  have s1 : w_s w1 = w_s w := congrArg Prod.fst e3
  intro a5 a6 a7
  exact ⟨w2, a5, a6, a7, G1, σ1, S1, jn_ I (fun a h => e1 a h) (by omega) (by omega) e4 f1 f2 hV hE, fun Q => lc_25 h0 hn hL hi hx hM.1.1 (k0.1.trans h0) (k0.2.1.trans hn) (fun k => k0.2.2.2 k) q1 q2⟩
theorem sp_26 {r : Int32} (I : In_ L xs c w G σ S) (hL : L ≤ 384) (hi : 6 * c + 6 ≤ L) (hc : CF_ (d + 12) 86 [v_R (some 1000), v_I (w_i w 0 (6 * c + 1))] w (v_I r) G1 S1) (hm : ∀ w1, RM_ w1 S → MU_ (d + 13) 241 [v_R (some 1440), v_I (w_i w 0 (6 * c + 1))] w1 (v_I r) 0 S1) (hV : WS_ S1) (hE : WE_ (sm_T S1)) : Stp_ L xs c d 1362 w := by
  obtain ⟨h0, hn, hx, hy, hz⟩ := in_0 I
  obtain ⟨w1, σ1, e1, e2, e3, e4, q1⟩ := hc
  have k6 := e1 1476 (Or.inr ⟨by omega, by omega⟩)
  have t6 : w_t w1 1476 = 4 := k6.1.trans I.2.2.2.2.2.1.1
  have n6 : w_n w1 1476 = 1 := k6.2.1.trans I.2.2.2.2.2.1.2
  have hM : RM_ (s_l w1 1476 0 r.toInt64) S := RM_ag I.2.1 fun a h1 h2 => e1 a (Or.inr ⟨h1, by omega⟩)
  obtain ⟨w2, f1, f2, f3, q2⟩ := hm _ hM
  have k0 := e1 0 (Or.inl (by omega))
  have s1 : w_s w1 = w_s w := congrArg Prod.fst e3
  intro a5 a6 a7
  refine ⟨w2, some (v_I (Int32.ofNat 0)), some (v_I r), a7, G1, σ1, S1, jn_ (w1 := s_l w1 1476 0 r.toInt64) I (fun a h => e1 a h) (by rw [z_sl]; omega) (by show w_s w1 ≤ _; omega) (RC_sl e4 hV) f1 f2 hV hE, fun Q => lc_26 (kk := 0) h0 hn hL hi hx hM.1.1 (k0.1.trans h0) (k0.2.1.trans hn) (fun k => k0.2.2.2 k) f2.1.1 ?_ ?_ (fun Q => lw_ok_15 hx t6 n6 q1) q2 (by omega) f3 fun _ => ?_⟩
  · rw [f1.1]; exact t6
  · rw [f1.2.1]; exact n6
  · have := congrArg Prod.snd f1.2.2.2.2.1
    have h2 : w_l w2 1476 = w_l (s_l w1 1476 0 r.toInt64) 1476 := this
    rw [h2, l_sl, if_pos ⟨rfl, rfl⟩]
theorem sx_26_1 {r : Int32} (I : In_ L xs c w G σ S) (hL : L ≤ 384) (hi : 6 * c + 6 ≤ L) (hc : CXF_ (d + 12) 86 [v_R (some 1000), v_I (w_i w 0 (6 * c + 1))] w 40 G1 S1) (hm : ∀ w1, RM_ w1 S → MU_ (d + 13) 241 [v_R (some 1440), v_I (w_i w 0 (6 * c + 1))] w1 (v_I r) 1 S1) (hV : WS_ S1) (hE : WE_ (sm_T S1)) : Stp_ L xs c d 1362 w := by
  obtain ⟨h0, hn, hx, hy, hz⟩ := in_0 I
  obtain ⟨w1, σ1, e1, e2, e3, e4, q1⟩ := hc
  have eN : ∀ a, a < 1000 ∨ (1440 ≤ a ∧ a ≤ 1476) → Eq_ w (s_n w1 40 6) a := fun a h => eq_tr (e1 a h) ⟨by rw [t_sn, if_neg (by omega)], by rw [n_sn, if_neg (by omega)], fun k => by rw [r_sn, if_neg (by omega)], fun k => by rw [i_sn, if_neg (by omega)]⟩
  have k6 := eN 1476 (Or.inr ⟨by omega, by omega⟩)
  have t6 : w_t (s_n w1 40 6) 1476 = 4 := k6.1.trans I.2.2.2.2.2.1.1
  have n6 : w_n (s_n w1 40 6) 1476 = 1 := k6.2.1.trans I.2.2.2.2.2.1.2
  have hM : RM_ (s_n w1 40 6) S := RM_ag I.2.1 fun a h1 h2 => eN a (Or.inr ⟨h1, by omega⟩)
  obtain ⟨w2, f1, f2, f3, q2⟩ := hm _ hM
  have k0 := eN 0 (Or.inl (by omega))
  have s1 : w_s w1 = w_s w := congrArg Prod.fst e3
  intro a5 a6 a7
  refine ⟨w2, some (v_I (Int32.ofNat 1)), some (v_I r), a7, G1, σ1, S1, jn_ (w1 := s_n w1 40 6) I (fun a h => eN a h) (by rw [z_sn]; omega) (by rw [s_sn]; omega) (RC_sn e4 hV) f1 f2 hV hE, fun Q => lc_26 (kk := 1) h0 hn hL hi hx hM.1.1 (k0.1.trans h0) (k0.2.1.trans hn) (fun k => k0.2.2.2 k) f2.1.1 ?_ ?_ (fun Q => lw_ex_15_40 hx q1) q2 (by omega) f3 fun h => absurd h (by omega)⟩
  · rw [f1.1]; exact t6
  · rw [f1.2.1]; exact n6
theorem sp_27 {r : Int32} {kk : Nat} (I : In_ L xs c w G σ S) (hL : L ≤ 384) (hi : 6 * c + 6 ≤ L) (hc : CF_ (d + 13) 50 [v_R (some 1000)] w (v_I r) G1 S1) (hm : ∀ w1, RM_ w1 S → MU_ (d + 13) 244 [v_R (some 1440)] w1 (v_I r) kk S1) (hV : WS_ S1) (hE : WE_ (sm_T S1)) : Stp_ L xs c d 1418 w := by
  obtain ⟨h0, hn, hx, hy, hz⟩ := in_0 I
  obtain ⟨w1, σ1, e1, e2, e3, e4, q1⟩ := hc
  have hM : RM_ w1 S := RM_ag I.2.1 fun a h1 h2 => e1 a (Or.inr ⟨h1, by omega⟩)
  obtain ⟨w2, f1, f2, f3, q2⟩ := hm w1 hM
  have k0 := e1 0 (Or.inl (by omega))
  have s1 : w_s w1 = w_s w := congrArg Prod.fst e3
  intro a5 a6 a7
  exact ⟨w2, a5, a6, a7, G1, σ1, S1, jn_ I (fun a h => e1 a h) (by omega) (by omega) e4 f1 f2 hV hE, fun Q => lc_27 h0 hn hL hi hx hM.1.1 (k0.1.trans h0) (k0.2.1.trans hn) (fun k => k0.2.2.2 k) q1 q2⟩
theorem sp_28 {r : Int64} (I : In_ L xs c w G σ S) (hL : L ≤ 384) (hi : 6 * c + 6 ≤ L) (hc : CF_ (d + 12) 87 [v_R (some 1000), v_I (w_i w 0 (6 * c + 1)), v_I (w_i w 0 (6 * c + 2))] w (v_L r) G1 S1) (hm : ∀ w1, RM_ w1 S → MU_ (d + 13) 228 [v_R (some 1440), v_I (w_i w 0 (6 * c + 1)), v_I (w_i w 0 (6 * c + 2))] w1 (v_L r) 0 S1) (hV : WS_ S1) (hE : WE_ (sm_T S1)) : Stp_ L xs c d 1431 w := by
  obtain ⟨h0, hn, hx, hy, hz⟩ := in_0 I
  obtain ⟨w1, σ1, e1, e2, e3, e4, q1⟩ := hc
  have k6 := e1 1476 (Or.inr ⟨by omega, by omega⟩)
  have t6 : w_t w1 1476 = 4 := k6.1.trans I.2.2.2.2.2.1.1
  have n6 : w_n w1 1476 = 1 := k6.2.1.trans I.2.2.2.2.2.1.2
  have hM : RM_ (s_l w1 1476 0 r) S := RM_ag I.2.1 fun a h1 h2 => e1 a (Or.inr ⟨h1, by omega⟩)
  obtain ⟨w2, f1, f2, f3, q2⟩ := hm _ hM
  have k0 := e1 0 (Or.inl (by omega))
  have s1 : w_s w1 = w_s w := congrArg Prod.fst e3
  intro a5 a6 a7
  refine ⟨w2, some (v_I (Int32.ofNat 0)), some (v_L r), none, G1, σ1, S1, jn_ (w1 := s_l w1 1476 0 r) I (fun a h => e1 a h) (by rw [z_sl]; omega) (by show w_s w1 ≤ _; omega) (RC_sl e4 hV) f1 f2 hV hE, fun Q => lc_28 (kk := 0) h0 hn hL hi hx hM.1.1 (k0.1.trans h0) (k0.2.1.trans hn) (fun k => k0.2.2.2 k) f2.1.1 ?_ ?_ (fun Q => lw_ok_16 hx t6 n6 q1) q2 (by omega) f3 fun _ => ?_⟩
  · rw [f1.1]; exact t6
  · rw [f1.2.1]; exact n6
  · have := congrArg Prod.snd f1.2.2.2.2.1
    have h2 : w_l w2 1476 = w_l (s_l w1 1476 0 r) 1476 := this
    rw [h2, l_sl, if_pos ⟨rfl, rfl⟩]
theorem sx_28_1 {r : Int64} (I : In_ L xs c w G σ S) (hL : L ≤ 384) (hi : 6 * c + 6 ≤ L) (hc : CXF_ (d + 12) 87 [v_R (some 1000), v_I (w_i w 0 (6 * c + 1)), v_I (w_i w 0 (6 * c + 2))] w 39 G1 S1) (hm : ∀ w1, RM_ w1 S → MU_ (d + 13) 228 [v_R (some 1440), v_I (w_i w 0 (6 * c + 1)), v_I (w_i w 0 (6 * c + 2))] w1 (v_L r) 1 S1) (hV : WS_ S1) (hE : WE_ (sm_T S1)) : Stp_ L xs c d 1431 w := by
  obtain ⟨h0, hn, hx, hy, hz⟩ := in_0 I
  obtain ⟨w1, σ1, e1, e2, e3, e4, q1⟩ := hc
  have eN : ∀ a, a < 1000 ∨ (1440 ≤ a ∧ a ≤ 1476) → Eq_ w (s_n w1 39 6) a := fun a h => eq_tr (e1 a h) ⟨by rw [t_sn, if_neg (by omega)], by rw [n_sn, if_neg (by omega)], fun k => by rw [r_sn, if_neg (by omega)], fun k => by rw [i_sn, if_neg (by omega)]⟩
  have k6 := eN 1476 (Or.inr ⟨by omega, by omega⟩)
  have t6 : w_t (s_n w1 39 6) 1476 = 4 := k6.1.trans I.2.2.2.2.2.1.1
  have n6 : w_n (s_n w1 39 6) 1476 = 1 := k6.2.1.trans I.2.2.2.2.2.1.2
  have hM : RM_ (s_n w1 39 6) S := RM_ag I.2.1 fun a h1 h2 => eN a (Or.inr ⟨h1, by omega⟩)
  obtain ⟨w2, f1, f2, f3, q2⟩ := hm _ hM
  have k0 := eN 0 (Or.inl (by omega))
  have s1 : w_s w1 = w_s w := congrArg Prod.fst e3
  intro a5 a6 a7
  refine ⟨w2, some (v_I (Int32.ofNat 1)), some (v_L r), none, G1, σ1, S1, jn_ (w1 := s_n w1 39 6) I (fun a h => eN a h) (by rw [z_sn]; omega) (by rw [s_sn]; omega) (RC_sn e4 hV) f1 f2 hV hE, fun Q => lc_28 (kk := 1) h0 hn hL hi hx hM.1.1 (k0.1.trans h0) (k0.2.1.trans hn) (fun k => k0.2.2.2 k) f2.1.1 ?_ ?_ (fun Q => lw_ex_16_39 hx q1) q2 (by omega) f3 fun h => absurd h (by omega)⟩
  · rw [f1.1]; exact t6
  · rw [f1.2.1]; exact n6
theorem sp_29 {r : Int32} {kk : Nat} (I : In_ L xs c w G σ S) (hL : L ≤ 384) (hi : 6 * c + 6 ≤ L) (hc : CF_ (d + 13) 52 [v_R (some 1000)] w (v_I r) G1 S1) (hm : ∀ w1, RM_ w1 S → MU_ (d + 13) 245 [v_R (some 1440)] w1 (v_I r) kk S1) (hV : WS_ S1) (hE : WE_ (sm_T S1)) : Stp_ L xs c d 1498 w := by
  obtain ⟨h0, hn, hx, hy, hz⟩ := in_0 I
  obtain ⟨w1, σ1, e1, e2, e3, e4, q1⟩ := hc
  have hM : RM_ w1 S := RM_ag I.2.1 fun a h1 h2 => e1 a (Or.inr ⟨h1, by omega⟩)
  obtain ⟨w2, f1, f2, f3, q2⟩ := hm w1 hM
  have k0 := e1 0 (Or.inl (by omega))
  have s1 : w_s w1 = w_s w := congrArg Prod.fst e3
  intro a5 a6 a7
  exact ⟨w2, a5, a6, a7, G1, σ1, S1, jn_ I (fun a h => e1 a h) (by omega) (by omega) e4 f1 f2 hV hE, fun Q => lc_29 h0 hn hL hi hx hM.1.1 (k0.1.trans h0) (k0.2.1.trans hn) (fun k => k0.2.2.2 k) q1 q2⟩
theorem sp_30 {r : Int32} (I : In_ L xs c w G σ S) (hL : L ≤ 384) (hi : 6 * c + 6 ≤ L) (hc : CF_ (d + 12) 88 [v_R (some 1000), v_I (w_i w 0 (6 * c + 1))] w (v_I r) G1 S1) (hm : ∀ w1, RM_ w1 S → MU_ (d + 13) 246 [v_R (some 1440), v_I (w_i w 0 (6 * c + 1))] w1 (v_I r) 0 S1) (hV : WS_ S1) (hE : WE_ (sm_T S1)) : Stp_ L xs c d 1511 w := by
  obtain ⟨h0, hn, hx, hy, hz⟩ := in_0 I
  obtain ⟨w1, σ1, e1, e2, e3, e4, q1⟩ := hc
  have k6 := e1 1476 (Or.inr ⟨by omega, by omega⟩)
  have t6 : w_t w1 1476 = 4 := k6.1.trans I.2.2.2.2.2.1.1
  have n6 : w_n w1 1476 = 1 := k6.2.1.trans I.2.2.2.2.2.1.2
  have hM : RM_ (s_l w1 1476 0 r.toInt64) S := RM_ag I.2.1 fun a h1 h2 => e1 a (Or.inr ⟨h1, by omega⟩)
  obtain ⟨w2, f1, f2, f3, q2⟩ := hm _ hM
  have k0 := e1 0 (Or.inl (by omega))
  have s1 : w_s w1 = w_s w := congrArg Prod.fst e3
  intro a5 a6 a7
  refine ⟨w2, some (v_I (Int32.ofNat 0)), some (v_I r), a7, G1, σ1, S1, jn_ (w1 := s_l w1 1476 0 r.toInt64) I (fun a h => e1 a h) (by rw [z_sl]; omega) (by show w_s w1 ≤ _; omega) (RC_sl e4 hV) f1 f2 hV hE, fun Q => lc_30 (kk := 0) h0 hn hL hi hx hM.1.1 (k0.1.trans h0) (k0.2.1.trans hn) (fun k => k0.2.2.2 k) f2.1.1 ?_ ?_ (fun Q => lw_ok_17 hx t6 n6 q1) q2 (by omega) f3 fun _ => ?_⟩
  · rw [f1.1]; exact t6
  · rw [f1.2.1]; exact n6
  · have := congrArg Prod.snd f1.2.2.2.2.1
    have h2 : w_l w2 1476 = w_l (s_l w1 1476 0 r.toInt64) 1476 := this
    rw [h2, l_sl, if_pos ⟨rfl, rfl⟩]
theorem sx_30_1 {r : Int32} (I : In_ L xs c w G σ S) (hL : L ≤ 384) (hi : 6 * c + 6 ≤ L) (hc : CXF_ (d + 12) 88 [v_R (some 1000), v_I (w_i w 0 (6 * c + 1))] w 40 G1 S1) (hm : ∀ w1, RM_ w1 S → MU_ (d + 13) 246 [v_R (some 1440), v_I (w_i w 0 (6 * c + 1))] w1 (v_I r) 1 S1) (hV : WS_ S1) (hE : WE_ (sm_T S1)) : Stp_ L xs c d 1511 w := by
  obtain ⟨h0, hn, hx, hy, hz⟩ := in_0 I
  obtain ⟨w1, σ1, e1, e2, e3, e4, q1⟩ := hc
  have eN : ∀ a, a < 1000 ∨ (1440 ≤ a ∧ a ≤ 1476) → Eq_ w (s_n w1 40 6) a := fun a h => eq_tr (e1 a h) ⟨by rw [t_sn, if_neg (by omega)], by rw [n_sn, if_neg (by omega)], fun k => by rw [r_sn, if_neg (by omega)], fun k => by rw [i_sn, if_neg (by omega)]⟩
  have k6 := eN 1476 (Or.inr ⟨by omega, by omega⟩)
  have t6 : w_t (s_n w1 40 6) 1476 = 4 := k6.1.trans I.2.2.2.2.2.1.1
  have n6 : w_n (s_n w1 40 6) 1476 = 1 := k6.2.1.trans I.2.2.2.2.2.1.2
  have hM : RM_ (s_n w1 40 6) S := RM_ag I.2.1 fun a h1 h2 => eN a (Or.inr ⟨h1, by omega⟩)
  obtain ⟨w2, f1, f2, f3, q2⟩ := hm _ hM
  have k0 := eN 0 (Or.inl (by omega))
  have s1 : w_s w1 = w_s w := congrArg Prod.fst e3
  intro a5 a6 a7
  refine ⟨w2, some (v_I (Int32.ofNat 1)), some (v_I r), a7, G1, σ1, S1, jn_ (w1 := s_n w1 40 6) I (fun a h => eN a h) (by rw [z_sn]; omega) (by rw [s_sn]; omega) (RC_sn e4 hV) f1 f2 hV hE, fun Q => lc_30 (kk := 1) h0 hn hL hi hx hM.1.1 (k0.1.trans h0) (k0.2.1.trans hn) (fun k => k0.2.2.2 k) f2.1.1 ?_ ?_ (fun Q => lw_ex_17_40 hx q1) q2 (by omega) f3 fun h => absurd h (by omega)⟩
  · rw [f1.1]; exact t6
  · rw [f1.2.1]; exact n6
theorem sp_31 {r : Int32} (I : In_ L xs c w G σ S) (hL : L ≤ 384) (hi : 6 * c + 6 ≤ L) (hc : CF_ (d + 12) 89 [v_R (some 1000), v_I (w_i w 0 (6 * c + 1))] w (v_I r) G1 S1) (hm : ∀ w1, RM_ w1 S → MU_ (d + 13) 232 [v_R (some 1440), v_I (w_i w 0 (6 * c + 1))] w1 (v_I r) 0 S1) (hV : WS_ S1) (hE : WE_ (sm_T S1)) : Stp_ L xs c d 1567 w := by
  obtain ⟨h0, hn, hx, hy, hz⟩ := in_0 I
  obtain ⟨w1, σ1, e1, e2, e3, e4, q1⟩ := hc
  have k6 := e1 1476 (Or.inr ⟨by omega, by omega⟩)
  have t6 : w_t w1 1476 = 4 := k6.1.trans I.2.2.2.2.2.1.1
  have n6 : w_n w1 1476 = 1 := k6.2.1.trans I.2.2.2.2.2.1.2
  have hM : RM_ (s_l w1 1476 0 r.toInt64) S := RM_ag I.2.1 fun a h1 h2 => e1 a (Or.inr ⟨h1, by omega⟩)
  obtain ⟨w2, f1, f2, f3, q2⟩ := hm _ hM
  have k0 := e1 0 (Or.inl (by omega))
  have s1 : w_s w1 = w_s w := congrArg Prod.fst e3
  intro a5 a6 a7
  refine ⟨w2, some (v_I (Int32.ofNat 0)), some (v_I r), a7, G1, σ1, S1, jn_ (w1 := s_l w1 1476 0 r.toInt64) I (fun a h => e1 a h) (by rw [z_sl]; omega) (by show w_s w1 ≤ _; omega) (RC_sl e4 hV) f1 f2 hV hE, fun Q => lc_31 (kk := 0) h0 hn hL hi hx hM.1.1 (k0.1.trans h0) (k0.2.1.trans hn) (fun k => k0.2.2.2 k) f2.1.1 ?_ ?_ (fun Q => lw_ok_18 hx t6 n6 q1) q2 (by omega) f3 fun _ => ?_⟩
  · rw [f1.1]; exact t6
  · rw [f1.2.1]; exact n6
  · have := congrArg Prod.snd f1.2.2.2.2.1
    have h2 : w_l w2 1476 = w_l (s_l w1 1476 0 r.toInt64) 1476 := this
    rw [h2, l_sl, if_pos ⟨rfl, rfl⟩]
theorem sx_31_1 {r : Int32} (I : In_ L xs c w G σ S) (hL : L ≤ 384) (hi : 6 * c + 6 ≤ L) (hc : CXF_ (d + 12) 89 [v_R (some 1000), v_I (w_i w 0 (6 * c + 1))] w 39 G1 S1) (hm : ∀ w1, RM_ w1 S → MU_ (d + 13) 232 [v_R (some 1440), v_I (w_i w 0 (6 * c + 1))] w1 (v_I r) 1 S1) (hV : WS_ S1) (hE : WE_ (sm_T S1)) : Stp_ L xs c d 1567 w := by
  obtain ⟨h0, hn, hx, hy, hz⟩ := in_0 I
  obtain ⟨w1, σ1, e1, e2, e3, e4, q1⟩ := hc
  have eN : ∀ a, a < 1000 ∨ (1440 ≤ a ∧ a ≤ 1476) → Eq_ w (s_n w1 39 6) a := fun a h => eq_tr (e1 a h) ⟨by rw [t_sn, if_neg (by omega)], by rw [n_sn, if_neg (by omega)], fun k => by rw [r_sn, if_neg (by omega)], fun k => by rw [i_sn, if_neg (by omega)]⟩
  have k6 := eN 1476 (Or.inr ⟨by omega, by omega⟩)
  have t6 : w_t (s_n w1 39 6) 1476 = 4 := k6.1.trans I.2.2.2.2.2.1.1
  have n6 : w_n (s_n w1 39 6) 1476 = 1 := k6.2.1.trans I.2.2.2.2.2.1.2
  have hM : RM_ (s_n w1 39 6) S := RM_ag I.2.1 fun a h1 h2 => eN a (Or.inr ⟨h1, by omega⟩)
  obtain ⟨w2, f1, f2, f3, q2⟩ := hm _ hM
  have k0 := eN 0 (Or.inl (by omega))
  have s1 : w_s w1 = w_s w := congrArg Prod.fst e3
  intro a5 a6 a7
  refine ⟨w2, some (v_I (Int32.ofNat 1)), some (v_I r), a7, G1, σ1, S1, jn_ (w1 := s_n w1 39 6) I (fun a h => eN a h) (by rw [z_sn]; omega) (by rw [s_sn]; omega) (RC_sn e4 hV) f1 f2 hV hE, fun Q => lc_31 (kk := 1) h0 hn hL hi hx hM.1.1 (k0.1.trans h0) (k0.2.1.trans hn) (fun k => k0.2.2.2 k) f2.1.1 ?_ ?_ (fun Q => lw_ex_18_39 hx q1) q2 (by omega) f3 fun h => absurd h (by omega)⟩
  · rw [f1.1]; exact t6
  · rw [f1.2.1]; exact n6
theorem sp_32 {r : Int32} {kk : Nat} (I : In_ L xs c w G σ S) (hL : L ≤ 384) (hi : 6 * c + 6 ≤ L) (hc : CF_ (d + 13) 53 [v_R (some 1000)] w (v_I r) G1 S1) (hm : ∀ w1, RM_ w1 S → MU_ (d + 13) 247 [v_R (some 1440)] w1 (v_I r) kk S1) (hV : WS_ S1) (hE : WE_ (sm_T S1)) : Stp_ L xs c d 1623 w := by
  obtain ⟨h0, hn, hx, hy, hz⟩ := in_0 I
  obtain ⟨w1, σ1, e1, e2, e3, e4, q1⟩ := hc
  have hM : RM_ w1 S := RM_ag I.2.1 fun a h1 h2 => e1 a (Or.inr ⟨h1, by omega⟩)
  obtain ⟨w2, f1, f2, f3, q2⟩ := hm w1 hM
  have k0 := e1 0 (Or.inl (by omega))
  have s1 : w_s w1 = w_s w := congrArg Prod.fst e3
  intro a5 a6 a7
  exact ⟨w2, a5, a6, a7, G1, σ1, S1, jn_ I (fun a h => e1 a h) (by omega) (by omega) e4 f1 f2 hV hE, fun Q => lc_32 h0 hn hL hi hx hM.1.1 (k0.1.trans h0) (k0.2.1.trans hn) (fun k => k0.2.2.2 k) q1 q2⟩
theorem sp_33 {r : Int32} (I : In_ L xs c w G σ S) (hL : L ≤ 384) (hi : 6 * c + 6 ≤ L) (hc : CF_ (d + 12) 90 [v_R (some 1000), v_I (w_i w 0 (6 * c + 1))] w (v_I r) G1 S1) (hm : ∀ w1, RM_ w1 S → MU_ (d + 13) 239 [v_R (some 1440), v_I (w_i w 0 (6 * c + 1))] w1 (v_I r) 0 S1) (hV : WS_ S1) (hE : WE_ (sm_T S1)) : Stp_ L xs c d 1636 w := by
  obtain ⟨h0, hn, hx, hy, hz⟩ := in_0 I
  obtain ⟨w1, σ1, e1, e2, e3, e4, q1⟩ := hc
  have k6 := e1 1476 (Or.inr ⟨by omega, by omega⟩)
  have t6 : w_t w1 1476 = 4 := k6.1.trans I.2.2.2.2.2.1.1
  have n6 : w_n w1 1476 = 1 := k6.2.1.trans I.2.2.2.2.2.1.2
  have hM : RM_ (s_l w1 1476 0 r.toInt64) S := RM_ag I.2.1 fun a h1 h2 => e1 a (Or.inr ⟨h1, by omega⟩)
  obtain ⟨w2, f1, f2, f3, q2⟩ := hm _ hM
  have k0 := e1 0 (Or.inl (by omega))
  have s1 : w_s w1 = w_s w := congrArg Prod.fst e3
  intro a5 a6 a7
  refine ⟨w2, some (v_I (Int32.ofNat 0)), some (v_I r), a7, G1, σ1, S1, jn_ (w1 := s_l w1 1476 0 r.toInt64) I (fun a h => e1 a h) (by rw [z_sl]; omega) (by show w_s w1 ≤ _; omega) (RC_sl e4 hV) f1 f2 hV hE, fun Q => lc_33 (kk := 0) h0 hn hL hi hx hM.1.1 (k0.1.trans h0) (k0.2.1.trans hn) (fun k => k0.2.2.2 k) f2.1.1 ?_ ?_ (fun Q => lw_ok_19 hx t6 n6 q1) q2 (by omega) f3 fun _ => ?_⟩
  · rw [f1.1]; exact t6
  · rw [f1.2.1]; exact n6
  · have := congrArg Prod.snd f1.2.2.2.2.1
    have h2 : w_l w2 1476 = w_l (s_l w1 1476 0 r.toInt64) 1476 := this
    rw [h2, l_sl, if_pos ⟨rfl, rfl⟩]
theorem sx_33_1 {r : Int32} (I : In_ L xs c w G σ S) (hL : L ≤ 384) (hi : 6 * c + 6 ≤ L) (hc : CXF_ (d + 12) 90 [v_R (some 1000), v_I (w_i w 0 (6 * c + 1))] w 39 G1 S1) (hm : ∀ w1, RM_ w1 S → MU_ (d + 13) 239 [v_R (some 1440), v_I (w_i w 0 (6 * c + 1))] w1 (v_I r) 1 S1) (hV : WS_ S1) (hE : WE_ (sm_T S1)) : Stp_ L xs c d 1636 w := by
  obtain ⟨h0, hn, hx, hy, hz⟩ := in_0 I
  obtain ⟨w1, σ1, e1, e2, e3, e4, q1⟩ := hc
  have eN : ∀ a, a < 1000 ∨ (1440 ≤ a ∧ a ≤ 1476) → Eq_ w (s_n w1 39 6) a := fun a h => eq_tr (e1 a h) ⟨by rw [t_sn, if_neg (by omega)], by rw [n_sn, if_neg (by omega)], fun k => by rw [r_sn, if_neg (by omega)], fun k => by rw [i_sn, if_neg (by omega)]⟩
  have k6 := eN 1476 (Or.inr ⟨by omega, by omega⟩)
  have t6 : w_t (s_n w1 39 6) 1476 = 4 := k6.1.trans I.2.2.2.2.2.1.1
  have n6 : w_n (s_n w1 39 6) 1476 = 1 := k6.2.1.trans I.2.2.2.2.2.1.2
  have hM : RM_ (s_n w1 39 6) S := RM_ag I.2.1 fun a h1 h2 => eN a (Or.inr ⟨h1, by omega⟩)
  obtain ⟨w2, f1, f2, f3, q2⟩ := hm _ hM
  have k0 := eN 0 (Or.inl (by omega))
  have s1 : w_s w1 = w_s w := congrArg Prod.fst e3
  intro a5 a6 a7
  refine ⟨w2, some (v_I (Int32.ofNat 1)), some (v_I r), a7, G1, σ1, S1, jn_ (w1 := s_n w1 39 6) I (fun a h => eN a h) (by rw [z_sn]; omega) (by rw [s_sn]; omega) (RC_sn e4 hV) f1 f2 hV hE, fun Q => lc_33 (kk := 1) h0 hn hL hi hx hM.1.1 (k0.1.trans h0) (k0.2.1.trans hn) (fun k => k0.2.2.2 k) f2.1.1 ?_ ?_ (fun Q => lw_ex_19_39 hx q1) q2 (by omega) f3 fun h => absurd h (by omega)⟩
  · rw [f1.1]; exact t6
  · rw [f1.2.1]; exact n6
theorem sp_34 {r : Int32} {kk : Nat} (I : In_ L xs c w G σ S) (hL : L ≤ 384) (hi : 6 * c + 6 ≤ L) (hc : CF_ (d + 13) 54 [v_R (some 1000)] w (v_I r) G1 S1) (hm : ∀ w1, RM_ w1 S → MU_ (d + 13) 243 [v_R (some 1440)] w1 (v_I r) kk S1) (hV : WS_ S1) (hE : WE_ (sm_T S1)) : Stp_ L xs c d 1692 w := by
  obtain ⟨h0, hn, hx, hy, hz⟩ := in_0 I
  obtain ⟨w1, σ1, e1, e2, e3, e4, q1⟩ := hc
  have hM : RM_ w1 S := RM_ag I.2.1 fun a h1 h2 => e1 a (Or.inr ⟨h1, by omega⟩)
  obtain ⟨w2, f1, f2, f3, q2⟩ := hm w1 hM
  have k0 := e1 0 (Or.inl (by omega))
  have s1 : w_s w1 = w_s w := congrArg Prod.fst e3
  intro a5 a6 a7
  exact ⟨w2, a5, a6, a7, G1, σ1, S1, jn_ I (fun a h => e1 a h) (by omega) (by omega) e4 f1 f2 hV hE, fun Q => lc_34 h0 hn hL hi hx hM.1.1 (k0.1.trans h0) (k0.2.1.trans hn) (fun k => k0.2.2.2 k) q1 q2⟩
theorem sp_35 {r : Int32} {kk : Nat} (I : In_ L xs c w G σ S) (hL : L ≤ 384) (hi : 6 * c + 6 ≤ L) (hc : CF_ (d + 13) 56 [v_R (some 1000)] w (v_I r) G1 S1) (hm : ∀ w1, RM_ w1 S → MU_ (d + 13) 240 [v_R (some 1440)] w1 (v_I r) kk S1) (hV : WS_ S1) (hE : WE_ (sm_T S1)) : Stp_ L xs c d 1705 w := by
  obtain ⟨h0, hn, hx, hy, hz⟩ := in_0 I
  obtain ⟨w1, σ1, e1, e2, e3, e4, q1⟩ := hc
  have hM : RM_ w1 S := RM_ag I.2.1 fun a h1 h2 => e1 a (Or.inr ⟨h1, by omega⟩)
  obtain ⟨w2, f1, f2, f3, q2⟩ := hm w1 hM
  have k0 := e1 0 (Or.inl (by omega))
  have s1 : w_s w1 = w_s w := congrArg Prod.fst e3
  intro a5 a6 a7
  exact ⟨w2, a5, a6, a7, G1, σ1, S1, jn_ I (fun a h => e1 a h) (by omega) (by omega) e4 f1 f2 hV hE, fun Q => lc_35 h0 hn hL hi hx hM.1.1 (k0.1.trans h0) (k0.2.1.trans hn) (fun k => k0.2.2.2 k) q1 q2⟩
theorem sp_36 {r : Int32} {kk : Nat} (I : In_ L xs c w G σ S) (hL : L ≤ 384) (hi : 6 * c + 6 ≤ L) (hc : CF_ (d + 13) 57 [v_R (some 1000), v_I (w_i w 0 (6 * c + 1)), v_I (w_i w 0 (6 * c + 2))] w (v_I r) G1 S1) (hm : ∀ w1, RM_ w1 S → MU_ (d + 13) 248 [v_R (some 1440), v_I (w_i w 0 (6 * c + 1)), v_I (w_i w 0 (6 * c + 2))] w1 (v_I r) kk S1) (hV : WS_ S1) (hE : WE_ (sm_T S1)) : Stp_ L xs c d 1718 w := by
  obtain ⟨h0, hn, hx, hy, hz⟩ := in_0 I
  obtain ⟨w1, σ1, e1, e2, e3, e4, q1⟩ := hc
  have hM : RM_ w1 S := RM_ag I.2.1 fun a h1 h2 => e1 a (Or.inr ⟨h1, by omega⟩)
  obtain ⟨w2, f1, f2, f3, q2⟩ := hm w1 hM
  have k0 := e1 0 (Or.inl (by omega))
  have s1 : w_s w1 = w_s w := congrArg Prod.fst e3
  intro a5 a6 a7
  exact ⟨w2, a5, a6, a7, G1, σ1, S1, jn_ I (fun a h => e1 a h) (by omega) (by omega) e4 f1 f2 hV hE, fun Q => lc_36 h0 hn hL hi hx hM.1.1 (k0.1.trans h0) (k0.2.1.trans hn) (fun k => k0.2.2.2 k) q1 q2⟩
theorem sp_37 {r : Int32} (I : In_ L xs c w G σ S) (hL : L ≤ 384) (hi : 6 * c + 6 ≤ L) (hc : CF_ (d + 12) 91 [v_R (some 1000), v_I (w_i w 0 (6 * c + 1))] w (v_I r) G1 S1) (hm : ∀ w1, RM_ w1 S → MU_ (d + 13) 249 [v_R (some 1440), v_I (w_i w 0 (6 * c + 1))] w1 (v_I r) 0 S1) (hV : WS_ S1) (hE : WE_ (sm_T S1)) : Stp_ L xs c d 1755 w := by
  obtain ⟨h0, hn, hx, hy, hz⟩ := in_0 I
  obtain ⟨w1, σ1, e1, e2, e3, e4, q1⟩ := hc
  have k6 := e1 1476 (Or.inr ⟨by omega, by omega⟩)
  have t6 : w_t w1 1476 = 4 := k6.1.trans I.2.2.2.2.2.1.1
  have n6 : w_n w1 1476 = 1 := k6.2.1.trans I.2.2.2.2.2.1.2
  have hM : RM_ (s_l w1 1476 0 r.toInt64) S := RM_ag I.2.1 fun a h1 h2 => e1 a (Or.inr ⟨h1, by omega⟩)
  obtain ⟨w2, f1, f2, f3, q2⟩ := hm _ hM
  have k0 := e1 0 (Or.inl (by omega))
  have s1 : w_s w1 = w_s w := congrArg Prod.fst e3
  intro a5 a6 a7
  refine ⟨w2, some (v_I (Int32.ofNat 0)), some (v_I r), a7, G1, σ1, S1, jn_ (w1 := s_l w1 1476 0 r.toInt64) I (fun a h => e1 a h) (by rw [z_sl]; omega) (by show w_s w1 ≤ _; omega) (RC_sl e4 hV) f1 f2 hV hE, fun Q => lc_37 (kk := 0) h0 hn hL hi hx hM.1.1 (k0.1.trans h0) (k0.2.1.trans hn) (fun k => k0.2.2.2 k) f2.1.1 ?_ ?_ (fun Q => lw_ok_20 hx t6 n6 q1) q2 (by omega) f3 fun _ => ?_⟩
  · rw [f1.1]; exact t6
  · rw [f1.2.1]; exact n6
  · have := congrArg Prod.snd f1.2.2.2.2.1
    have h2 : w_l w2 1476 = w_l (s_l w1 1476 0 r.toInt64) 1476 := this
    rw [h2, l_sl, if_pos ⟨rfl, rfl⟩]
theorem sx_37_1 {r : Int32} (I : In_ L xs c w G σ S) (hL : L ≤ 384) (hi : 6 * c + 6 ≤ L) (hc : CXF_ (d + 12) 91 [v_R (some 1000), v_I (w_i w 0 (6 * c + 1))] w 40 G1 S1) (hm : ∀ w1, RM_ w1 S → MU_ (d + 13) 249 [v_R (some 1440), v_I (w_i w 0 (6 * c + 1))] w1 (v_I r) 1 S1) (hV : WS_ S1) (hE : WE_ (sm_T S1)) : Stp_ L xs c d 1755 w := by
  obtain ⟨h0, hn, hx, hy, hz⟩ := in_0 I
  obtain ⟨w1, σ1, e1, e2, e3, e4, q1⟩ := hc
  have eN : ∀ a, a < 1000 ∨ (1440 ≤ a ∧ a ≤ 1476) → Eq_ w (s_n w1 40 6) a := fun a h => eq_tr (e1 a h) ⟨by rw [t_sn, if_neg (by omega)], by rw [n_sn, if_neg (by omega)], fun k => by rw [r_sn, if_neg (by omega)], fun k => by rw [i_sn, if_neg (by omega)]⟩
  have k6 := eN 1476 (Or.inr ⟨by omega, by omega⟩)
  have t6 : w_t (s_n w1 40 6) 1476 = 4 := k6.1.trans I.2.2.2.2.2.1.1
  have n6 : w_n (s_n w1 40 6) 1476 = 1 := k6.2.1.trans I.2.2.2.2.2.1.2
  have hM : RM_ (s_n w1 40 6) S := RM_ag I.2.1 fun a h1 h2 => eN a (Or.inr ⟨h1, by omega⟩)
  obtain ⟨w2, f1, f2, f3, q2⟩ := hm _ hM
  have k0 := eN 0 (Or.inl (by omega))
  have s1 : w_s w1 = w_s w := congrArg Prod.fst e3
  intro a5 a6 a7
  refine ⟨w2, some (v_I (Int32.ofNat 1)), some (v_I r), a7, G1, σ1, S1, jn_ (w1 := s_n w1 40 6) I (fun a h => eN a h) (by rw [z_sn]; omega) (by rw [s_sn]; omega) (RC_sn e4 hV) f1 f2 hV hE, fun Q => lc_37 (kk := 1) h0 hn hL hi hx hM.1.1 (k0.1.trans h0) (k0.2.1.trans hn) (fun k => k0.2.2.2 k) f2.1.1 ?_ ?_ (fun Q => lw_ex_20_40 hx q1) q2 (by omega) f3 fun h => absurd h (by omega)⟩
  · rw [f1.1]; exact t6
  · rw [f1.2.1]; exact n6
theorem sp_38 {r : Int32} {kk : Nat} (I : In_ L xs c w G σ S) (hL : L ≤ 384) (hi : 6 * c + 6 ≤ L) (hc : CF_ (d + 13) 58 [v_R (some 1000)] w (v_I r) G1 S1) (hm : ∀ w1, RM_ w1 S → MU_ (d + 13) 252 [v_R (some 1440)] w1 (v_I r) kk S1) (hV : WS_ S1) (hE : WE_ (sm_T S1)) : Stp_ L xs c d 1811 w := by
  obtain ⟨h0, hn, hx, hy, hz⟩ := in_0 I
  obtain ⟨w1, σ1, e1, e2, e3, e4, q1⟩ := hc
  have hM : RM_ w1 S := RM_ag I.2.1 fun a h1 h2 => e1 a (Or.inr ⟨h1, by omega⟩)
  obtain ⟨w2, f1, f2, f3, q2⟩ := hm w1 hM
  have k0 := e1 0 (Or.inl (by omega))
  have s1 : w_s w1 = w_s w := congrArg Prod.fst e3
  intro a5 a6 a7
  exact ⟨w2, a5, a6, a7, G1, σ1, S1, jn_ I (fun a h => e1 a h) (by omega) (by omega) e4 f1 f2 hV hE, fun Q => lc_38 h0 hn hL hi hx hM.1.1 (k0.1.trans h0) (k0.2.1.trans hn) (fun k => k0.2.2.2 k) q1 q2⟩
theorem sp_39 (I : In_ L xs c w G σ S) (hL : L ≤ 384) (hi : 6 * c + 6 ≤ L) (hc : CFV_ (d + 13) 62 [v_R (some 1000)] w  G1 S1) (hm : ∀ w1, RM_ w1 S → MUV_ (d + 13) 254 [v_R (some 1440)] w1  S1) (hV : WS_ S1) (hE : WE_ (sm_T S1)) : Stp_ L xs c d 1824 w := by
  obtain ⟨h0, hn, hx, hy, hz⟩ := in_0 I
  obtain ⟨w1, σ1, e1, e2, e3, e4, q1⟩ := hc
  have hM : RM_ w1 S := RM_ag I.2.1 fun a h1 h2 => e1 a (Or.inr ⟨h1, by omega⟩)
  obtain ⟨w2, f1, f2, q2⟩ := hm w1 hM
  have k0 := e1 0 (Or.inl (by omega))
  have s1 : w_s w1 = w_s w := congrArg Prod.fst e3
  intro a5 a6 a7
  exact ⟨w2, a5, a6, a7, G1, σ1, S1, jn_ I (fun a h => e1 a h) (by omega) (by omega) e4 f1 f2 hV hE, fun Q => lc_39 h0 hn hL hi hx hM.1.1 (k0.1.trans h0) (k0.2.1.trans hn) (fun k => k0.2.2.2 k) q1 q2⟩
theorem sp_40 {r : Int32} (I : In_ L xs c w G σ S) (hL : L ≤ 384) (hi : 6 * c + 6 ≤ L) (hc : CF_ (d + 12) 92 [v_R (some 1000), v_I (w_i w 0 (6 * c + 1))] w (v_I r) G1 S1) (hm : ∀ w1, RM_ w1 S → MU_ (d + 13) 255 [v_R (some 1440), v_I (w_i w 0 (6 * c + 1))] w1 (v_I r) 0 S1) (hV : WS_ S1) (hE : WE_ (sm_T S1)) : Stp_ L xs c d 1835 w := by
  obtain ⟨h0, hn, hx, hy, hz⟩ := in_0 I
  obtain ⟨w1, σ1, e1, e2, e3, e4, q1⟩ := hc
  have k6 := e1 1476 (Or.inr ⟨by omega, by omega⟩)
  have t6 : w_t w1 1476 = 4 := k6.1.trans I.2.2.2.2.2.1.1
  have n6 : w_n w1 1476 = 1 := k6.2.1.trans I.2.2.2.2.2.1.2
  have hM : RM_ (s_l w1 1476 0 r.toInt64) S := RM_ag I.2.1 fun a h1 h2 => e1 a (Or.inr ⟨h1, by omega⟩)
  obtain ⟨w2, f1, f2, f3, q2⟩ := hm _ hM
  have k0 := e1 0 (Or.inl (by omega))
  have s1 : w_s w1 = w_s w := congrArg Prod.fst e3
  intro a5 a6 a7
  refine ⟨w2, some (v_I (Int32.ofNat 0)), some (v_I r), a7, G1, σ1, S1, jn_ (w1 := s_l w1 1476 0 r.toInt64) I (fun a h => e1 a h) (by rw [z_sl]; omega) (by show w_s w1 ≤ _; omega) (RC_sl e4 hV) f1 f2 hV hE, fun Q => lc_40 (kk := 0) h0 hn hL hi hx hM.1.1 (k0.1.trans h0) (k0.2.1.trans hn) (fun k => k0.2.2.2 k) f2.1.1 ?_ ?_ (fun Q => lw_ok_21 hx t6 n6 q1) q2 (by omega) f3 fun _ => ?_⟩
  · rw [f1.1]; exact t6
  · rw [f1.2.1]; exact n6
  · have := congrArg Prod.snd f1.2.2.2.2.1
    have h2 : w_l w2 1476 = w_l (s_l w1 1476 0 r.toInt64) 1476 := this
    rw [h2, l_sl, if_pos ⟨rfl, rfl⟩]
theorem sx_40_1 {r : Int32} (I : In_ L xs c w G σ S) (hL : L ≤ 384) (hi : 6 * c + 6 ≤ L) (hc : CXF_ (d + 12) 92 [v_R (some 1000), v_I (w_i w 0 (6 * c + 1))] w 40 G1 S1) (hm : ∀ w1, RM_ w1 S → MU_ (d + 13) 255 [v_R (some 1440), v_I (w_i w 0 (6 * c + 1))] w1 (v_I r) 1 S1) (hV : WS_ S1) (hE : WE_ (sm_T S1)) : Stp_ L xs c d 1835 w := by
  obtain ⟨h0, hn, hx, hy, hz⟩ := in_0 I
  obtain ⟨w1, σ1, e1, e2, e3, e4, q1⟩ := hc
  have eN : ∀ a, a < 1000 ∨ (1440 ≤ a ∧ a ≤ 1476) → Eq_ w (s_n w1 40 6) a := fun a h => eq_tr (e1 a h) ⟨by rw [t_sn, if_neg (by omega)], by rw [n_sn, if_neg (by omega)], fun k => by rw [r_sn, if_neg (by omega)], fun k => by rw [i_sn, if_neg (by omega)]⟩
  have k6 := eN 1476 (Or.inr ⟨by omega, by omega⟩)
  have t6 : w_t (s_n w1 40 6) 1476 = 4 := k6.1.trans I.2.2.2.2.2.1.1
  have n6 : w_n (s_n w1 40 6) 1476 = 1 := k6.2.1.trans I.2.2.2.2.2.1.2
  have hM : RM_ (s_n w1 40 6) S := RM_ag I.2.1 fun a h1 h2 => eN a (Or.inr ⟨h1, by omega⟩)
  obtain ⟨w2, f1, f2, f3, q2⟩ := hm _ hM
  have k0 := eN 0 (Or.inl (by omega))
  have s1 : w_s w1 = w_s w := congrArg Prod.fst e3
  intro a5 a6 a7
  refine ⟨w2, some (v_I (Int32.ofNat 1)), some (v_I r), a7, G1, σ1, S1, jn_ (w1 := s_n w1 40 6) I (fun a h => eN a h) (by rw [z_sn]; omega) (by rw [s_sn]; omega) (RC_sn e4 hV) f1 f2 hV hE, fun Q => lc_40 (kk := 1) h0 hn hL hi hx hM.1.1 (k0.1.trans h0) (k0.2.1.trans hn) (fun k => k0.2.2.2 k) f2.1.1 ?_ ?_ (fun Q => lw_ex_21_40 hx q1) q2 (by omega) f3 fun h => absurd h (by omega)⟩
  · rw [f1.1]; exact t6
  · rw [f1.2.1]; exact n6
theorem sp_41 {r : Int32} (I : In_ L xs c w G σ S) (hL : L ≤ 384) (hi : 6 * c + 6 ≤ L) (hc : CF_ (d + 12) 95 [v_R (some 1000), v_I (w_i w 0 (6 * c + 1)), v_I (w_i w 0 (6 * c + 2)), v_I (w_i w 0 (6 * c + 3))] w (v_I r) G1 S1) (hm : ∀ w1, RM_ w1 S → MU_ (d + 13) 258 [v_R (some 1440), v_I (w_i w 0 (6 * c + 1)), v_I (w_i w 0 (6 * c + 2)), v_I (w_i w 0 (6 * c + 3))] w1 (v_I r) 0 S1) (hV : WS_ S1) (hE : WE_ (sm_T S1)) : Stp_ L xs c d 1891 w := by
  obtain ⟨h0, hn, hx, hy, hz⟩ := in_0 I
  obtain ⟨w1, σ1, e1, e2, e3, e4, q1⟩ := hc
  have k6 := e1 1476 (Or.inr ⟨by omega, by omega⟩)
  have t6 : w_t w1 1476 = 4 := k6.1.trans I.2.2.2.2.2.1.1
  have n6 : w_n w1 1476 = 1 := k6.2.1.trans I.2.2.2.2.2.1.2
  have hM : RM_ (s_l w1 1476 0 r.toInt64) S := RM_ag I.2.1 fun a h1 h2 => e1 a (Or.inr ⟨h1, by omega⟩)
  obtain ⟨w2, f1, f2, f3, q2⟩ := hm _ hM
  have k0 := e1 0 (Or.inl (by omega))
  have s1 : w_s w1 = w_s w := congrArg Prod.fst e3
  intro a5 a6 a7
  refine ⟨w2, some (v_I (Int32.ofNat 0)), some (v_I r), a7, G1, σ1, S1, jn_ (w1 := s_l w1 1476 0 r.toInt64) I (fun a h => e1 a h) (by rw [z_sl]; omega) (by show w_s w1 ≤ _; omega) (RC_sl e4 hV) f1 f2 hV hE, fun Q => lc_41 (kk := 0) h0 hn hL hi hx hM.1.1 (k0.1.trans h0) (k0.2.1.trans hn) (fun k => k0.2.2.2 k) f2.1.1 ?_ ?_ (fun Q => lw_ok_22 hx t6 n6 q1) q2 (by omega) f3 fun _ => ?_⟩
  · rw [f1.1]; exact t6
  · rw [f1.2.1]; exact n6
  · have := congrArg Prod.snd f1.2.2.2.2.1
    have h2 : w_l w2 1476 = w_l (s_l w1 1476 0 r.toInt64) 1476 := this
    rw [h2, l_sl, if_pos ⟨rfl, rfl⟩]
theorem sx_41_2 {r : Int32} (I : In_ L xs c w G σ S) (hL : L ≤ 384) (hi : 6 * c + 6 ≤ L) (hc : CXF_ (d + 12) 95 [v_R (some 1000), v_I (w_i w 0 (6 * c + 1)), v_I (w_i w 0 (6 * c + 2)), v_I (w_i w 0 (6 * c + 3))] w 39 G1 S1) (hm : ∀ w1, RM_ w1 S → MU_ (d + 13) 258 [v_R (some 1440), v_I (w_i w 0 (6 * c + 1)), v_I (w_i w 0 (6 * c + 2)), v_I (w_i w 0 (6 * c + 3))] w1 (v_I r) 2 S1) (hV : WS_ S1) (hE : WE_ (sm_T S1)) : Stp_ L xs c d 1891 w := by
  obtain ⟨h0, hn, hx, hy, hz⟩ := in_0 I
  obtain ⟨w1, σ1, e1, e2, e3, e4, q1⟩ := hc
  have eN : ∀ a, a < 1000 ∨ (1440 ≤ a ∧ a ≤ 1476) → Eq_ w (s_n w1 39 6) a := fun a h => eq_tr (e1 a h) ⟨by rw [t_sn, if_neg (by omega)], by rw [n_sn, if_neg (by omega)], fun k => by rw [r_sn, if_neg (by omega)], fun k => by rw [i_sn, if_neg (by omega)]⟩
  have k6 := eN 1476 (Or.inr ⟨by omega, by omega⟩)
  have t6 : w_t (s_n w1 39 6) 1476 = 4 := k6.1.trans I.2.2.2.2.2.1.1
  have n6 : w_n (s_n w1 39 6) 1476 = 1 := k6.2.1.trans I.2.2.2.2.2.1.2
  have hM : RM_ (s_n w1 39 6) S := RM_ag I.2.1 fun a h1 h2 => eN a (Or.inr ⟨h1, by omega⟩)
  obtain ⟨w2, f1, f2, f3, q2⟩ := hm _ hM
  have k0 := eN 0 (Or.inl (by omega))
  have s1 : w_s w1 = w_s w := congrArg Prod.fst e3
  intro a5 a6 a7
  refine ⟨w2, some (v_I (Int32.ofNat 2)), some (v_I r), a7, G1, σ1, S1, jn_ (w1 := s_n w1 39 6) I (fun a h => eN a h) (by rw [z_sn]; omega) (by rw [s_sn]; omega) (RC_sn e4 hV) f1 f2 hV hE, fun Q => lc_41 (kk := 2) h0 hn hL hi hx hM.1.1 (k0.1.trans h0) (k0.2.1.trans hn) (fun k => k0.2.2.2 k) f2.1.1 ?_ ?_ (fun Q => lw_ex_22_39 hx q1) q2 (by omega) f3 fun h => absurd h (by omega)⟩
  · rw [f1.1]; exact t6
  · rw [f1.2.1]; exact n6
theorem sx_41_1 {r : Int32} (I : In_ L xs c w G σ S) (hL : L ≤ 384) (hi : 6 * c + 6 ≤ L) (hc : CXF_ (d + 12) 95 [v_R (some 1000), v_I (w_i w 0 (6 * c + 1)), v_I (w_i w 0 (6 * c + 2)), v_I (w_i w 0 (6 * c + 3))] w 40 G1 S1) (hm : ∀ w1, RM_ w1 S → MU_ (d + 13) 258 [v_R (some 1440), v_I (w_i w 0 (6 * c + 1)), v_I (w_i w 0 (6 * c + 2)), v_I (w_i w 0 (6 * c + 3))] w1 (v_I r) 1 S1) (hV : WS_ S1) (hE : WE_ (sm_T S1)) : Stp_ L xs c d 1891 w := by
  obtain ⟨h0, hn, hx, hy, hz⟩ := in_0 I
  obtain ⟨w1, σ1, e1, e2, e3, e4, q1⟩ := hc
  have eN : ∀ a, a < 1000 ∨ (1440 ≤ a ∧ a ≤ 1476) → Eq_ w (s_n w1 40 6) a := fun a h => eq_tr (e1 a h) ⟨by rw [t_sn, if_neg (by omega)], by rw [n_sn, if_neg (by omega)], fun k => by rw [r_sn, if_neg (by omega)], fun k => by rw [i_sn, if_neg (by omega)]⟩
  have k6 := eN 1476 (Or.inr ⟨by omega, by omega⟩)
  have t6 : w_t (s_n w1 40 6) 1476 = 4 := k6.1.trans I.2.2.2.2.2.1.1
  have n6 : w_n (s_n w1 40 6) 1476 = 1 := k6.2.1.trans I.2.2.2.2.2.1.2
  have hM : RM_ (s_n w1 40 6) S := RM_ag I.2.1 fun a h1 h2 => eN a (Or.inr ⟨h1, by omega⟩)
  obtain ⟨w2, f1, f2, f3, q2⟩ := hm _ hM
  have k0 := eN 0 (Or.inl (by omega))
  have s1 : w_s w1 = w_s w := congrArg Prod.fst e3
  intro a5 a6 a7
  refine ⟨w2, some (v_I (Int32.ofNat 1)), some (v_I r), a7, G1, σ1, S1, jn_ (w1 := s_n w1 40 6) I (fun a h => eN a h) (by rw [z_sn]; omega) (by rw [s_sn]; omega) (RC_sn e4 hV) f1 f2 hV hE, fun Q => lc_41 (kk := 1) h0 hn hL hi hx hM.1.1 (k0.1.trans h0) (k0.2.1.trans hn) (fun k => k0.2.2.2 k) f2.1.1 ?_ ?_ (fun Q => lw_ex_22_40 hx q1) q2 (by omega) f3 fun h => absurd h (by omega)⟩
  · rw [f1.1]; exact t6
  · rw [f1.2.1]; exact n6
theorem sp_42 (I : In_ L xs c w G σ S) (hL : L ≤ 384) (hi : 6 * c + 6 ≤ L) (hc : CFV_ (d + 13) 63 [v_R (some 1000)] w  G1 S1) (hm : ∀ w1, RM_ w1 S → MUV_ (d + 13) 261 [v_R (some 1440)] w1  S1) (hV : WS_ S1) (hE : WE_ (sm_T S1)) : Stp_ L xs c d 1971 w := by
  obtain ⟨h0, hn, hx, hy, hz⟩ := in_0 I
  obtain ⟨w1, σ1, e1, e2, e3, e4, q1⟩ := hc
  have hM : RM_ w1 S := RM_ag I.2.1 fun a h1 h2 => e1 a (Or.inr ⟨h1, by omega⟩)
  obtain ⟨w2, f1, f2, q2⟩ := hm w1 hM
  have k0 := e1 0 (Or.inl (by omega))
  have s1 : w_s w1 = w_s w := congrArg Prod.fst e3
  intro a5 a6 a7
  exact ⟨w2, a5, a6, a7, G1, σ1, S1, jn_ I (fun a h => e1 a h) (by omega) (by omega) e4 f1 f2 hV hE, fun Q => lc_42 h0 hn hL hi hx hM.1.1 (k0.1.trans h0) (k0.2.1.trans hn) (fun k => k0.2.2.2 k) q1 q2⟩
theorem sp_43 {r : Bool} {kk : Nat} (I : In_ L xs c w G σ S) (hL : L ≤ 384) (hi : 6 * c + 6 ≤ L) (hc : CF_ (d + 13) 64 [v_R (some 1000)] w (v_I (b_v r)) G1 S1) (hm : ∀ w1, RM_ w1 S → MU_ (d + 13) 263 [v_R (some 1440)] w1 (v_I (b_v r)) kk S1) (hV : WS_ S1) (hE : WE_ (sm_T S1)) : Stp_ L xs c d 1982 w := by
  obtain ⟨h0, hn, hx, hy, hz⟩ := in_0 I
  obtain ⟨w1, σ1, e1, e2, e3, e4, q1⟩ := hc
  have hM : RM_ w1 S := RM_ag I.2.1 fun a h1 h2 => e1 a (Or.inr ⟨h1, by omega⟩)
  obtain ⟨w2, f1, f2, f3, q2⟩ := hm w1 hM
  have k0 := e1 0 (Or.inl (by omega))
  have s1 : w_s w1 = w_s w := congrArg Prod.fst e3
  intro a5 a6 a7
  exact ⟨w2, a5, a6, a7, G1, σ1, S1, jn_ I (fun a h => e1 a h) (by omega) (by omega) e4 f1 f2 hV hE, fun Q => lc_43 h0 hn hL hi hx hM.1.1 (k0.1.trans h0) (k0.2.1.trans hn) (fun k => k0.2.2.2 k) q1 q2⟩
end
