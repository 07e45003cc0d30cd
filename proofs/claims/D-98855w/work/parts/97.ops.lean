/-! THE LAW's CALLS, all but town (by program, wip/pure/gen97.py) -/
set_option maxRecDepth 100000
theorem lt_of_ofN {a n : Nat} (ha : a < 2147483648) (h : Int32.ofNat a < Int32.ofNat n) : a < n := by
  by_cases hn : n < 2147483648
  · rw [oo_lt ha hn] at h; exact h
  · omega
theorem le_of_ofN {a n : Nat} (ha : a < 2147483648) (h : Int32.ofNat a ≤ Int32.ofNat n) : a ≤ n := by
  by_cases hn : n < 2147483648
  · rw [oo_le ha hn] at h; exact h
  · omega
theorem WB_ref {n j : Nat} {B : Bm} (h : WB_ n B) : WB_ n (b_ref B j) := h
theorem WL_wed {n t : Nat} {X : Xm} {v : Int32} (h : WL_ n X) (hv : in_9 v) : WL_ n (x_wed X t v) := by
  refine ⟨fun j hj => ?_, h.2⟩
  show in_9 (if j = t then v else xm_w X j)
  by_cases e : j = t
  · rw [if_pos e]; exact hv
  · rw [if_neg e]; exact h.1 j hj
theorem in9_ {x : Int32} (h : Int32.ofInt (-9) ≤ x ∧ x ≤ Int32.ofNat 9) : in_9 x := ⟨Int32.le_iff_toInt_le.mp h.1, Int32.le_iff_toInt_le.mp h.2⟩
theorem WB_see {n l : Nat} {B : Bm} {x : Int32} (h : WB_ n B) (hn : n ≤ 10) (hm : bm_m B ≠ 8) (hl : l < xm_L (bm_X B)) : WB_ n (b_see B l x) := by
  obtain ⟨h1, h2, h3, h4, h5, h6, h7⟩ := h
  refine ⟨h1, h2, h3, h4, h5, ?_, fun k hk => ?_⟩
  · show bm_m B + 1 ≤ 8
    omega
  · show (if k = bm_m B then l else bm_l B k) < 10
    have hk : k < bm_m B + 1 := hk
    have := h1.1
    by_cases e : k = bm_m B
    · rw [if_pos e]; omega
    · rw [if_neg e]; exact h7 k (by omega)
theorem WB_fgt {n : Nat} {B : Bm} (h : WB_ n B) : WB_ n (b_fgt B) := ⟨h.1, h.2.1, h.2.2.1, h.2.2.2.1, h.2.2.2.2.1, Nat.zero_le _, fun k hk => absurd hk (Nat.not_lt_zero _)⟩
theorem WB_undo {n : Nat} {B : Bm} (h : WB_ n B) (ha : bm_a B ≠ 0) : WB_ n (b_undo B) := by
  obtain ⟨h1, h2, h3, h4, h5, h6, h7⟩ := h
  refine ⟨h4 _ (by omega), h5 _ (by omega), ?_, fun k hk => h4 k ?_, fun k hk => h5 k ?_, h6, h7⟩
  · show bm_a B - 1 ≤ 40
    omega
  · have hk : k < bm_a B - 1 := hk
    omega
  · have hk : k < bm_a B - 1 := hk
    omega
theorem WS_img {S : Sm} (h : WS_ S) : WS_ (s_img S) := ⟨h.1, h.2.1, h.2.2.1, h.2.2.2.1, fun B e => by cases Option.some.inj e; exact h.2.2.2.1, h.2.2.2.2.2⟩
theorem WS_feed {S : Sm} {a b c d e : Int32} (h : WS_ S) (hn : sm_n S + 20 ≤ 600) : WS_ (s_feed S a b c d e) := by
  refine ⟨h.1, h.2.1, h.2.2.1, h.2.2.2.1, h.2.2.2.2.1, hn, fun k => ?_⟩
  show (if sm_n S ≤ k ∧ k < sm_n S + 20 then w_by (wd_5 a b c d e (k - sm_n S)) ((k - sm_n S) % 4) else sm_tp S k) < 256
  by_cases z : sm_n S ≤ k ∧ k < sm_n S + 20
  · rw [if_pos z]; exact (by_m _ _).2.1
  · rw [if_neg z]; exact h.2.2.2.2.2.2 k
theorem sup_okq {T : Tm} {X : Xm} {f : Int32} (h : Int32.ofNat 0 ≤ f) : sp_ok X (f_sup T X f) := by
  have g : ∀ n a s, sp_ok X s → sp_ok X (it_ (f_sp1 T) a n s) := by
    intro n
    induction n with
    | zero => intro a s hs; exact hs
    | succ n ih => intro a s hs; exact ih _ _ (sp_ok1 hs)
  exact g _ _ _ (sp_ok0 h)
theorem WS_sup {S : Sm} (h : WS_ S) (hE : WE_ (sm_T S)) : WS_ (s_sup S) := by
  have k := sup_okq (T := sm_T S) (X := bm_X (sm_B S)) hE.2.2.1
  have w := WX_sp h.2.2.2.1.1 k
  refine WS_set h (WB_set (WB_keep h.2.2.2.1) w ?_)
  have hL := h.2.2.2.1.2.1
  refine ⟨fun t ht => ?_, fun t ht => ?_⟩
  · show in_9 (xm_w (f_sup (sm_T S) (bm_X (sm_B S)) (tm_fo (sm_T S))).1 t)
    rw [k.2.2.1]; exact hL.1 t ht
  · show in_9 (xm_l (f_sup (sm_T S) (bm_X (sm_B S)) (tm_fo (sm_T S))).1 t)
    rw [k.2.2.2.1]; exact hL.2 t ht
section
variable {w : Wd} {d c L : Nat} {xs : Nat → Int32} {G : Gm} {σ : Nat → Nat} {S : Sm}
theorem st_0 (I : In_ L xs c w G σ S) (hL : L ≤ 384) (hi : 6 * c + 6 ≤ L) : Stp_ L xs c (d + 602) 232 w := by
  have h := I.1
  have hV := I.2.2.1
  have hE := I.2.2.2.1
  have hn10 := hV.1.1
  have hXL := hV.2.2.2.1.1.1
  by_cases hn : sm_n S + 20 ≤ 600
  · exact sp_0 I hL hi (c_feed h hV hn) (fun w1 hM => MF_MU (m_feed hM hV hn)) (WS_feed hV hn) hE
  · exact sp_0 I hL hi (CR_CF h hV (c_feed_no h hV (by omega))) (fun w1 hM => MR_MU hM hV (m_feed_no hM hV (by omega))) hV hE
theorem st_2 (I : In_ L xs c w G σ S) (hL : L ≤ 384) (hi : 6 * c + 6 ≤ L) : Stp_ L xs c (d + 602) 361 w := by
  have h := I.1
  have hV := I.2.2.1
  have hE := I.2.2.2.1
  have hn10 := hV.1.1
  have hXL := hV.2.2.2.1.1.1
  exact sp_2 I hL hi (CR_CF h hV (c_fault h hV)) (fun w1 hM => MR_MU hM hV (m_fault hM hV)) hV hE
theorem st_6 (I : In_ L xs c w G σ S) (hL : L ≤ 384) (hi : 6 * c + 6 ≤ L) : Stp_ L xs c (d + 602) 566 w := by
  have h := I.1
  have hV := I.2.2.1
  have hE := I.2.2.2.1
  have hn10 := hV.1.1
  have hXL := hV.2.2.2.1.1.1
  exact sp_6 I hL hi (CR_CF h hV (c_by h hV)) (fun w1 hM => MR_MU hM hV (m_by hM hV)) hV hE
theorem st_15 (I : In_ L xs c w G σ S) (hL : L ≤ 384) (hi : 6 * c + 6 ≤ L) : Stp_ L xs c (d + 602) 965 w := by
  have h := I.1
  have hV := I.2.2.1
  have hE := I.2.2.2.1
  have hn10 := hV.1.1
  have hXL := hV.2.2.2.1.1.1
  exact sp_15 I hL hi (CR_CF h hV (c_moreop h hV)) (fun w1 hM => MR_MU hM hV (m_moreop hM hV)) hV hE
theorem st_19 (I : In_ L xs c w G σ S) (hL : L ≤ 384) (hi : 6 * c + 6 ≤ L) : Stp_ L xs c (d + 602) 1153 w := by
  have h := I.1
  have hV := I.2.2.1
  have hE := I.2.2.2.1
  have hn10 := hV.1.1
  have hXL := hV.2.2.2.1.1.1
  exact sp_19 I hL hi (CR_CF h hV (c_orders h hV)) (fun w1 hM => MR_MU hM hV (m_orders hM hV)) hV hE
theorem st_20 (I : In_ L xs c w G σ S) (hL : L ≤ 384) (hi : 6 * c + 6 ≤ L) : Stp_ L xs c (d + 602) 1167 w := by
  have h := I.1
  have hV := I.2.2.1
  have hE := I.2.2.2.1
  have hn10 := hV.1.1
  have hXL := hV.2.2.2.1.1.1
  exact sp_20 I hL hi (CR_CF h hV (c_wedges h hV)) (fun w1 hM => MR_MU hM hV (m_wedges hM hV)) hV hE
theorem st_21 (I : In_ L xs c w G σ S) (hL : L ≤ 384) (hi : 6 * c + 6 ≤ L) : Stp_ L xs c (d + 602) 1180 w := by
  have h := I.1
  have hV := I.2.2.1
  have hE := I.2.2.2.1
  have hn10 := hV.1.1
  have hXL := hV.2.2.2.1.1.1
  exact sp_21 I hL hi (CR_CF h hV (c_when h hV)) (fun w1 hM => MR_MU hM hV (m_when hM hV)) hV hE
theorem st_22 (I : In_ L xs c w G σ S) (hL : L ≤ 384) (hi : 6 * c + 6 ≤ L) : Stp_ L xs c (d + 602) 1193 w := by
  have h := I.1
  have hV := I.2.2.1
  have hE := I.2.2.2.1
  have hn10 := hV.1.1
  have hXL := hV.2.2.2.1.1.1
  exact sp_22 I hL hi (CR_CF h hV (c_mrgs h hV)) (fun w1 hM => MR_MU hM hV (m_mrgs hM hV)) hV hE
theorem st_27 (I : In_ L xs c w G σ S) (hL : L ≤ 384) (hi : 6 * c + 6 ≤ L) : Stp_ L xs c (d + 602) 1418 w := by
  have h := I.1
  have hV := I.2.2.1
  have hE := I.2.2.2.1
  have hn10 := hV.1.1
  have hXL := hV.2.2.2.1.1.1
  exact sp_27 I hL hi (CR_CF h hV (c_one h hV)) (fun w1 hM => MR_MU hM hV (m_one hM hV)) hV hE
theorem st_29 (I : In_ L xs c w G σ S) (hL : L ≤ 384) (hi : 6 * c + 6 ≤ L) : Stp_ L xs c (d + 602) 1498 w := by
  have h := I.1
  have hV := I.2.2.1
  have hE := I.2.2.2.1
  have hn10 := hV.1.1
  have hXL := hV.2.2.2.1.1.1
  exact sp_29 I hL hi (CR_CF h hV (c_swap h hV)) (fun w1 hM => MR_MU hM hV (m_swap hM hV)) hV hE
theorem st_32 (I : In_ L xs c w G σ S) (hL : L ≤ 384) (hi : 6 * c + 6 ≤ L) : Stp_ L xs c (d + 602) 1623 w := by
  have h := I.1
  have hV := I.2.2.1
  have hE := I.2.2.2.1
  have hn10 := hV.1.1
  have hXL := hV.2.2.2.1.1.1
  exact sp_32 I hL hi (CR_CF h hV (c_crk h hV)) (fun w1 hM => MR_MU hM hV (m_crk hM hV)) hV hE
theorem st_34 (I : In_ L xs c w G σ S) (hL : L ≤ 384) (hi : 6 * c + 6 ≤ L) : Stp_ L xs c (d + 602) 1692 w := by
  have h := I.1
  have hV := I.2.2.1
  have hE := I.2.2.2.1
  have hn10 := hV.1.1
  have hXL := hV.2.2.2.1.1.1
  exact sp_34 I hL hi (CR_CF h hV (c_rel h hV)) (fun w1 hM => MR_MU hM hV (m_rel hM hV)) hV hE
theorem st_35 (I : In_ L xs c w G σ S) (hL : L ≤ 384) (hi : 6 * c + 6 ≤ L) : Stp_ L xs c (d + 602) 1705 w := by
  have h := I.1
  have hV := I.2.2.1
  have hE := I.2.2.2.1
  have hn10 := hV.1.1
  have hXL := hV.2.2.2.1.1.1
  exact sp_35 I hL hi (CR_CF h hV (c_hung h hV)) (fun w1 hM => MR_MU hM hV (m_hung hM hV)) hV hE
theorem st_38 (I : In_ L xs c w G σ S) (hL : L ≤ 384) (hi : 6 * c + 6 ≤ L) : Stp_ L xs c (d + 602) 1811 w := by
  have h := I.1
  have hV := I.2.2.1
  have hE := I.2.2.2.1
  have hn10 := hV.1.1
  have hXL := hV.2.2.2.1.1.1
  exact sp_38 I hL hi (CR_CF h hV (c_look h hV)) (fun w1 hM => MR_MU hM hV (m_look hM hV)) hV hE
theorem st_3 (I : In_ L xs c w G σ S) (hL : L ≤ 384) (hi : 6 * c + 6 ≤ L) : Stp_ L xs c (d + 602) 374 w := by
  have h := I.1
  have hV := I.2.2.1
  have hE := I.2.2.2.1
  have hn10 := hV.1.1
  have hXL := hV.2.2.2.1.1.1
  rcases oo_3 (w_i w 0 (6 * c + 1)) 15 (by omega) with ⟨k, hk, e⟩ | nok
  · exact sp_3 I hL hi (by rw [e]; exact CR_CF h hV (c_count h hV hk)) (fun w1 hM => by rw [e]; exact MR_MU hM hV (m_count hM hV hk)) hV hE
  · exact sx_3_1 I hL hi (CX_CF h hV (c_count_x h hV nok)) (fun w1 hM => MR_MU hM hV (m_count_x hM hV nok)) hV hE
theorem st_4 (I : In_ L xs c w G σ S) (hL : L ≤ 384) (hi : 6 * c + 6 ≤ L) : Stp_ L xs c (d + 602) 430 w := by
  have h := I.1
  have hV := I.2.2.1
  have hE := I.2.2.2.1
  have hn10 := hV.1.1
  have hXL := hV.2.2.2.1.1.1
  rcases oo_3 (w_i w 0 (6 * c + 1)) (tm_n (sm_T S)) (by omega) with ⟨t, ht, e1⟩ | not
  · rcases oo_3 (w_i w 0 (6 * c + 2)) 8 (by omega) with ⟨k, hk, e2⟩ | nok
    · exact sp_4 I hL hi (by rw [e1, e2]; exact CR_CF h hV (c_table h hV ht hk)) (fun w1 hM => by rw [e1, e2]; exact MR_MU hM hV (m_table hM hV ht hk)) hV hE
    · exact sx_4_1 I hL hi (by rw [e1]; exact CX_CF h hV (c_table_x h hV ht nok)) (fun w1 hM => by rw [e1]; exact MR_MU hM hV (m_table_x hM hV ht nok)) hV hE
  · exact sx_4_1 I hL hi (CX_CF h hV (c_table_y h hV not)) (fun w1 hM => MR_MU hM hV (m_table_y hM hV not)) hV hE
theorem st_5 (I : In_ L xs c w G σ S) (hL : L ≤ 384) (hi : 6 * c + 6 ≤ L) : Stp_ L xs c (d + 602) 498 w := by
  have h := I.1
  have hV := I.2.2.1
  have hE := I.2.2.2.1
  have hn10 := hV.1.1
  have hXL := hV.2.2.2.1.1.1
  rcases oo_3 (w_i w 0 (6 * c + 1)) (xm_L (bm_X (sm_B S))) (by omega) with ⟨t, ht, e1⟩ | not
  · rcases oo_3 (w_i w 0 (6 * c + 2)) 5 (by omega) with ⟨k, hk, e2⟩ | nok
    · exact sp_5 I hL hi (by rw [e1, e2]; exact CR_CF h hV (c_level h hV ht hk)) (fun w1 hM => by rw [e1, e2]; exact MR_MU hM hV (m_level hM hV ht hk)) hV hE
    · exact sx_5_1 I hL hi (by rw [e1]; exact CX_CF h hV (c_level_x h hV ht nok)) (fun w1 hM => by rw [e1]; exact MR_MU hM hV (m_level_x hM hV ht nok)) hV hE
  · exact sx_5_1 I hL hi (CX_CF h hV (c_level_y h hV not)) (fun w1 hM => MR_MU hM hV (m_level_y hM hV not)) hV hE
theorem st_7 (I : In_ L xs c w G σ S) (hL : L ≤ 384) (hi : 6 * c + 6 ≤ L) : Stp_ L xs c (d + 602) 579 w := by
  have h := I.1
  have hV := I.2.2.1
  have hE := I.2.2.2.1
  have hn10 := hV.1.1
  have hXL := hV.2.2.2.1.1.1
  rcases oo_3 (w_i w 0 (6 * c + 1)) (tm_n (sm_T S)) (by omega) with ⟨t, ht, e1⟩ | not
  · by_cases hf : f_lv (bm_X (sm_B S)) t = none
    rcases oo_3 (w_i w 0 (6 * c + 2)) (xm_L (bm_X (sm_B S)) + 1) (by omega) with ⟨l, hl, e2⟩ | nol
    · exact sp_7 I hL hi (by rw [e1, e2]; exact CA_CF (c_put h hV ht hf (by omega))) (fun w1 hM => by rw [e1, e2]; exact MA_MU (m_put hM hV ht hf (by omega))) (WS_set hV (WB_set (WB_keep hV.2.2.2.1) (WX_put hV.2.2.2.1.1 (lv_rm1 hV.2.2.2.1.1 ht hf) (by omega) ht hf) hV.2.2.2.1.2.1)) hE
    · exact sp_7 I hL hi (by rw [e1]; exact CA_CF (c_put_no h hV ht (Or.inr nol))) (fun w1 hM => by rw [e1]; exact MA_MU (m_put_no hM hV ht (Or.inr nol))) (WS_set hV (WB_ref hV.2.2.2.1)) hE
    · exact sp_7 I hL hi (by rw [e1]; exact CA_CF (c_put_no h hV ht (Or.inl (by cases g : f_lv (bm_X (sm_B S)) t with | none => exact absurd g hf | some _ => rfl)))) (fun w1 hM => by rw [e1]; exact MA_MU (m_put_no hM hV ht (Or.inl (by cases g : f_lv (bm_X (sm_B S)) t with | none => exact absurd g hf | some _ => rfl)))) (WS_set hV (WB_ref hV.2.2.2.1)) hE
  · exact sx_7_1 I hL hi (CX_CF h hV (c_put_y h hV not)) (fun w1 hM => MR_MU hM hV (m_put_y hM hV not)) hV hE
theorem st_8 (I : In_ L xs c w G σ S) (hL : L ≤ 384) (hi : 6 * c + 6 ≤ L) : Stp_ L xs c (d + 602) 647 w := by
  have h := I.1
  have hV := I.2.2.1
  have hE := I.2.2.2.1
  have hn10 := hV.1.1
  have hXL := hV.2.2.2.1.1.1
  rcases oo_3 (w_i w 0 (6 * c + 1)) (tm_n (sm_T S)) (by omega) with ⟨t, ht, e1⟩ | not
  · cases hf : f_lv (bm_X (sm_B S)) t with
    | none =>
      exact sp_8 I hL hi (by rw [e1]; exact CA_CF (c_take_no h hV ht hf)) (fun w1 hM => by rw [e1]; exact MA_MU (m_take_no hM hV ht hf)) (WS_set hV (WB_ref hV.2.2.2.1)) hE
    | some l =>
      exact sp_8 I hL hi (by rw [e1]; exact CA_CF (c_take h hV ht hf)) (fun w1 hM => by rw [e1]; exact MA_MU (m_take hM hV ht hf)) (WS_set hV (WB_set (WB_keep hV.2.2.2.1) (WX_take hV.2.2.2.1.1 (flv_lt hf)) hV.2.2.2.1.2.1)) hE
  · exact sx_8_1 I hL hi (CX_CF h hV (c_take_y h hV not)) (fun w1 hM => MR_MU hM hV (m_take_y hM hV not)) hV hE
theorem st_9 (I : In_ L xs c w G σ S) (hL : L ≤ 384) (hi : 6 * c + 6 ≤ L) : Stp_ L xs c (d + 602) 703 w := by
  have h := I.1
  have hV := I.2.2.1
  have hE := I.2.2.2.1
  have hn10 := hV.1.1
  have hXL := hV.2.2.2.1.1.1
  rcases oo_3 (w_i w 0 (6 * c + 1)) (xm_L (bm_X (sm_B S))) (by omega) with ⟨a, ha, e1⟩ | noa
  · rcases oo_3 (w_i w 0 (6 * c + 2)) (xm_L (bm_X (sm_B S))) (by omega) with ⟨b, hb, e2⟩ | nob
    · by_cases hab : a = b
      · subst hab
        exact sp_9 I hL hi (by rw [e1, e2]; exact CA_CF (c_change_no h hV ha)) (fun w1 hM => by rw [e1, e2]; exact MA_MU (m_change_no hM hV ha)) (WS_set hV (WB_ref hV.2.2.2.1)) hE
      · exact sp_9 I hL hi (by rw [e1, e2]; exact CA_CF (c_change h hV ha hb hab)) (fun w1 hM => by rw [e1, e2]; exact MA_MU (m_change hM hV ha hb hab)) (WS_set hV (WB_set (WB_keep hV.2.2.2.1) (WX_swp hV.2.2.2.1.1 ha hb) hV.2.2.2.1.2.1)) hE
    · exact sx_9_1 I hL hi (CX_CF h hV (c_change_x h hV (Or.inr nob))) (fun w1 hM => MR_MU hM hV (m_change_x hM hV (Or.inr nob))) hV hE
  · exact sx_9_1 I hL hi (CX_CF h hV (c_change_x h hV (Or.inl noa))) (fun w1 hM => MR_MU hM hV (m_change_x hM hV (Or.inl noa))) hV hE
theorem st_10 (I : In_ L xs c w G σ S) (hL : L ≤ 384) (hi : 6 * c + 6 ≤ L) : Stp_ L xs c (d + 602) 778 w := by
  have h := I.1
  have hV := I.2.2.1
  have hE := I.2.2.2.1
  have hn10 := hV.1.1
  have hXL := hV.2.2.2.1.1.1
  rcases oo_3 (w_i w 0 (6 * c + 1)) (tm_n (sm_T S)) (by omega) with ⟨t, ht, e1⟩ | not
  · by_cases hx : Int32.ofInt (-9) ≤ (w_i w 0 (6 * c + 2)) ∧ (w_i w 0 (6 * c + 2)) ≤ Int32.ofNat 9
    · exact sp_10 I hL hi (by rw [e1]; exact CA_CF (c_wed h hV ht hx)) (fun w1 hM => by rw [e1]; exact MA_MU (m_wed hM hV ht hx)) (WS_set hV (WB_set (WB_keep hV.2.2.2.1) (WX_wed hV.2.2.2.1.1) (WL_wed hV.2.2.2.1.2.1 (in9_ hx)))) hE
    · exact sp_10 I hL hi (by rw [e1]; exact CA_CF (c_wed_no h hV ht hx)) (fun w1 hM => by rw [e1]; exact MA_MU (m_wed_no hM hV ht hx)) (WS_set hV (WB_ref hV.2.2.2.1)) hE
  · exact sx_10_1 I hL hi (CX_CF h hV (c_wed_y h hV not)) (fun w1 hM => MR_MU hM hV (m_wed_y hM hV not)) hV hE
theorem st_11 (I : In_ L xs c w G σ S) (hL : L ≤ 384) (hi : 6 * c + 6 ≤ L) : Stp_ L xs c (d + 602) 846 w := by
  have h := I.1
  have hV := I.2.2.1
  have hE := I.2.2.2.1
  have hn10 := hV.1.1
  have hXL := hV.2.2.2.1.1.1
  rcases oo_3 (w_i w 0 (6 * c + 1)) (tm_n (sm_T S)) (by omega) with ⟨t, ht, e1⟩ | not
  · by_cases hx : Int32.ofInt (-9) ≤ (w_i w 0 (6 * c + 2)) ∧ (w_i w 0 (6 * c + 2)) ≤ Int32.ofNat 9
    · exact sp_11 I hL hi (by rw [e1]; exact CA_CF (c_saw h hV ht hx)) (fun w1 hM => by rw [e1]; exact MA_MU (m_saw hM hV ht hx)) (WS_set hV (WB_set (WB_keep hV.2.2.2.1) (WX_lea hV.2.2.2.1.1) (WL_lea hV.2.2.2.1.2.1 (in9_ hx)))) hE
    · exact sp_11 I hL hi (by rw [e1]; exact CA_CF (c_saw_no h hV ht hx)) (fun w1 hM => by rw [e1]; exact MA_MU (m_saw_no hM hV ht hx)) (WS_set hV (WB_ref hV.2.2.2.1)) hE
  · exact sx_11_1 I hL hi (CX_CF h hV (c_saw_y h hV not)) (fun w1 hM => MR_MU hM hV (m_saw_y hM hV not)) hV hE
theorem st_12 (I : In_ L xs c w G σ S) (hL : L ≤ 384) (hi : 6 * c + 6 ≤ L) : Stp_ L xs c (d + 602) 914 w := by
  have h := I.1
  have hV := I.2.2.1
  have hE := I.2.2.2.1
  have hn10 := hV.1.1
  have hXL := hV.2.2.2.1.1.1
  exact sp_12 I hL hi (c_supper h hV (in_kc I) hE) (fun w1 hM => MA_MU (m_supper hM hV hE)) (WS_sup hV hE) hE
theorem st_13 (I : In_ L xs c w G σ S) (hL : L ≤ 384) (hi : 6 * c + 6 ≤ L) : Stp_ L xs c (d + 602) 927 w := by
  have h := I.1
  have hV := I.2.2.1
  have hE := I.2.2.2.1
  have hn10 := hV.1.1
  have hXL := hV.2.2.2.1.1.1
  by_cases hx : Int32.ofNat 1 ≤ (w_i w 0 (6 * c + 1)) ∧ (w_i w 0 (6 * c + 1)) ≤ Int32.ofNat 30
  · by_cases hy : xm_y (bm_X (sm_B S)) + (w_i w 0 (6 * c + 1)) ≤ Int32.ofNat 999
    · exact sp_13 I hL hi (CA_CF (c_years h hV hx hy)) (fun w1 hM => MA_MU (m_years hM hV hx hy)) (WS_set hV (WB_set (WB_keep hV.2.2.2.1) (WX_yrs hV.2.2.2.1.1) hV.2.2.2.1.2.1)) hE
    · exact sp_13 I hL hi (CA_CF (c_years_no h hV (Or.inr hy))) (fun w1 hM => MA_MU (m_years_no hM hV (Or.inr hy))) (WS_set hV (WB_ref hV.2.2.2.1)) hE
  · exact sp_13 I hL hi (CA_CF (c_years_no h hV (Or.inl hx))) (fun w1 hM => MA_MU (m_years_no hM hV (Or.inl hx))) (WS_set hV (WB_ref hV.2.2.2.1)) hE
theorem st_14 (I : In_ L xs c w G σ S) (hL : L ≤ 384) (hi : 6 * c + 6 ≤ L) : Stp_ L xs c (d + 602) 952 w := by
  have h := I.1
  have hV := I.2.2.1
  have hE := I.2.2.2.1
  have hn10 := hV.1.1
  have hXL := hV.2.2.2.1.1.1
  by_cases ha : bm_a (sm_B S) = 0
  · exact sp_14 I hL hi (CR_CF h hV (c_undo_no h hV ha)) (fun w1 hM => MR_MU hM hV (m_undo_no hM hV ha)) hV hE
  · exact sp_14 I hL hi (CA_CF (c_undo h hV ha)) (fun w1 hM => MA_MU (m_undo hM hV ha)) (WS_set hV (WB_undo hV.2.2.2.1 ha)) hE
theorem st_16 (I : In_ L xs c w G σ S) (hL : L ≤ 384) (hi : 6 * c + 6 ≤ L) : Stp_ L xs c (d + 602) 978 w := by
  have h := I.1
  have hV := I.2.2.1
  have hE := I.2.2.2.1
  have hn10 := hV.1.1
  have hXL := hV.2.2.2.1.1.1
  rcases oo_3 (w_i w 0 (6 * c + 1)) (tm_n (sm_T S)) (by omega) with ⟨t, ht, e1⟩ | not
  · cases hf : f_lv (bm_X (sm_B S)) t with
    | none =>
      exact sp_16 I hL hi (by rw [e1]; exact CR_CF h hV (c_wout_no h hV ht hf)) (fun w1 hM => by rw [e1]; exact MR_MU hM hV (m_wout_no hM hV ht hf)) hV hE
    | some l =>
      exact sp_16 I hL hi (by rw [e1]; exact CR_CF h hV (c_wout h hV ht hf)) (fun w1 hM => by rw [e1]; exact MR_MU hM hV (m_wout hM hV ht hf)) hV hE
  · exact sx_16_1 I hL hi (CX_CF h hV (c_wout_y h hV not)) (fun w1 hM => MR_MU hM hV (m_wout_y hM hV not)) hV hE
theorem st_17 (I : In_ L xs c w G σ S) (hL : L ≤ 384) (hi : 6 * c + 6 ≤ L) : Stp_ L xs c (d + 602) 1041 w := by
  have h := I.1
  have hV := I.2.2.1
  have hE := I.2.2.2.1
  have hn10 := hV.1.1
  have hXL := hV.2.2.2.1.1.1
  by_cases hx : Int32.ofNat 0 ≤ (w_i w 0 (6 * c + 1)) ∧ (w_i w 0 (6 * c + 1)) ≤ Int32.ofNat 1
  · exact sp_17 I hL hi (CR_CF h hV (c_most h hV hx)) (fun w1 hM => MR_MU hM hV (m_most hM hV hx)) hV hE
  · exact sx_17_1 I hL hi (CX_CF h hV (c_most_x h hV hx)) (fun w1 hM => MR_MU hM hV (m_most_x hM hV hx)) hV hE
theorem st_31 (I : In_ L xs c w G σ S) (hL : L ≤ 384) (hi : 6 * c + 6 ≤ L) : Stp_ L xs c (d + 602) 1567 w := by
  have h := I.1
  have hV := I.2.2.1
  have hE := I.2.2.2.1
  have hn10 := hV.1.1
  have hXL := hV.2.2.2.1.1.1
  by_cases hx : Int32.ofNat 0 ≤ (w_i w 0 (6 * c + 1)) ∧ (w_i w 0 (6 * c + 1)) ≤ Int32.ofNat 99
  · exact sp_31 I hL hi (CR_CF h hV (c_brkn h hV hx)) (fun w1 hM => MR_MU hM hV (m_brkn hM hV hx)) hV hE
  · exact sx_31_1 I hL hi (CX_CF h hV (c_brkn_x h hV hx)) (fun w1 hM => MR_MU hM hV (m_brkn_x hM hV hx)) hV hE
theorem st_37 (I : In_ L xs c w G σ S) (hL : L ≤ 384) (hi : 6 * c + 6 ≤ L) : Stp_ L xs c (d + 602) 1755 w := by
  have h := I.1
  have hV := I.2.2.1
  have hE := I.2.2.2.1
  have hn10 := hV.1.1
  have hXL := hV.2.2.2.1.1.1
  by_cases hx : Int32.ofNat 0 ≤ (w_i w 0 (6 * c + 1)) ∧ (w_i w 0 (6 * c + 1)) ≤ Int32.ofNat 2
  · exact sp_37 I hL hi (CR_CF h hV (c_wh h hV hx)) (fun w1 hM => MR_MU hM hV (m_wh hM hV hx)) hV hE
  · exact sx_37_1 I hL hi (CX_CF h hV (c_wh_x h hV hx)) (fun w1 hM => MR_MU hM hV (m_wh_x hM hV hx)) hV hE
theorem st_40 (I : In_ L xs c w G σ S) (hL : L ≤ 384) (hi : 6 * c + 6 ≤ L) : Stp_ L xs c (d + 602) 1835 w := by
  have h := I.1
  have hV := I.2.2.1
  have hE := I.2.2.2.1
  have hn10 := hV.1.1
  have hXL := hV.2.2.2.1.1.1
  by_cases hx : Int32.ofNat 0 ≤ (w_i w 0 (6 * c + 1)) ∧ (w_i w 0 (6 * c + 1)) ≤ Int32.ofNat 1
  · exact sp_40 I hL hi (CR_CF h hV (c_game h hV hx)) (fun w1 hM => MR_MU hM hV (m_game hM hV hx)) hV hE
  · exact sx_40_1 I hL hi (CX_CF h hV (c_game_x h hV hx)) (fun w1 hM => MR_MU hM hV (m_game_x hM hV hx)) hV hE
theorem st_33 (I : In_ L xs c w G σ S) (hL : L ≤ 384) (hi : 6 * c + 6 ≤ L) : Stp_ L xs c (d + 602) 1636 w := by
  have h := I.1
  have hV := I.2.2.1
  have hE := I.2.2.2.1
  have hn10 := hV.1.1
  have hXL := hV.2.2.2.1.1.1
  by_cases hx : Int32.ofNat 0 ≤ (w_i w 0 (6 * c + 1)) ∧ (w_i w 0 (6 * c + 1)) ≤ Int32.ofNat 999
  · exact sp_33 I hL hi (CR_CF h hV (c_top h hV (in_kc I) hE hx)) (fun w1 hM => MR_MU hM hV (m_top hM hV hE hx)) hV hE
  · exact sx_33_1 I hL hi (CX_CF h hV (c_top_x h hV hx)) (fun w1 hM => MR_MU hM hV (m_top_x hM hV hx)) hV hE
theorem st_18 (I : In_ L xs c w G σ S) (hL : L ≤ 384) (hi : 6 * c + 6 ≤ L) : Stp_ L xs c (d + 602) 1097 w := by
  have h := I.1
  have hV := I.2.2.1
  have hE := I.2.2.2.1
  have hn10 := hV.1.1
  have hXL := hV.2.2.2.1.1.1
  by_cases hr : no_row (w_i w 0 (6 * c + 1)) (bt_n (f_mst (sm_T S) (bm_X (sm_B S))))
  · exact sx_18_1 I hL hi (CX_CF h hV (c_row_x h hV hr)) (fun w1 hM => MR_MU hM hV (m_row_x hM hV hr)) hV hE
  · obtain ⟨h0, h1⟩ := not_or.mp hr
    obtain ⟨i, hi9, e1⟩ := oo_of h0
    have hin : i < bt_n (f_mst (sm_T S) (bm_X (sm_B S))) := by
      rw [e1] at h1
      have h1 := Decidable.not_not.mp h1
      exact lt_of_ofN hi9 h1
    exact sp_18 I hL hi (by rw [e1]; exact CR_CF h hV (c_row h hV hin)) (fun w1 hM => by rw [e1]; exact MR_MU hM hV (m_row hM hV hin)) hV hE
theorem st_23 (I : In_ L xs c w G σ S) (hL : L ≤ 384) (hi : 6 * c + 6 ≤ L) : Stp_ L xs c (d + 602) 1206 w := by
  have h := I.1
  have hV := I.2.2.1
  have hE := I.2.2.2.1
  have hn10 := hV.1.1
  have hXL := hV.2.2.2.1.1.1
  rcases oo_3 (w_i w 0 (6 * c + 1)) (tm_n (sm_T S)) (by omega) with ⟨a, ha, e1⟩ | noa
  · rcases oo_3 (w_i w 0 (6 * c + 2)) (tm_n (sm_T S)) (by omega) with ⟨b, hb, e2⟩ | nob
    · by_cases hab : a = b
      · subst hab
        exact sx_23_2 I hL hi (by rw [e1, e2]; exact CX_CF h hV (c_marry_2 h hV ha)) (fun w1 hM => by rw [e1, e2]; exact MR_MU hM hV (m_marry_2 hM hV ha)) hV hE
      · exact sp_23 I hL hi (by rw [e1, e2]; exact CR_CF h hV (c_marry h hV ha hb hab)) (fun w1 hM => by rw [e1, e2]; exact MR_MU hM hV (m_marry hM hV ha hb hab)) hV hE
    · exact sx_23_1 I hL hi (CX_CF h hV (c_marry_1 h hV (Or.inr nob))) (fun w1 hM => MR_MU hM hV (m_marry_1 hM hV (Or.inr nob))) hV hE
  · exact sx_23_1 I hL hi (CX_CF h hV (c_marry_1 h hV (Or.inl noa))) (fun w1 hM => MR_MU hM hV (m_marry_1 hM hV (Or.inl noa))) hV hE
theorem st_24 (I : In_ L xs c w G σ S) (hL : L ≤ 384) (hi : 6 * c + 6 ≤ L) : Stp_ L xs c (d + 602) 1281 w := by
  have h := I.1
  have hV := I.2.2.1
  have hE := I.2.2.2.1
  have hn10 := hV.1.1
  have hXL := hV.2.2.2.1.1.1
  rcases oo_3 (w_i w 0 (6 * c + 1)) (tm_n (sm_T S)) (by omega) with ⟨t, ht, e1⟩ | not
  · cases hl : (f_lv (bm_X (sm_B S)) t).isNone with
    | false =>
      by_cases hx : Int32.ofNat 0 ≤ (w_i w 0 (6 * c + 2)) ∧ (w_i w 0 (6 * c + 2)) ≤ Int32.ofNat 99
      · exact sp_24 I hL hi (by rw [e1]; exact CR_CF h hV (c_nod h hV ht hl hx)) (fun w1 hM => by rw [e1]; exact MR_MU hM hV (m_nod hM hV ht hl hx)) hV hE
      · exact sx_24_2 I hL hi (by rw [e1]; exact CX_CF h hV (c_nod_2 h hV ht hl hx)) (fun w1 hM => by rw [e1]; exact MR_MU hM hV (m_nod_2 hM hV ht hl hx)) hV hE
    | true =>
      exact sx_24_1 I hL hi (CX_CF h hV (c_nod_1 h hV (Or.inr ⟨t, ht, e1, hl⟩))) (fun w1 hM => MR_MU hM hV (m_nod_1 hM hV (Or.inr ⟨t, ht, e1, hl⟩))) hV hE
  · exact sx_24_1 I hL hi (CX_CF h hV (c_nod_1 h hV (Or.inl not))) (fun w1 hM => MR_MU hM hV (m_nod_1 hM hV (Or.inl not))) hV hE
theorem st_25 (I : In_ L xs c w G σ S) (hL : L ≤ 384) (hi : 6 * c + 6 ≤ L) : Stp_ L xs c (d + 602) 1349 w := by
  have h := I.1
  have hV := I.2.2.1
  have hE := I.2.2.2.1
  have hn10 := hV.1.1
  have hXL := hV.2.2.2.1.1.1
  exact sp_25 I hL hi (CR_CF h hV (c_fair h hV (in_kc I) hE)) (fun w1 hM => MR_MU hM hV (m_fair hM hV hE)) hV hE
theorem st_26 (I : In_ L xs c w G σ S) (hL : L ≤ 384) (hi : 6 * c + 6 ≤ L) : Stp_ L xs c (d + 602) 1362 w := by
  have h := I.1
  have hV := I.2.2.1
  have hE := I.2.2.2.1
  have hn10 := hV.1.1
  have hXL := hV.2.2.2.1.1.1
  rcases oo_3 (w_i w 0 (6 * c + 1)) (tm_n (sm_T S)) (by omega) with ⟨t, ht, e1⟩ | not
  · cases hl : (f_lv (bm_X (sm_B S)) t).isNone with
    | false =>
      exact sp_26 I hL hi (by rw [e1]; exact CR_CF h hV (c_out h hV ht hl)) (fun w1 hM => by rw [e1]; exact MR_MU hM hV (m_out hM hV ht hl)) hV hE
    | true =>
      exact sx_26_1 I hL hi (CX_CF h hV (c_out_x h hV (Or.inr ⟨t, ht, e1, hl⟩))) (fun w1 hM => MR_MU hM hV (m_out_x hM hV (Or.inr ⟨t, ht, e1, hl⟩))) hV hE
  · exact sx_26_1 I hL hi (CX_CF h hV (c_out_x h hV (Or.inl not))) (fun w1 hM => MR_MU hM hV (m_out_x hM hV (Or.inl not))) hV hE
theorem st_28 (I : In_ L xs c w G σ S) (hL : L ≤ 384) (hi : 6 * c + 6 ≤ L) : Stp_ L xs c (d + 602) 1431 w := by
  have h := I.1
  have hV := I.2.2.1
  have hE := I.2.2.2.1
  have hn10 := hV.1.1
  have hXL := hV.2.2.2.1.1.1
  by_cases hr : no_li (w_i w 0 (6 * c + 1)) (w_i w 0 (6 * c + 2)) (2 ^ (tm_n (sm_T S)))
  · exact sx_28_1 I hL hi (CX_CF h hV (c_lifted_x h hV hr)) (fun w1 hM => MR_MU hM hV (m_lifted_x hM hV hr)) hV hE
  · obtain ⟨h0, h1⟩ := not_or.mp hr
    obtain ⟨h1, h2⟩ := not_or.mp h1
    have h2 := Decidable.not_not.mp h2
    obtain ⟨s, hs9, e1⟩ := oo_of h0
    obtain ⟨q, hq9, e2⟩ := oo_of (Int32.not_lt.mpr h2.1)
    have hs : s < 2 ^ tm_n (sm_T S) := by
      rw [e1] at h1
      have h1 := Decidable.not_not.mp h1
      exact lt_of_ofN hs9 h1
    have hq : q ≤ 10 := by
      rw [e2] at h2
      exact le_of_ofN hq9 h2.2
    exact sp_28 I hL hi (by rw [e1, e2]; exact CR_CF h hV (c_lifted h hV hs hq)) (fun w1 hM => by rw [e1, e2]; exact MR_MU hM hV (m_lifted hM hV hs hq)) hV hE
theorem st_30 (I : In_ L xs c w G σ S) (hL : L ≤ 384) (hi : 6 * c + 6 ≤ L) : Stp_ L xs c (d + 602) 1511 w := by
  have h := I.1
  have hV := I.2.2.1
  have hE := I.2.2.2.1
  have hn10 := hV.1.1
  have hXL := hV.2.2.2.1.1.1
  rcases oo_3 (w_i w 0 (6 * c + 1)) (xm_L (bm_X (sm_B S))) (by omega) with ⟨l, hl, e1⟩ | nol
  · exact sp_30 I hL hi (by rw [e1]; exact CR_CF h hV (c_slack h hV hl)) (fun w1 hM => by rw [e1]; exact MR_MU hM hV (m_slack hM hV hl)) hV hE
  · exact sx_30_1 I hL hi (CX_CF h hV (c_slack_x h hV nol)) (fun w1 hM => MR_MU hM hV (m_slack_x hM hV nol)) hV hE
theorem st_36 (I : In_ L xs c w G σ S) (hL : L ≤ 384) (hi : 6 * c + 6 ≤ L) : Stp_ L xs c (d + 602) 1718 w := by
  have h := I.1
  have hV := I.2.2.1
  have hE := I.2.2.2.1
  have hn10 := hV.1.1
  have hXL := hV.2.2.2.1.1.1
  by_cases hm : bm_m (sm_B S) = 8
  · exact sp_36 I hL hi (CA_CF (c_see_no h hV (Or.inl hm))) (fun w1 hM => MA_MU (m_see_no hM hV (Or.inl hm))) (WS_set hV (WB_ref hV.2.2.2.1)) hE
  · rcases oo_3 (w_i w 0 (6 * c + 1)) (xm_L (bm_X (sm_B S))) (by omega) with ⟨l, hl, e1⟩ | nol
    · by_cases hx : Int32.ofInt (-99) ≤ (w_i w 0 (6 * c + 2)) ∧ (w_i w 0 (6 * c + 2)) ≤ Int32.ofNat 99
      · exact sp_36 I hL hi (by rw [e1]; exact CA_CF (c_see h hV hm hl hx)) (fun w1 hM => by rw [e1]; exact MA_MU (m_see hM hV hm hl hx)) (WS_set hV (WB_see hV.2.2.2.1 hn10 hm hl)) hE
      · exact sp_36 I hL hi (CA_CF (c_see_no h hV (Or.inr (Or.inr hx)))) (fun w1 hM => MA_MU (m_see_no hM hV (Or.inr (Or.inr hx)))) (WS_set hV (WB_ref hV.2.2.2.1)) hE
    · exact sp_36 I hL hi (CA_CF (c_see_no h hV (Or.inr (Or.inl nol)))) (fun w1 hM => MA_MU (m_see_no hM hV (Or.inr (Or.inl nol)))) (WS_set hV (WB_ref hV.2.2.2.1)) hE
theorem st_39 (I : In_ L xs c w G σ S) (hL : L ≤ 384) (hi : 6 * c + 6 ≤ L) : Stp_ L xs c (d + 602) 1824 w := by
  have h := I.1
  have hV := I.2.2.1
  have hE := I.2.2.2.1
  have hn10 := hV.1.1
  have hXL := hV.2.2.2.1.1.1
  obtain ⟨w1, f, h1, q⟩ := c_fgt (d := d + 615) h hV
  exact sp_39 I hL hi ⟨w1, σ, fun a ha => ⟨by rw [f.1], by rw [f.2.1], fun k => f.2.2.1 a k (by omega), fun k => f.2.2.2.2.2 a k (by omega)⟩, f.2.2.2.1, f.2.2.2.2.1, h1, q⟩ (fun w1 hM => by
    obtain ⟨w2, f, h2, q⟩ := m_fgt (d := d + 615) hM hV
    exact ⟨w2, fr_mo f fun a k hp => (by unfold pb_ pm_ at hp; unfold mo_; omega), h2, q⟩) (WS_set hV (WB_fgt hV.2.2.2.1)) hE
theorem st_41 (I : In_ L xs c w G σ S) (hL : L ≤ 384) (hi : 6 * c + 6 ≤ L) : Stp_ L xs c (d + 602) 1891 w := by
  have h := I.1
  have hV := I.2.2.1
  have hE := I.2.2.2.1
  have hn10 := hV.1.1
  have hXL := hV.2.2.2.1.1.1
  by_cases hx : Int32.ofNat 0 ≤ (w_i w 0 (6 * c + 3)) ∧ (w_i w 0 (6 * c + 3)) ≤ Int32.ofNat 2
  · by_cases hm : Int32.ofNat 0 ≤ (w_i w 0 (6 * c + 2)) ∧ (w_i w 0 (6 * c + 2)) ≤ Int32.ofNat 40
    · obtain ⟨m, hm9, e2⟩ := oo_of (Int32.not_lt.mpr hm.1)
      have hm4 : m ≤ 40 := by
        rw [e2] at hm
        exact le_of_ofN hm9 hm.2
      exact sp_41 I hL hi (by rw [e2]; exact CR_CF h hV (c_dec h hV hm4 hx)) (fun w1 hM => by rw [e2]; exact MR_MU hM hV (m_dec hM hV hm4 hx)) hV hE
    · exact sx_41_2 I hL hi (CX_CF h hV (c_dec_2 h hV hx hm)) (fun w1 hM => MR_MU hM hV (m_dec_2 hM hV hx hm)) hV hE
  · exact sx_41_1 I hL hi (CX_CF h hV (c_dec_1 h hV hx)) (fun w1 hM => MR_MU hM hV (m_dec_1 hM hV hx)) hV hE
theorem st_42 (I : In_ L xs c w G σ S) (hL : L ≤ 384) (hi : 6 * c + 6 ≤ L) : Stp_ L xs c (d + 602) 1971 w := by
  have h := I.1
  have hV := I.2.2.1
  have hE := I.2.2.2.1
  have hn10 := hV.1.1
  have hXL := hV.2.2.2.1.1.1
  obtain ⟨w1, f1, f2, f3, h1, q⟩ := c_image (d := d + 603) h hV
  exact sp_42 I hL hi ⟨w1, σ, f1, f2, f3, h1, q⟩ (fun w1 hM => by
    obtain ⟨w2, f, h2, q⟩ := m_image (d := d + 614) hM hV
    exact ⟨w2, fr_mo f fun a k hp => hp, h2, q⟩) (WS_img hV) hE
theorem st_43 (I : In_ L xs c w G σ S) (hL : L ≤ 384) (hi : 6 * c + 6 ≤ L) : Stp_ L xs c (d + 602) 1982 w := by
  have h := I.1
  have hV := I.2.2.1
  have hE := I.2.2.2.1
  have hn10 := hV.1.1
  have hXL := hV.2.2.2.1.1.1
  cases hI : sm_I S with
  | none =>
    exact sp_43 I hL hi (CR_CF h hV (c_rst_no h hV hI)) (fun w1 hM => MR_MU hM hV (m_rst_no hM hV hI)) hV hE
  | some B =>
    exact sp_43 I hL hi (CA_CF (c_rst h hV hI)) (fun w1 hM => MA_MU (m_rst hM hV hI)) (WS_set hV (hV.2.2.2.2.1 B hI)) hE
end
