/-! CONSTRUCTORS: the model -/
set_option maxRecDepth 100000
/-- arrays made, one for each row (field, tag, length) -/
def mk_ : List (Nat × Nat × Nat) → Wd → Wd
  | [], w => w
  | e :: l, w => mk_ l (s_r (s_n w e.2.1 e.2.2) 1440 e.1 (some (w_z w)))
theorem mk_z : ∀ (l : List (Nat × Nat × Nat)) (w : Wd), w_z (mk_ l w) = w_z w + l.length := by
  intro l
  induction l with
  | nil => intro w; rfl
  | cons e l ih => intro w; unfold mk_; rw [ih, z_sr, z_sn, List.length_cons]; omega
theorem mk_s : ∀ (l : List (Nat × Nat × Nat)) (w : Wd), w_s (mk_ l w) = w_s w + (l.map fun e => e.2.2).sum := by
  intro l
  induction l with
  | nil => intro w; rfl
  | cons e l ih => intro w; unfold mk_; rw [ih, s_sr, s_sn, List.map_cons, List.sum_cons]; omega
theorem mk_kp : ∀ (l : List (Nat × Nat × Nat)) (w : Wd) (z : Nat), z ≤ w_z w → Kp_ (fun b => b < z ∧ b ≠ 1440) w (mk_ l w) := by
  intro l
  induction l with
  | nil => intro w z _; exact kp_rf _ _
  | cons e l ih =>
    intro w z hz
    unfold mk_
    exact kp_tr (kp_tr (kp_n fun b h => by omega) (kp_r fun b h => h.2)) (ih _ z (by rw [z_sr, z_sn]; omega))
theorem mkq_ : ∀ (l : List (Nat × Nat × Nat)) (w : Wd), 1440 < w_z w → w_t (mk_ l w) 1440 = w_t w 1440 ∧ (∀ k, w_i (mk_ l w) 1440 k = w_i w 1440 k) ∧ ∀ k, (∀ e, e ∈ l → e.1 ≠ k) → w_r (mk_ l w) 1440 k = w_r w 1440 k := by
  intro l
  induction l with
  | nil => intro w _; exact ⟨rfl, fun _ => rfl, fun _ _ => rfl⟩
  | cons e l ih =>
    intro w hz
    obtain ⟨h1, h2, h3⟩ := ih (s_r (s_n w e.2.1 e.2.2) 1440 e.1 (some (w_z w))) (by rw [z_sr, z_sn]; omega)
    unfold mk_
    refine ⟨?_, fun k => ?_, fun k hk => ?_⟩
    · rw [h1, t_sr, t_sn, if_neg (by omega)]
    · rw [h2, i_sr, i_sn, if_neg (by omega)]
    · rw [h3 k (fun e' he => hk e' (List.mem_cons_of_mem _ he)), r_sr, if_neg (fun z => hk e List.mem_cons_self z.2.symm), r_sn, if_neg (by omega)]
theorem mk_at : ∀ (l : List (Nat × Nat × Nat)) (w : Wd) (z : Nat), w_z w = z → 1440 < z → (l.map fun e => e.1).Nodup → ∀ i e, l[i]? = some e → w_r (mk_ l w) 1440 e.1 = some (z + i) ∧ w_t (mk_ l w) (z + i) = e.2.1 ∧ w_n (mk_ l w) (z + i) = e.2.2 ∧ ∀ k, w_i (mk_ l w) (z + i) k = Int32.ofNat 0 := by
  intro l
  induction l with
  | nil => intro w z _ _ _ i e h; simp at h
  | cons a l ih =>
    intro w z hz h14 hn i e h
    obtain ⟨n1, n2⟩ := List.nodup_cons.mp hn
    unfold mk_
    cases i with
    | zero =>
      cases Option.some.inj h
      have k1 := mk_kp l (s_r (s_n w a.2.1 a.2.2) 1440 a.1 (some (w_z w))) (z + 1) (by rw [z_sr, z_sn]; omega) z (by omega)
      have k2 := (mkq_ l (s_r (s_n w a.2.1 a.2.2) 1440 a.1 (some (w_z w))) (by rw [z_sr, z_sn]; omega)).2.2 a.1 (fun e he z => n1 (List.mem_map.mpr ⟨e, he, z⟩))
      refine ⟨?_, ?_, ?_, fun k => ?_⟩
      · rw [k2, r_sr, if_pos ⟨rfl, rfl⟩, hz]; rfl
      · refine k1.1.trans ?_
        rw [t_sr, t_sn, if_pos hz.symm]
      · refine k1.2.1.trans ?_
        rw [n_sr, n_sn, if_pos hz.symm]
      · refine (k1.2.2.1 k).trans ?_
        rw [i_sr, i_sn, if_pos hz.symm]; rfl
    | succ i =>
      have := ih (s_r (s_n w a.2.1 a.2.2) 1440 a.1 (some (w_z w))) (z + 1) (by rw [z_sr, z_sn, hz]) (by omega) n2 i e h
      rw [show z + (i + 1) = z + 1 + i from by omega]
      exact this
def L1_ : List (Nat × Nat × Nat) := [(5, 1, 20), (6, 1, 20), (7, 1, 20), (8, 1, 20), (9, 1, 20), (10, 1, 1200), (11, 1, 3), (12, 1, 600)]
def L2_ : List (Nat × Nat × Nat) := [(23, 1, 10), (24, 1, 10), (25, 1, 10), (26, 1, 10), (27, 1, 1720)]
def L3_ : List (Nat × Nat × Nat) := [(33, 1, 6), (34, 1, 64), (35, 1, 43), (36, 1, 1024), (37, 1, 1024), (38, 4, 1024), (41, 1, 81), (42, 1, 81), (43, 1, 8)]
def L4_ : List (Nat × Nat × Nat) := [(44, 1, 8), (45, 1, 200), (46, 1, 200), (48, 1, 200), (53, 1, 43), (54, 1, 1720), (55, 1, 8), (56, 1, 8), (57, 1, 3)]
section
variable {w : Wd}
theorem L1_w (hz : 1440 < w_z w) (ht : w_t w 1440 = 25) {d : Nat} {Q : Q_} : wp d 149 140 [some (v_R (some 1440))] [] w Q = wp d 149 205 [some (v_R (some 1440))] [] (mk_ L1_ w) Q := by
  unfold L1_
  simp only [mk_]
  simp (disch := first | omega | decide | assumption | (simp (disch := omega) only [t_sn, t_sr, z_sr, z_sn, if_neg]; first | done | omega)) only [x_149_e, x_149_b, x_149_140, x_149_141, x_149_143, x_149_145, x_149_148, x_149_149, x_149_151, x_149_153, x_149_156, x_149_157, x_149_159, x_149_161, x_149_164, x_149_165, x_149_167, x_149_169, x_149_172, x_149_173, x_149_175, x_149_177, x_149_180, x_149_181, x_149_184, x_149_186, x_149_189, x_149_190, x_149_191, x_149_193, x_149_196, x_149_197, x_149_200, x_149_202, bk_v, bk_n, nl_I, nl_R, nl_0, oo_lt, oo_tn, true_and, not_true_eq_false, not_false_eq_true, Nat.reduceLT, Nat.reduceLeDiff, z_sr, z_sn]
theorem L2_w (hz : 1440 < w_z w) (ht : w_t w 1440 = 25) {d : Nat} {Q : Q_} : wp d 149 210 [some (v_R (some 1440))] [] w Q = wp d 149 251 [some (v_R (some 1440))] [] (mk_ L2_ w) Q := by
  unfold L2_
  simp only [mk_]
  simp (disch := first | omega | decide | assumption | (simp (disch := omega) only [t_sn, t_sr, z_sr, z_sn, if_neg]; first | done | omega)) only [x_149_e, x_149_b, x_149_210, x_149_211, x_149_213, x_149_215, x_149_218, x_149_219, x_149_221, x_149_223, x_149_226, x_149_227, x_149_229, x_149_231, x_149_234, x_149_235, x_149_237, x_149_239, x_149_242, x_149_243, x_149_246, x_149_248, bk_v, bk_n, nl_I, nl_R, nl_0, oo_lt, oo_tn, true_and, not_true_eq_false, not_false_eq_true, Nat.reduceLT, Nat.reduceLeDiff, z_sr, z_sn]
theorem L3_w (hz : 1440 < w_z w) (ht : w_t w 1440 = 25) {d : Nat} {Q : Q_} : wp d 149 256 [some (v_R (some 1440))] [] w Q = wp d 149 331 [some (v_R (some 1440))] [] (mk_ L3_ w) Q := by
  unfold L3_
  simp only [mk_]
  simp (disch := first | omega | decide | assumption | (simp (disch := omega) only [t_sn, t_sr, z_sr, z_sn, if_neg]; first | done | omega)) only [x_149_e, x_149_b, x_149_256, x_149_257, x_149_259, x_149_261, x_149_264, x_149_265, x_149_267, x_149_269, x_149_272, x_149_273, x_149_275, x_149_277, x_149_280, x_149_281, x_149_284, x_149_286, x_149_289, x_149_290, x_149_293, x_149_295, x_149_298, x_149_299, x_149_302, x_149_304, x_149_307, x_149_308, x_149_310, x_149_312, x_149_315, x_149_316, x_149_318, x_149_320, x_149_323, x_149_324, x_149_326, x_149_328, bk_v, bk_n, nl_I, nl_R, nl_0, oo_lt, oo_tn, true_and, not_true_eq_false, not_false_eq_true, Nat.reduceLT, Nat.reduceLeDiff, z_sr, z_sn]
theorem L4_w (hz : 1440 < w_z w) (ht : w_t w 1440 = 25) {d : Nat} {Q : Q_} : wp d 149 331 [some (v_R (some 1440))] [] w Q = wp d 149 406 [some (v_R (some 1440))] [] (mk_ L4_ w) Q := by
  unfold L4_
  simp only [mk_]
  simp (disch := first | omega | decide | assumption | (simp (disch := omega) only [t_sn, t_sr, z_sr, z_sn, if_neg]; first | done | omega)) only [x_149_e, x_149_b, x_149_331, x_149_332, x_149_334, x_149_336, x_149_339, x_149_340, x_149_343, x_149_345, x_149_348, x_149_349, x_149_352, x_149_354, x_149_357, x_149_358, x_149_361, x_149_363, x_149_366, x_149_367, x_149_369, x_149_371, x_149_374, x_149_375, x_149_378, x_149_380, x_149_383, x_149_384, x_149_386, x_149_388, x_149_391, x_149_392, x_149_394, x_149_396, x_149_399, x_149_400, x_149_401, x_149_403, bk_v, bk_n, nl_I, nl_R, nl_0, oo_lt, oo_tn, true_and, not_true_eq_false, not_false_eq_true, Nat.reduceLT, Nat.reduceLeDiff, z_sr, z_sn]
def wfa_ (W : Wd) : Wd := s_r (s_r (s_r (s_r (s_r (s_n W 6 4) 1441 0 (some 38)) 1441 1 (some 39)) 1441 2 (some 40)) 1441 3 (some 41)) 1440 0 (some 1441)
def wfb_ (W : Wd) : Wd := s_r (s_r (s_r (s_r (s_r (s_r (s_r (s_n W 6 6) 1442 0 (some 42)) 1442 1 (some 43)) 1442 2 (some 44)) 1442 3 (some 45)) 1442 4 (some 46)) 1442 5 (some 47)) 1440 1 (some 1442)
def wfc_ (W : Wd) : Wd := s_r (s_i (s_i (s_i (s_i (s_n W 1 4) 1443 0 (Int32.ofNat 3)) 1443 1 (Int32.ofNat 1)) 1443 2 (Int32.ofNat 2)) 1443 3 (Int32.ofNat 2)) 1440 2 (some 1443)
def wfd_ (W : Wd) : Wd := s_r (s_i (s_i (s_i (s_i (s_i (s_i (s_i (s_i (s_n W 1 8) 1444 0 (Int32.ofNat 0)) 1444 1 (Int32.ofNat 9)) 1444 2 (Int32.ofNat 100)) 1444 3 (Int32.ofNat 0)) 1444 4 (Int32.ofNat 0)) 1444 5 (Int32.ofNat 9)) 1444 6 (Int32.ofNat 100)) 1444 7 (Int32.ofNat 0)) 1440 4 (some 1444)
theorem wfa_w (hz : w_z w = 1441) (ht : w_t w 1440 = 25) (hs : ∀ i, i < 10 → w_t w (38 + i) = 18) {d : Nat} {Q : Q_} : wp d 149 4 [some (v_R (some 1440))] [] w Q = wp d 149 32 [some (v_R (some 1440))] [] (wfa_ w) Q := by
  unfold wfa_
  have s0 : w_t w 38 = 18 := hs 0 (by omega)
  have s1 : w_t w 39 = 18 := hs 1 (by omega)
  have s2 : w_t w 40 = 18 := hs 2 (by omega)
  have s3 : w_t w 41 = 18 := hs 3 (by omega)
  simp (disch := first | omega | decide | assumption | (simp only [t_sn, t_sr, t_si, n_sn, n_sr, n_si, z_sr, z_sn, z_si, hz, ht, s0, s1, s2, s3, Nat.reduceEqDiff, if_true, if_false, false_and, true_and, and_self, and_true, false_or, or_true, or_false, true_or, eq_self]; first | done | omega)) only [x_149_e, x_149_b, x_149_4, x_149_5, x_149_6, x_149_9, x_149_10, x_149_11, x_149_13, x_149_14, x_149_15, x_149_16, x_149_18, x_149_19, x_149_20, x_149_21, x_149_23, x_149_24, x_149_25, x_149_26, x_149_28, x_149_29, bk_v, bk_n, nl_I, nl_R, nl_0, oo_lt, oo_tn, oo_ir, true_and, not_true_eq_false, not_false_eq_true, Nat.reduceLT, Nat.reduceLeDiff, decide_true, n_sn, n_sr, n_si, z_sr, z_sn, z_si, hz, if_true]
theorem wfb_w (hz : w_z w = 1442) (ht : w_t w 1440 = 25) (hs : ∀ i, i < 10 → w_t w (38 + i) = 18) {d : Nat} {Q : Q_} : wp d 149 32 [some (v_R (some 1440))] [] w Q = wp d 149 71 [some (v_R (some 1440))] [] (wfb_ w) Q := by
  unfold wfb_
  have s0 : w_t w 42 = 18 := hs 4 (by omega)
  have s1 : w_t w 43 = 18 := hs 5 (by omega)
  have s2 : w_t w 44 = 18 := hs 6 (by omega)
  have s3 : w_t w 45 = 18 := hs 7 (by omega)
  have s4 : w_t w 46 = 18 := hs 8 (by omega)
  have s5 : w_t w 47 = 18 := hs 9 (by omega)
  simp (disch := first | omega | decide | assumption | (simp only [t_sn, t_sr, t_si, n_sn, n_sr, n_si, z_sr, z_sn, z_si, hz, ht, s0, s1, s2, s3, s4, s5, Nat.reduceEqDiff, if_true, if_false, false_and, true_and, and_self, and_true, false_or, or_true, or_false, true_or, eq_self]; first | done | omega)) only [x_149_e, x_149_b, x_149_32, x_149_33, x_149_35, x_149_38, x_149_39, x_149_40, x_149_42, x_149_43, x_149_44, x_149_45, x_149_47, x_149_48, x_149_49, x_149_50, x_149_52, x_149_53, x_149_54, x_149_55, x_149_57, x_149_58, x_149_59, x_149_60, x_149_62, x_149_63, x_149_64, x_149_65, x_149_67, x_149_68, bk_v, bk_n, nl_I, nl_R, nl_0, oo_lt, oo_tn, oo_ir, true_and, not_true_eq_false, not_false_eq_true, Nat.reduceLT, Nat.reduceLeDiff, decide_true, n_sn, n_sr, n_si, z_sr, z_sn, z_si, hz, if_true]
theorem wfc_w (hz : w_z w = 1443) (ht : w_t w 1440 = 25) {d : Nat} {Q : Q_} : wp d 149 71 [some (v_R (some 1440))] [] w Q = wp d 149 94 [some (v_R (some 1440))] [] (wfc_ w) Q := by
  unfold wfc_
  simp (disch := first | omega | decide | assumption | (simp only [t_sn, t_sr, t_si, n_sn, n_sr, n_si, z_sr, z_sn, z_si, hz, ht, Nat.reduceEqDiff, if_true, if_false, false_and, true_and, and_self, and_true, false_or, or_true, or_false, true_or, eq_self]; first | done | omega)) only [x_149_e, x_149_b, x_149_71, x_149_72, x_149_73, x_149_75, x_149_76, x_149_77, x_149_78, x_149_79, x_149_80, x_149_81, x_149_82, x_149_83, x_149_84, x_149_85, x_149_86, x_149_87, x_149_88, x_149_89, x_149_90, x_149_91, bk_v, bk_n, nl_I, nl_R, nl_0, oo_lt, oo_tn, oo_ir, true_and, not_true_eq_false, not_false_eq_true, Nat.reduceLT, Nat.reduceLeDiff, decide_true, n_sn, n_sr, n_si, z_sr, z_sn, z_si, hz, if_true]
theorem wfd_w (hz : w_z w = 1444) (ht : w_t w 1440 = 25) {d : Nat} {Q : Q_} : wp d 149 94 [some (v_R (some 1440))] [] w Q = wp d 149 140 [some (v_R (some 1440))] [] (wfd_ w) Q := by
  unfold wfd_
  simp (disch := first | omega | decide | assumption | (simp only [t_sn, t_sr, t_si, n_sn, n_sr, n_si, z_sr, z_sn, z_si, hz, ht, Nat.reduceEqDiff, if_true, if_false, false_and, true_and, and_self, and_true, false_or, or_true, or_false, true_or, eq_self]; first | done | omega)) only [x_149_e, x_149_b, x_149_94, x_149_95, x_149_97, x_149_99, x_149_100, x_149_101, x_149_102, x_149_103, x_149_104, x_149_105, x_149_107, x_149_108, x_149_109, x_149_110, x_149_112, x_149_113, x_149_114, x_149_115, x_149_116, x_149_117, x_149_118, x_149_119, x_149_120, x_149_121, x_149_122, x_149_123, x_149_125, x_149_126, x_149_127, x_149_129, x_149_131, x_149_132, x_149_133, x_149_135, x_149_136, x_149_137, bk_v, bk_n, nl_I, nl_R, nl_0, oo_lt, oo_tn, oo_ir, true_and, not_true_eq_false, not_false_eq_true, Nat.reduceLT, Nat.reduceLeDiff, decide_true, n_sn, n_sr, n_si, z_sr, z_sn, z_si, hz, if_true]
/-- the model's arrays, all -/
def wm_ (w : Wd) : Wd := mk_ L4_ (mk_ L3_ (s_i (mk_ L2_ (s_i (mk_ L1_ (wfd_ (wfc_ (wfb_ (wfa_ w))))) 1440 22 (Int32.ofInt (-1)))) 1440 30 (Int32.ofInt (-1))))
theorem wfa_f (hz : w_z w = 1441) (ht : w_t w 1440 = 25) : w_z (wfa_ w) = 1442 ∧ w_s (wfa_ w) = w_s w + 4 ∧ w_t (wfa_ w) 1440 = 25 ∧ w_r (wfa_ w) 1440 0 = some 1441 ∧ (∀ k, w_i (wfa_ w) 1440 k = w_i w 1440 k) ∧ w_t (wfa_ w) 1441 = 6 ∧ w_n (wfa_ w) 1441 = 4 ∧ (∀ k, k < 4 → w_r (wfa_ w) 1441 k = some (38 + k)) := by
  unfold wfa_
  refine ⟨?_, ?_, ?_, ?_, fun k => ?_, ?_, ?_, fun k hk => ?_⟩
  case refine_8 => rcases (by omega : k = 0 ∨ k = 1 ∨ k = 2 ∨ k = 3) with rfl | rfl | rfl | rfl <;> simp only [t_sn, t_sr, t_si, n_sn, n_sr, n_si, i_sn, i_sr, i_si, r_sn, r_sr, r_si, z_sn, z_sr, z_si, s_sn, s_sr, s_si, hz, ht, Nat.reduceEqDiff, Nat.reduceAdd, if_true, if_false, and_self, true_and, false_and, and_false]
  all_goals simp only [t_sn, t_sr, t_si, n_sn, n_sr, n_si, i_sn, i_sr, i_si, r_sn, r_sr, r_si, z_sn, z_sr, z_si, s_sn, s_sr, s_si, hz, ht, Nat.reduceEqDiff, Nat.reduceAdd, if_true, if_false, and_self, true_and, false_and, and_false]
theorem wfb_f (hz : w_z w = 1442) (ht : w_t w 1440 = 25) : w_z (wfb_ w) = 1443 ∧ w_s (wfb_ w) = w_s w + 6 ∧ w_t (wfb_ w) 1440 = 25 ∧ w_r (wfb_ w) 1440 1 = some 1442 ∧ (∀ k, w_i (wfb_ w) 1440 k = w_i w 1440 k) ∧ w_t (wfb_ w) 1442 = 6 ∧ w_n (wfb_ w) 1442 = 6 ∧ (∀ k, k < 6 → w_r (wfb_ w) 1442 k = some (42 + k)) ∧ w_r (wfb_ w) 1440 0 = w_r w 1440 0 := by
  unfold wfb_
  refine ⟨?_, ?_, ?_, ?_, fun k => ?_, ?_, ?_, fun k hk => ?_, ?_⟩
  case refine_8 => rcases (by omega : k = 0 ∨ k = 1 ∨ k = 2 ∨ k = 3 ∨ k = 4 ∨ k = 5) with rfl | rfl | rfl | rfl | rfl | rfl <;> simp only [t_sn, t_sr, t_si, n_sn, n_sr, n_si, i_sn, i_sr, i_si, r_sn, r_sr, r_si, z_sn, z_sr, z_si, s_sn, s_sr, s_si, hz, ht, Nat.reduceEqDiff, Nat.reduceAdd, if_true, if_false, and_self, true_and, false_and, and_false]
  all_goals simp only [t_sn, t_sr, t_si, n_sn, n_sr, n_si, i_sn, i_sr, i_si, r_sn, r_sr, r_si, z_sn, z_sr, z_si, s_sn, s_sr, s_si, hz, ht, Nat.reduceEqDiff, Nat.reduceAdd, if_true, if_false, and_self, true_and, false_and, and_false]
theorem wfc_f (hz : w_z w = 1443) (ht : w_t w 1440 = 25) : w_z (wfc_ w) = 1444 ∧ w_s (wfc_ w) = w_s w + 4 ∧ w_t (wfc_ w) 1440 = 25 ∧ w_r (wfc_ w) 1440 2 = some 1443 ∧ (∀ k, w_i (wfc_ w) 1440 k = w_i w 1440 k) ∧ w_t (wfc_ w) 1443 = 1 ∧ w_n (wfc_ w) 1443 = 4 ∧ (∀ k, k < 4 → w_i (wfc_ w) 1443 k = f_wk k) ∧ ∀ k, k ≠ 2 → w_r (wfc_ w) 1440 k = w_r w 1440 k := by
  unfold wfc_
  refine ⟨?_, ?_, ?_, ?_, fun k => ?_, ?_, ?_, fun k hk => ?_, fun k hk => ?_⟩
  case refine_8 => rcases (by omega : k = 0 ∨ k = 1 ∨ k = 2 ∨ k = 3) with rfl | rfl | rfl | rfl <;> (simp only [t_sn, t_sr, t_si, n_sn, n_sr, n_si, i_sn, i_sr, i_si, r_sn, r_sr, r_si, z_sn, z_sr, z_si, s_sn, s_sr, s_si, hz, ht, Nat.reduceEqDiff, Nat.reduceAdd, if_true, if_false, and_self, true_and, false_and, and_false]; rfl)
  case refine_9 => simp only [t_sn, t_sr, t_si, n_sn, n_sr, n_si, i_sn, i_sr, i_si, r_sn, r_sr, r_si, z_sn, z_sr, z_si, s_sn, s_sr, s_si, hz, ht, Nat.reduceEqDiff, Nat.reduceAdd, if_true, if_false, and_self, true_and, false_and, and_false, hk]
  all_goals simp only [t_sn, t_sr, t_si, n_sn, n_sr, n_si, i_sn, i_sr, i_si, r_sn, r_sr, r_si, z_sn, z_sr, z_si, s_sn, s_sr, s_si, hz, ht, Nat.reduceEqDiff, Nat.reduceAdd, if_true, if_false, and_self, true_and, false_and, and_false]
theorem wfd_f (hz : w_z w = 1444) (ht : w_t w 1440 = 25) : w_z (wfd_ w) = 1445 ∧ w_s (wfd_ w) = w_s w + 8 ∧ w_t (wfd_ w) 1440 = 25 ∧ w_r (wfd_ w) 1440 4 = some 1444 ∧ (∀ k, w_i (wfd_ w) 1440 k = w_i w 1440 k) ∧ w_t (wfd_ w) 1444 = 1 ∧ w_n (wfd_ w) 1444 = 8 ∧ w_i (wfd_ w) 1444 0 = Int32.ofNat 0 ∧ w_i (wfd_ w) 1444 1 = Int32.ofNat 9 ∧ w_i (wfd_ w) 1444 2 = Int32.ofNat 100 ∧ w_i (wfd_ w) 1444 3 = Int32.ofNat 0 ∧ ∀ k, k ≠ 4 → w_r (wfd_ w) 1440 k = w_r w 1440 k := by
  unfold wfd_
  refine ⟨?_, ?_, ?_, ?_, fun k => ?_, ?_, ?_, ?_, ?_, ?_, ?_, fun k hk => ?_⟩
  case refine_12 => simp only [t_sn, t_sr, t_si, n_sn, n_sr, n_si, i_sn, i_sr, i_si, r_sn, r_sr, r_si, z_sn, z_sr, z_si, s_sn, s_sr, s_si, hz, ht, Nat.reduceEqDiff, Nat.reduceAdd, if_true, if_false, and_self, true_and, false_and, and_false, hk]
  all_goals simp only [t_sn, t_sr, t_si, n_sn, n_sr, n_si, i_sn, i_sr, i_si, r_sn, r_sr, r_si, z_sn, z_sr, z_si, s_sn, s_sr, s_si, hz, ht, Nat.reduceEqDiff, Nat.reduceAdd, if_true, if_false, and_self, true_and, false_and, and_false]
end
