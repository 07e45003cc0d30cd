/-! WHAT FITS, part two: the model's which; unlike tilts; look -/
set_option maxRecDepth 100000
theorem nar_o1 : vp_nar .boolean (Int32.ofNat 1) = Int32.ofNat 1 := by decide
theorem nar_o0 : vp_nar .boolean (Int32.ofNat 0) = Int32.ofNat 0 := by decide
/-- how many unlike ones -/
def un_ (g : Nat → Int32) (s : List Nat) : Nat := it_ (fun i v => if (ff_ (fun q => decide (g (s.getD q 0) = g (s.getD i 0))) 0 i).isNone = true then v + 1 else v) 0 s.length 0
theorem ff_any (g : Nat → Int32) (x : Int32) : ∀ s : List Nat, (ff_ (fun q => decide (g (s.getD q 0) = x)) 0 s.length).isSome = s.any (fun q => decide (g q = x)) := by
  intro s
  induction s with
  | nil => rfl
  | cons a s ih =>
    rw [List.length_cons, ff_, List.any_cons, ← ih]
    have e := ff_sh (fun q => decide (g ((a :: s).getD q 0) = x)) 1 s.length 0
    by_cases h : g a = x
    · rw [if_pos (show decide (g ((a :: s).getD 0 0) = x) = true from decide_eq_true h), decide_eq_true h]; rfl
    · rw [if_neg (by show ¬ decide (g a = x) = true; rw [decide_eq_false h]; decide), decide_eq_false h, Bool.false_or, show (0 : Nat) + 1 = 1 + 0 from rfl, e, Option.isSome_map]
      congr 1
      refine ff_c (fun i _ _ => ?_)
      rw [Nat.add_comm]; rfl
theorem un_app (g : Nat → Int32) (s : List Nat) (k : Nat) : un_ g (s ++ [k]) = if s.any (fun q => decide (g q = g k)) = true then un_ g s else un_ g s + 1 := by
  unfold un_
  rw [List.length_append]
  show it_ _ 0 (s.length + 1) 0 = _
  rw [it_1, Nat.zero_add, ← ff_any g (g k) s]
  have e1 : ∀ v, it_ (fun i v => if (ff_ (fun q => decide (g ((s ++ [k]).getD q 0) = g ((s ++ [k]).getD i 0))) 0 i).isNone = true then v + 1 else v) 0 s.length v = it_ (fun i v => if (ff_ (fun q => decide (g (s.getD q 0) = g (s.getD i 0))) 0 i).isNone = true then v + 1 else v) 0 s.length v := fun v => it_c (fun i v _ hi => by
    rw [sl_get (by omega)]
    have : ff_ (fun q => decide (g ((s ++ [k]).getD q 0) = g (s.getD i 0))) 0 i = ff_ (fun q => decide (g (s.getD q 0) = g (s.getD i 0))) 0 i := ff_c (fun q _ hq => by rw [sl_get (by omega)])
    rw [this])
  have e2 : ff_ (fun q => decide (g ((s ++ [k]).getD q 0) = g ((s ++ [k]).getD s.length 0))) 0 s.length = ff_ (fun q => decide (g (s.getD q 0) = g k)) 0 s.length := by
    rw [sl_last]
    exact ff_c (fun q _ hq => by rw [sl_get (by omega)])
  rw [e1, e2]
  cases ff_ (fun q => decide (g (s.getD q 0) = g k)) 0 s.length with
  | none => rfl
  | some j => rfl
/-! bounds of tilts -/
def ab_ (m : Nat) (x : Int32) : Prop := -(m : Int) ≤ x.toInt ∧ x.toInt ≤ (m : Int)
theorem ab_add {m k : Nat} {x y : Int32} (hx : ab_ m x) (hy : ab_ k y) (h : m + k < 2147483648) : ab_ (m + k) (x + y) := by
  unfold ab_ at *
  rw [Int32.toInt_add, Int.bmod_eq_of_le (by omega) (by omega)]
  omega
theorem ab_2 {m : Nat} {x : Int32} (hx : ab_ m x) (h : 2 * m < 2147483648) : ab_ (2 * m) (Int32.ofNat 2 * x) := by
  unfold ab_ at *
  rw [Int32.toInt_mul, oo_in (by omega), Int.bmod_eq_of_le (by omega) (by omega)]
  omega
theorem ab_le {m k : Nat} {x : Int32} (hx : ab_ m x) (h : m ≤ k) : ab_ k x := by
  unfold ab_ at *
  omega
theorem tu_ab {n t : Nat} {T : Tm} {X : Xm} (hL : WL_ n X) (ht : t < n) : ab_ 36 (f_tu T X t) := by
  have h1 : ab_ 9 (xm_w X t) := hL.1 t ht
  have h2 : ab_ 9 (xm_l X t) := hL.2 t ht
  have h3 := ab_add h2 h1 (by omega)
  unfold f_tu
  split
  · exact ab_2 h3 (by omega)
  · exact ab_le h3 (by omega)
theorem tilt_ab {n l : Nat} {T : Tm} {X : Xm} (hX : WX_ n X) (hL : WL_ n X) (hl : l < xm_L X) (h10 : xm_L X ≤ 10) : ab_ 360 (f_tilt T X l) := by
  have key : ∀ (c k : Nat) (v : Int32), k + c ≤ xm_L X → ab_ (36 * k) v → ab_ (36 * (k + c)) (it_ (fun k v => v + f_tu T X (xm_t X k)) k c v) := by
    intro c
    induction c with
    | zero => intro k v _ hv; exact hv
    | succ c ih =>
      intro k v hk hv
      rw [it_, show k + (c + 1) = k + 1 + c by omega]
      exact ih (k + 1) _ (by omega) (ab_le (ab_add hv (tu_ab hL (hX.2.1 k (by omega))) (by omega)) (by omega))
  have := key (l + 1) 0 (Int32.ofNat 0) (by omega) (by unfold ab_; rw [oo_in (by omega)]; omega)
  exact ab_le this (by omega)
theorem ab_500 {x : Int32} (h : ab_ 360 x) : ∃ z, z < 1001 ∧ x + Int32.ofNat 500 = Int32.ofNat z := by
  unfold ab_ at h
  refine ⟨(x.toInt + 500).toNat, by omega, ?_⟩
  apply Int32.toInt_inj.mp
  rw [Int32.toInt_add, oo_in (by omega), oo_in (by omega), Int.bmod_eq_of_le (by omega) (by omega)]
  omega
theorem WL_lea {n t : Nat} {X : Xm} {v : Int32} (h : WL_ n X) (hv : in_9 v) : WL_ n (x_lea X t v) := by
  refine ⟨h.1, fun j hj => ?_⟩
  show in_9 (if j = t then v else xm_l X j)
  split
  · exact hv
  · exact h.2 j hj
/-- a level's tilt by a guess -/
def gt_ (T : Tm) (X : Xm) (l k : Nat) : Int32 := f_tilt T (x_lea X (xm_t X (k / 19)) (wv_ (k % 19))) l
def f_ap (T : Tm) (X : Xm) (B : Bm) (l : Nat) : Nat := un_ (gt_ T X l) (f_fits T X B)
def f_lk1 (T : Tm) (X : Xm) (B : Bm) (l : Nat) (s : Int32 × Int32) : Int32 × Int32 := if Int32.ofNat (f_ap T X B l) ≤ s.2 then s else (Int32.ofNat l, Int32.ofNat (f_ap T X B l))
def f_look (T : Tm) (X : Xm) (B : Bm) : Int32 := (it_ (f_lk1 T X B) 0 (xm_L X) (Int32.ofInt (-1), Int32.ofNat 0)).1
def TA_ (w : Wd) (g : Nat → Int32) (s : List Nat) : Prop := ∀ v, v < 1001 → w_i w 1439 v = b_v (s.any (fun q => decide (g q + Int32.ofNat 500 = Int32.ofNat v)))
def pl_ (a k : Nat) : Prop := tz_ a k ∨ a = 1439
theorem pl_pc {o a k : Nat} (h : pl_ a k) : pc_ o a k := h.elim tz_pc (fun z => by unfold pc_; omega)
theorem add_inj5 {x y : Int32} : (x + Int32.ofNat 500 = y + Int32.ofNat 500) = (x = y) := by
  refine propext ⟨fun h => ?_, fun h => by rw [h]⟩
  have := congrArg (fun z => z - Int32.ofNat 500) h
  simp only [Int32.add_sub_cancel] at this
  exact this
section
variable {w : Wd} {S : Sm} {G : Gm} {σ : Nat → Nat}
theorem RC_pl {w1 : Wd} (h : RC_ w G σ S) (hV : WS_ S) (hf : Fr_ pl_ w w1) : RC_ w1 G σ S := RC_fr h hV (fr_mo hf (fun a k z => pl_pc z))
theorem c_ap1 (h : RC_ w G σ S) (hV : WS_ S) {d l k : Nat} {s : List Nat} {a4 : Option Vl} (hl : l < xm_L (bm_X (sm_B S))) (hk : k < 19 * xm_L (bm_X (sm_B S))) (hT : TA_ w (gt_ (sm_T S) (bm_X (sm_B S)) l) s) : ∃ t : Option Vl × Wd, (Fr_ pl_ w t.2 ∧ TA_ t.2 (gt_ (sm_T S) (bm_X (sm_B S)) l) (if p_fit (sm_T S) (bm_X (sm_B S)) (sm_B S) (k / 19) (k % 19) = true then s ++ [k] else s)) ∧ ∀ Q, wp (d + 13) 59 28 [some (v_R (some 1000)), some (v_I (Int32.ofNat l)), some (v_I (Int32.ofNat (un_ (gt_ (sm_T S) (bm_X (sm_B S)) l) s))), some (v_I (Int32.ofNat k)), a4] [] w Q = wp (d + 13) 59 28 [some (v_R (some 1000)), some (v_I (Int32.ofNat l)), some (v_I (Int32.ofNat (un_ (gt_ (sm_T S) (bm_X (sm_B S)) l) (if p_fit (sm_T S) (bm_X (sm_B S)) (sm_B S) (k / 19) (k % 19) = true then s ++ [k] else s)))), some (v_I (Int32.ofNat (k + 1))), t.1] [] t.2 Q := by
  have hX9 := hV.2.2.2.1.1
  have hL9 := hV.2.2.2.1.2.1
  have hn10 := hV.1.1
  have hLn := hX9.1
  obtain ⟨w1, f1, s1, q1⟩ := c_gs h hV (d := d) hk
  have r1 := RC_tz h hV f1
  have t0 : w_t w 1000 = 20 := h.1.1
  have hg := fun d Q => c_ges h hV (d := d) (Q := Q)
  have hT1 : TA_ w1 (gt_ (sm_T S) (bm_X (sm_B S)) l) s := fun v hv => by rw [f1.2.2.2.2.2 _ _ (by unfold tz_; omega)]; exact hT v hv
  have fp : Fr_ pl_ w w1 := fr_mo f1 (fun a k z => Or.inl z)
  cases e : p_fit (sm_T S) (bm_X (sm_B S)) (sm_B S) (k / 19) (k % 19) with
  | false =>
    rw [e] at q1
    refine ⟨(a4, w1), ⟨fp, hT1⟩, fun Q => ?_⟩
    rw [x_59_28]
    simp (disch := first | omega | decide | exact ko_b _ | assumption | (simp only [t_si, t_sl, t_sr, t_sI, t_sR, n_si, n_sl, n_sr, n_sI, n_sR, r_si, r_sl, r_sI]; first | done | omega)) only [x_59_e, x_59_b, x_59_29, x_59_30, x_59_33, x_59_36, x_59_37, x_59_38, x_59_41, x_59_44, x_59_47, x_59_48, x_59_51, x_59_52, x_59_55, x_59_56, x_59_59, x_59_62, x_59_63, x_59_65, x_59_66, x_59_69, x_59_71, x_59_72, x_59_75, x_59_78, x_59_79, x_59_82, x_59_84, x_59_85, x_59_86, x_59_89, bk_v, bk_n, nl_I, nl_R, nl_L, nl_0, oo_lt, oo_le, oo_eq, oo_add, oo_sub, oo_tn, oo_ir, nn_leT, nn_leF, nn_ltT, nn_ltF, nn_eqT, nn_eqF, bv_0, bv_1, ko_b, ko_1, ko_0, true_and, and_true, if_true, if_false, not_true_eq_false, not_false_eq_true, oo_02, decide_eq_true_eq, decide_eq_false_iff_not, ite_not, Nat.reduceAdd, Nat.reduceLT, Nat.reduceSub, Nat.reduceLeDiff, reduceIte, Bool.true_eq_false, Bool.false_eq_true, reduceCtorEq, eq_self, decide_true, decide_false, bv_t, bv_f, and_self, t_si, t_sl, t_sr, t_sI, t_sR, n_si, n_sl, n_sr, n_sI, n_sR, r_si, r_sl, r_sI, hg, q1]
  | true =>
    rw [e] at q1
    have hs := s1 e
    have hk19 : k / 19 < xm_L (bm_X (sm_B S)) := by omega
    have ht := hX9.2.1 _ hk19
    have hq2 := tr_q r1 hV hs (WX_lea hX9)
    have htl := fun Q => c_tilt hq2 (d := d + 8) (l := l) (Q := Q) hl
    obtain ⟨z, hz, ez⟩ := ab_500 (tilt_ab (T := sm_T S) (X := x_lea (bm_X (sm_B S)) (xm_t (bm_X (sm_B S)) (k / 19)) (wv_ (k % 19))) (l := l) (WX_lea hX9) (WL_lea hL9 (wv_9 (Nat.mod_lt _ (by decide)))) hl (by show xm_L (bm_X (sm_B S)) ≤ 10; omega))
    have eg : gt_ (sm_T S) (bm_X (sm_B S)) l k + Int32.ofNat 500 = Int32.ofNat z := ez
    have any_eq : s.any (fun q => decide (gt_ (sm_T S) (bm_X (sm_B S)) l q + Int32.ofNat 500 = Int32.ofNat z)) = s.any (fun q => decide (gt_ (sm_T S) (bm_X (sm_B S)) l q = gt_ (sm_T S) (bm_X (sm_B S)) l k)) := by
      rw [← eg]
      simp only [add_inj5]
    have ecell := hT1 z hz
    rw [any_eq] at ecell
    refine ⟨(some (v_I (Int32.ofNat z)), s_i w1 1439 z (Int32.ofNat 1)), ⟨fr_si fp (Or.inr rfl), fun v hv => ?_⟩, fun Q => ?_⟩
    · simp only [if_true, List.any_append, List.any_cons, List.any_nil, Bool.or_false, i_si, true_and, eg]
      by_cases c : v = z
      · subst c
        rw [if_pos rfl, decide_eq_true rfl, Bool.or_true]; rfl
      · rw [if_neg c, decide_eq_false (fun h => c (oo_inj (by omega) (by omega) h).symm), Bool.or_false]
        exact hT1 v hv
    · rw [x_59_28]
      simp (disch := first | omega | decide | exact ko_b _ | assumption | (simp only [t_si, t_sl, t_sr, t_sI, t_sR, n_si, n_sl, n_sr, n_sI, n_sR, r_si, r_sl, r_sI]; first | done | omega)) only [x_59_e, x_59_b, x_59_29, x_59_30, x_59_33, x_59_36, x_59_37, x_59_38, x_59_41, x_59_44, bk_v, bk_n, nl_I, nl_R, nl_L, nl_0, oo_lt, oo_le, oo_eq, oo_add, oo_sub, oo_tn, oo_ir, nn_leT, nn_leF, nn_ltT, nn_ltF, nn_eqT, nn_eqF, bv_0, bv_1, ko_b, ko_1, ko_0, true_and, and_true, if_true, if_false, not_true_eq_false, not_false_eq_true, oo_02, decide_eq_true_eq, decide_eq_false_iff_not, ite_not, Nat.reduceAdd, Nat.reduceLT, Nat.reduceSub, Nat.reduceLeDiff, reduceIte, Bool.true_eq_false, Bool.false_eq_true, reduceCtorEq, eq_self, decide_true, decide_false, bv_t, bv_f, and_self, t_si, t_sl, t_sr, t_sI, t_sR, n_si, n_sl, n_sr, n_sI, n_sR, r_si, r_sl, r_sI, hg, q1]
      simp only [un_app]
      have h := r1
      have hq := RC_CQ h hV
      have hC := h.1
      unfold sh_C at hC
      have hr0 : w_r _ 1000 0 = some (gm_b G) := h.2.2.1
      have hT := h.2.2.2.1
      unfold CT_ at hT
      have hA : SO_ _ 1008 := h.2.1.2.1.1
      unfold SO_ at hA
      have hA2 : SO_ _ 1429 := h.2.1.2.2.2.2
      unfold SO_ at hA2
      have hS : CS_ _ 1008 (tm_n (sm_T S)) (bm_X (sm_B S)) := h.2.2.2.2.2.2.2.1.1
      unfold CS_ at hS
      have hK : sh_B _ 1007 := h.2.1.1
      unfold sh_B at hK
      have hB := h.2.2.2.2.2.2.2.1.2
      have hR := h.2.2.2.2.2.2.2.2.2
      simp only [Nat.reduceAdd] at hA hA2 hS hK hB
      obtain ⟨hn, hk4⟩ := hV.1
      obtain ⟨hW1, hW2, hW3⟩ := hV.2.2.2.1.1
      cases ea : s.any (fun q => decide (gt_ (sm_T S) (bm_X (sm_B S)) l q = gt_ (sm_T S) (bm_X (sm_B S)) l k)) with
      | false =>
        rw [ea] at ecell
        simp (disch := first | omega | decide | exact ko_b _ | assumption | (simp only [t_si, t_sl, t_sr, t_sI, t_sR, n_si, n_sl, n_sr, n_sI, n_sR, r_si, r_sl, r_sI]; first | done | omega)) only [x_59_e, x_59_b, x_59_47, x_59_48, x_59_51, x_59_52, x_59_55, x_59_56, x_59_59, x_59_62, x_59_63, x_59_65, x_59_66, x_59_69, x_59_71, x_59_72, x_59_75, x_59_78, x_59_79, x_59_82, x_59_84, x_59_85, x_59_86, x_59_89, bk_v, bk_n, nl_I, nl_R, nl_L, nl_0, oo_lt, oo_le, oo_eq, oo_add, oo_sub, oo_tn, oo_ir, nn_leT, nn_leF, nn_ltT, nn_ltF, nn_eqT, nn_eqF, bv_0, bv_1, ko_b, ko_1, ko_0, true_and, and_true, if_true, if_false, not_true_eq_false, not_false_eq_true, oo_02, decide_eq_true_eq, decide_eq_false_iff_not, ite_not, Nat.reduceAdd, Nat.reduceLT, Nat.reduceSub, Nat.reduceLeDiff, reduceIte, Bool.true_eq_false, Bool.false_eq_true, reduceCtorEq, eq_self, decide_true, decide_false, bv_t, bv_f, and_self, t_si, t_sl, t_sr, t_sI, t_sR, n_si, n_sl, n_sr, n_sI, n_sR, r_si, r_sl, r_sI, hC, hr0, hT, hA, hS, hK, hB, hR, htl, ez, ecell, nar_o1]
      | true =>
        rw [ea] at ecell
        simp (disch := first | omega | decide | exact ko_b _ | assumption | (simp only [t_si, t_sl, t_sr, t_sI, t_sR, n_si, n_sl, n_sr, n_sI, n_sR, r_si, r_sl, r_sI]; first | done | omega)) only [x_59_e, x_59_b, x_59_47, x_59_48, x_59_51, x_59_52, x_59_55, x_59_56, x_59_59, x_59_62, x_59_63, x_59_65, x_59_66, x_59_69, x_59_71, x_59_72, x_59_75, x_59_78, x_59_79, x_59_82, x_59_84, x_59_85, x_59_86, x_59_89, bk_v, bk_n, nl_I, nl_R, nl_L, nl_0, oo_lt, oo_le, oo_eq, oo_add, oo_sub, oo_tn, oo_ir, nn_leT, nn_leF, nn_ltT, nn_ltF, nn_eqT, nn_eqF, bv_0, bv_1, ko_b, ko_1, ko_0, true_and, and_true, if_true, if_false, not_true_eq_false, not_false_eq_true, oo_02, decide_eq_true_eq, decide_eq_false_iff_not, ite_not, Nat.reduceAdd, Nat.reduceLT, Nat.reduceSub, Nat.reduceLeDiff, reduceIte, Bool.true_eq_false, Bool.false_eq_true, reduceCtorEq, eq_self, decide_true, decide_false, bv_t, bv_f, and_self, t_si, t_sl, t_sr, t_sI, t_sR, n_si, n_sl, n_sr, n_sI, n_sR, r_si, r_sl, r_sI, hC, hr0, hT, hA, hS, hK, hB, hR, htl, ez, ecell, nar_o1]
theorem c_apart (h : RC_ w G σ S) (hV : WS_ S) {d l : Nat} (hl : l < xm_L (bm_X (sm_B S))) : ∃ w1, Fr_ pl_ w w1 ∧ ∀ Q, cl (d + 13) 59 [v_R (some 1000), v_I (Int32.ofNat l)] w Q = Q (Sum.inl (some (v_I (Int32.ofNat (f_ap (sm_T S) (bm_X (sm_B S)) (sm_B S) l))))) w1 := by
  have hX9 := hV.2.2.2.1.1
  have hn10 := hV.1.1
  have hLn := hX9.1
  obtain ⟨w1, ⟨i1, i2⟩, q1⟩ := lp_ex (fun k (t : Wd) Q => wp (d + 13) 59 2 [some (v_R (some 1000)), some (v_I (Int32.ofNat l)), some (v_I (Int32.ofNat k)), none, none] [] t Q) (fun k t => Fr_ pl_ w t ∧ ∀ v, v < k → w_i t 1439 v = Int32.ofNat 0) 1001 (fun k t hk hI => by
    refine ⟨s_i t 1439 k (Int32.ofNat 0), ⟨fr_si hI.1 (Or.inr rfl), fun v hv => ?_⟩, fun Q => ?_⟩
    · rw [i_si]
      by_cases c : v = k
      · rw [if_pos ⟨rfl, c⟩]
      · rw [if_neg (fun z => c z.2)]; exact hI.2 v (by omega)
    · have h := RC_pl h hV hI.1
      have hq := RC_CQ h hV
      have hC := h.1
      unfold sh_C at hC
      have hr0 : w_r _ 1000 0 = some (gm_b G) := h.2.2.1
      have hT := h.2.2.2.1
      unfold CT_ at hT
      have hA : SO_ _ 1008 := h.2.1.2.1.1
      unfold SO_ at hA
      have hA2 : SO_ _ 1429 := h.2.1.2.2.2.2
      unfold SO_ at hA2
      have hS : CS_ _ 1008 (tm_n (sm_T S)) (bm_X (sm_B S)) := h.2.2.2.2.2.2.2.1.1
      unfold CS_ at hS
      have hK : sh_B _ 1007 := h.2.1.1
      unfold sh_B at hK
      have hB := h.2.2.2.2.2.2.2.1.2
      have hR := h.2.2.2.2.2.2.2.2.2
      simp only [Nat.reduceAdd] at hA hA2 hS hK hB
      obtain ⟨hn, hk4⟩ := hV.1
      obtain ⟨hW1, hW2, hW3⟩ := hV.2.2.2.1.1
      rw [x_59_2]
      simp (disch := first | omega | decide | exact ko_b _ | assumption | (simp only [t_si, t_sl, t_sr, t_sI, t_sR, n_si, n_sl, n_sr, n_sI, n_sR, r_si, r_sl, r_sI]; first | done | omega)) only [x_59_e, x_59_b, x_59_3, x_59_4, x_59_7, x_59_8, x_59_11, x_59_12, x_59_15, x_59_16, x_59_17, x_59_18, x_59_21, bk_v, bk_n, nl_I, nl_R, nl_L, nl_0, oo_lt, oo_le, oo_eq, oo_add, oo_sub, oo_tn, oo_ir, nn_leT, nn_leF, nn_ltT, nn_ltF, nn_eqT, nn_eqF, bv_0, bv_1, ko_b, ko_1, ko_0, true_and, and_true, if_true, if_false, not_true_eq_false, not_false_eq_true, oo_02, decide_eq_true_eq, decide_eq_false_iff_not, ite_not, Nat.reduceAdd, Nat.reduceLT, Nat.reduceSub, Nat.reduceLeDiff, reduceIte, Bool.true_eq_false, Bool.false_eq_true, reduceCtorEq, eq_self, decide_true, decide_false, bv_t, bv_f, and_self, t_si, t_sl, t_sr, t_sI, t_sR, n_si, n_sl, n_sr, n_sI, n_sR, r_si, r_sl, r_sI, hC, nar_o0]) 1001 0 w (Nat.zero_add _) ⟨fr_rf _ _, fun v hv => absurd hv (Nat.not_lt_zero v)⟩
  obtain ⟨t, ⟨j1, j2⟩, q2⟩ := lp_ig (fun k (s : List Nat) (t : Option Vl × Wd) Q => wp (d + 13) 59 28 [some (v_R (some 1000)), some (v_I (Int32.ofNat l)), some (v_I (Int32.ofNat (un_ (gt_ (sm_T S) (bm_X (sm_B S)) l) s))), some (v_I (Int32.ofNat k)), t.1] [] t.2 Q) (fun k s t => Fr_ pl_ w t.2 ∧ TA_ t.2 (gt_ (sm_T S) (bm_X (sm_B S)) l) s) (fun k s => if p_fit (sm_T S) (bm_X (sm_B S)) (sm_B S) (k / 19) (k % 19) = true then s ++ [k] else s) (19 * xm_L (bm_X (sm_B S))) 0 [] (none, w1) (fun k s t _ hk hC => by
    obtain ⟨t1, ⟨g1, g2⟩, g3⟩ := c_ap1 (RC_pl h hV hC.1) hV (d := d) (a4 := t.1) hl (show k < 19 * xm_L (bm_X (sm_B S)) by omega) hC.2
    exact ⟨t1, ⟨fr_tr hC.1 g1, g2⟩, g3⟩) ⟨i1, fun v hv => i2 v hv⟩
  rw [← fits_flat] at j2 q2
  refine ⟨t.2, j1, fun Q => ?_⟩
  have h1 := RC_pl h hV i1
  have h2 := RC_pl h hV j1
  have hg := fun d Q => c_ges h2 hV (d := d) (Q := Q)
  have t2 : w_t t.2 1000 = 20 := h2.1.1
  have t1 : w_t w1 1000 = 20 := h1.1.1
  have hh := h1.1
  unfold sh_C at hh
  have r13 : w_r w1 1000 13 = some 1439 := by simp only [hh]
  have t39 : w_t w1 1439 = 3 := by simp only [hh]
  have n39 : w_n w1 1439 = 1001 := by simp only [hh]
  clear hh
  have fin : wp (d + 13) 59 28 [some (v_R (some 1000)), some (v_I (Int32.ofNat l)), some (v_I (Int32.ofNat (un_ (gt_ (sm_T S) (bm_X (sm_B S)) l) (f_fits (sm_T S) (bm_X (sm_B S)) (sm_B S))))), some (v_I (Int32.ofNat (0 + 19 * xm_L (bm_X (sm_B S))))), t.1] [] t.2 Q = Q (Sum.inl (some (v_I (Int32.ofNat (f_ap (sm_T S) (bm_X (sm_B S)) (sm_B S) l))))) t.2 := by
    rw [x_59_28]
    unfold f_ap
    simp (disch := first | omega | decide | exact ko_b _ | assumption | (simp only [t_si, t_sl, t_sr, t_sI, t_sR, n_si, n_sl, n_sr, n_sI, n_sR, r_si, r_sl, r_sI]; first | done | omega)) only [x_59_e, x_59_b, x_59_29, x_59_30, x_59_33, x_59_e, x_59_b, x_59_92, x_59_93, bk_v, bk_n, nl_I, nl_R, nl_L, nl_0, oo_lt, oo_le, oo_eq, oo_add, oo_sub, oo_tn, oo_ir, nn_leT, nn_leF, nn_ltT, nn_ltF, nn_eqT, nn_eqF, bv_0, bv_1, ko_b, ko_1, ko_0, true_and, and_true, if_true, if_false, not_true_eq_false, not_false_eq_true, oo_02, decide_eq_true_eq, decide_eq_false_iff_not, ite_not, Nat.reduceAdd, Nat.reduceLT, Nat.reduceSub, Nat.reduceLeDiff, reduceIte, Bool.true_eq_false, Bool.false_eq_true, reduceCtorEq, eq_self, decide_true, decide_false, bv_t, bv_f, and_self, t_si, t_sl, t_sr, t_sI, t_sR, n_si, n_sl, n_sr, n_sI, n_sR, r_si, r_sl, r_sI, hg]
  refine Eq.trans ?_ (((q2 Q)).trans fin)
  have e0 : un_ (gt_ (sm_T S) (bm_X (sm_B S)) l) [] = 0 := rfl
  rw [e0]
  refine Eq.trans ?_ ((q1 Q).trans ?_)
  · simp (disch := first | omega | decide | exact ko_b _ | assumption | (simp only [t_si, t_sl, t_sr, t_sI, t_sR, n_si, n_sl, n_sr, n_sI, n_sR, r_si, r_sl, r_sI]; first | done | omega)) only [x_59_e, x_59_b, x_59_0, x_59_1, bk_v, bk_n, nl_I, nl_R, nl_L, nl_0, oo_lt, oo_le, oo_eq, oo_add, oo_sub, oo_tn, oo_ir, nn_leT, nn_leF, nn_ltT, nn_ltF, nn_eqT, nn_eqF, bv_0, bv_1, ko_b, ko_1, ko_0, true_and, and_true, if_true, if_false, not_true_eq_false, not_false_eq_true, oo_02, decide_eq_true_eq, decide_eq_false_iff_not, ite_not, Nat.reduceAdd, Nat.reduceLT, Nat.reduceSub, Nat.reduceLeDiff, reduceIte, Bool.true_eq_false, Bool.false_eq_true, reduceCtorEq, eq_self, decide_true, decide_false, bv_t, bv_f, and_self, t_si, t_sl, t_sr, t_sI, t_sR, n_si, n_sl, n_sr, n_sI, n_sR, r_si, r_sl, r_sI]
  · rw [x_59_2]
    simp (disch := first | omega | decide | exact ko_b _ | assumption | (simp only [t_si, t_sl, t_sr, t_sI, t_sR, n_si, n_sl, n_sr, n_sI, n_sR, r_si, r_sl, r_sI]; first | done | omega)) only [x_59_e, x_59_b, x_59_3, x_59_4, x_59_7, x_59_8, x_59_11, x_59_12, x_59_15, x_59_16, x_59_17, x_59_18, x_59_21, x_59_24, x_59_25, x_59_26, x_59_27, bk_v, bk_n, nl_I, nl_R, nl_L, nl_0, oo_lt, oo_le, oo_eq, oo_add, oo_sub, oo_tn, oo_ir, nn_leT, nn_leF, nn_ltT, nn_ltF, nn_eqT, nn_eqF, bv_0, bv_1, ko_b, ko_1, ko_0, true_and, and_true, if_true, if_false, not_true_eq_false, not_false_eq_true, oo_02, decide_eq_true_eq, decide_eq_false_iff_not, ite_not, Nat.reduceAdd, Nat.reduceLT, Nat.reduceSub, Nat.reduceLeDiff, reduceIte, Bool.true_eq_false, Bool.false_eq_true, reduceCtorEq, eq_self, decide_true, decide_false, bv_t, bv_f, and_self, t_si, t_sl, t_sr, t_sI, t_sR, n_si, n_sl, n_sr, n_sI, n_sR, r_si, r_sl, r_sI, r13, n39]
theorem c_look (h : RC_ w G σ S) (hV : WS_ S) {d : Nat} : CR_ G (d + 14) 58 [v_R (some 1000)] w (v_I (f_look (sm_T S) (bm_X (sm_B S)) (sm_B S))) := by
  obtain ⟨t, hC, q1⟩ := lp_ig (fun l (s : Int32 × Int32) (t : Option Vl × Wd) Q => wp (d + 14) 58 6 [some (v_R (some 1000)), some (v_I s.1), some (v_I s.2), some (v_I (Int32.ofNat l)), t.1] [] t.2 Q) (fun k s t => Fr_ pl_ w t.2) (f_lk1 (sm_T S) (bm_X (sm_B S)) (sm_B S)) (xm_L (bm_X (sm_B S))) 0 (Int32.ofInt (-1), Int32.ofNat 0) (none, w) (fun l s t _ hl hC => by
    have h := RC_pl h hV hC
    obtain ⟨w1, f1, q1⟩ := c_apart h hV (d := d) (show l < xm_L (bm_X (sm_B S)) by omega)
    refine ⟨(some (v_I (Int32.ofNat (f_ap (sm_T S) (bm_X (sm_B S)) (sm_B S) l))), w1), fr_tr hC f1, fun Q => ?_⟩
    unfold f_lk1
    have hq := RC_CQ h hV
    have hC := h.1
    unfold sh_C at hC
    have hr0 : w_r _ 1000 0 = some (gm_b G) := h.2.2.1
    have hT := h.2.2.2.1
    unfold CT_ at hT
    have hA : SO_ _ 1008 := h.2.1.2.1.1
    unfold SO_ at hA
    have hA2 : SO_ _ 1429 := h.2.1.2.2.2.2
    unfold SO_ at hA2
    have hS : CS_ _ 1008 (tm_n (sm_T S)) (bm_X (sm_B S)) := h.2.2.2.2.2.2.2.1.1
    unfold CS_ at hS
    have hK : sh_B _ 1007 := h.2.1.1
    unfold sh_B at hK
    have hB := h.2.2.2.2.2.2.2.1.2
    have hR := h.2.2.2.2.2.2.2.2.2
    simp only [Nat.reduceAdd] at hA hA2 hS hK hB
    obtain ⟨hn, hk4⟩ := hV.1
    obtain ⟨hW1, hW2, hW3⟩ := hV.2.2.2.1.1
    rw [x_58_6]
    by_cases c : Int32.ofNat (f_ap (sm_T S) (bm_X (sm_B S)) (sm_B S) l) ≤ s.2
    · have c2 := Int32.not_lt.mpr c
      simp (disch := first | omega | decide | exact ko_b _ | assumption | (simp only [t_si, t_sl, t_sr, t_sI, t_sR, n_si, n_sl, n_sr, n_sI, n_sR, r_si, r_sl, r_sI]; first | done | omega)) only [x_58_e, x_58_b, x_58_7, x_58_8, x_58_11, x_58_14, x_58_17, x_58_18, x_58_19, x_58_22, x_58_24, x_58_26, x_58_27, x_58_30, x_58_33, x_58_34, x_58_35, x_58_37, x_58_38, x_58_41, bk_v, bk_n, nl_I, nl_R, nl_L, nl_0, oo_lt, oo_le, oo_eq, oo_add, oo_sub, oo_tn, oo_ir, nn_leT, nn_leF, nn_ltT, nn_ltF, nn_eqT, nn_eqF, bv_0, bv_1, ko_b, ko_1, ko_0, true_and, and_true, if_true, if_false, not_true_eq_false, not_false_eq_true, oo_02, decide_eq_true_eq, decide_eq_false_iff_not, ite_not, Nat.reduceAdd, Nat.reduceLT, Nat.reduceSub, Nat.reduceLeDiff, reduceIte, Bool.true_eq_false, Bool.false_eq_true, reduceCtorEq, eq_self, decide_true, decide_false, bv_t, bv_f, and_self, t_si, t_sl, t_sr, t_sI, t_sR, n_si, n_sl, n_sr, n_sI, n_sR, r_si, r_sl, r_sI, hC, hr0, hT, hA, hS, hK, hB, hR, q1, c, c2]
    · have c2 := Int32.not_le.mp c
      simp (disch := first | omega | decide | exact ko_b _ | assumption | (simp only [t_si, t_sl, t_sr, t_sI, t_sR, n_si, n_sl, n_sr, n_sI, n_sR, r_si, r_sl, r_sI]; first | done | omega)) only [x_58_e, x_58_b, x_58_7, x_58_8, x_58_11, x_58_14, x_58_17, x_58_18, x_58_19, x_58_22, x_58_24, x_58_26, x_58_27, x_58_30, x_58_33, x_58_34, x_58_35, x_58_37, x_58_38, x_58_41, bk_v, bk_n, nl_I, nl_R, nl_L, nl_0, oo_lt, oo_le, oo_eq, oo_add, oo_sub, oo_tn, oo_ir, nn_leT, nn_leF, nn_ltT, nn_ltF, nn_eqT, nn_eqF, bv_0, bv_1, ko_b, ko_1, ko_0, true_and, and_true, if_true, if_false, not_true_eq_false, not_false_eq_true, oo_02, decide_eq_true_eq, decide_eq_false_iff_not, ite_not, Nat.reduceAdd, Nat.reduceLT, Nat.reduceSub, Nat.reduceLeDiff, reduceIte, Bool.true_eq_false, Bool.false_eq_true, reduceCtorEq, eq_self, decide_true, decide_false, bv_t, bv_f, and_self, t_si, t_sl, t_sr, t_sI, t_sR, n_si, n_sl, n_sr, n_sI, n_sR, r_si, r_sl, r_sI, hC, hr0, hT, hA, hS, hK, hB, hR, q1, c, c2]) (fr_rf _ _)
  refine ⟨t.2, fr_mo hC (fun a k z => pl_pc z), fun Q => ?_⟩
  have h := RC_pl h hV hC
  have fin : wp (d + 14) 58 6 [some (v_R (some 1000)), some (v_I (it_ (f_lk1 (sm_T S) (bm_X (sm_B S)) (sm_B S)) 0 (xm_L (bm_X (sm_B S))) (Int32.ofInt (-1), Int32.ofNat 0)).1), some (v_I (it_ (f_lk1 (sm_T S) (bm_X (sm_B S)) (sm_B S)) 0 (xm_L (bm_X (sm_B S))) (Int32.ofInt (-1), Int32.ofNat 0)).2), some (v_I (Int32.ofNat (0 + xm_L (bm_X (sm_B S))))), t.1] [] t.2 Q = Q (Sum.inl (some (v_I (f_look (sm_T S) (bm_X (sm_B S)) (sm_B S))))) t.2 := by
    unfold f_look
    have hq := RC_CQ h hV
    have hC := h.1
    unfold sh_C at hC
    have hr0 : w_r _ 1000 0 = some (gm_b G) := h.2.2.1
    have hT := h.2.2.2.1
    unfold CT_ at hT
    have hA : SO_ _ 1008 := h.2.1.2.1.1
    unfold SO_ at hA
    have hA2 : SO_ _ 1429 := h.2.1.2.2.2.2
    unfold SO_ at hA2
    have hS : CS_ _ 1008 (tm_n (sm_T S)) (bm_X (sm_B S)) := h.2.2.2.2.2.2.2.1.1
    unfold CS_ at hS
    have hK : sh_B _ 1007 := h.2.1.1
    unfold sh_B at hK
    have hB := h.2.2.2.2.2.2.2.1.2
    have hR := h.2.2.2.2.2.2.2.2.2
    simp only [Nat.reduceAdd] at hA hA2 hS hK hB
    obtain ⟨hn, hk4⟩ := hV.1
    obtain ⟨hW1, hW2, hW3⟩ := hV.2.2.2.1.1
    rw [x_58_6]
    simp (disch := first | omega | decide | exact ko_b _ | assumption | (simp only [t_si, t_sl, t_sr, t_sI, t_sR, n_si, n_sl, n_sr, n_sI, n_sR, r_si, r_sl, r_sI]; first | done | omega)) only [x_58_e, x_58_b, x_58_7, x_58_8, x_58_11, x_58_14, x_58_17, x_58_18, x_58_19, x_58_22, x_58_24, x_58_26, x_58_27, x_58_30, x_58_33, x_58_34, x_58_35, x_58_37, x_58_38, x_58_41, x_58_44, x_58_45, bk_v, bk_n, nl_I, nl_R, nl_L, nl_0, oo_lt, oo_le, oo_eq, oo_add, oo_sub, oo_tn, oo_ir, nn_leT, nn_leF, nn_ltT, nn_ltF, nn_eqT, nn_eqF, bv_0, bv_1, ko_b, ko_1, ko_0, true_and, and_true, if_true, if_false, not_true_eq_false, not_false_eq_true, oo_02, decide_eq_true_eq, decide_eq_false_iff_not, ite_not, Nat.reduceAdd, Nat.reduceLT, Nat.reduceSub, Nat.reduceLeDiff, reduceIte, Bool.true_eq_false, Bool.false_eq_true, reduceCtorEq, eq_self, decide_true, decide_false, bv_t, bv_f, and_self, t_si, t_sl, t_sr, t_sI, t_sR, n_si, n_sl, n_sr, n_sI, n_sR, r_si, r_sl, r_sI, hC, hr0, hT, hA, hS, hK, hB, hR]
  refine Eq.trans ?_ ((q1 Q).trans fin)
  simp (disch := first | omega | decide | exact ko_b _ | assumption | (simp only [t_si, t_sl, t_sr, t_sI, t_sR, n_si, n_sl, n_sr, n_sI, n_sR, r_si, r_sl, r_sI]; first | done | omega)) only [x_58_e, x_58_b, x_58_0, x_58_1, x_58_2, x_58_3, x_58_4, x_58_5, bk_v, bk_n, nl_I, nl_R, nl_L, nl_0, oo_lt, oo_le, oo_eq, oo_add, oo_sub, oo_tn, oo_ir, nn_leT, nn_leF, nn_ltT, nn_ltF, nn_eqT, nn_eqF, bv_0, bv_1, ko_b, ko_1, ko_0, true_and, and_true, if_true, if_false, not_true_eq_false, not_false_eq_true, oo_02, decide_eq_true_eq, decide_eq_false_iff_not, ite_not, Nat.reduceAdd, Nat.reduceLT, Nat.reduceSub, Nat.reduceLeDiff, reduceIte, Bool.true_eq_false, Bool.false_eq_true, reduceCtorEq, eq_self, decide_true, decide_false, bv_t, bv_f, and_self, t_si, t_sl, t_sr, t_sI, t_sR, n_si, n_sl, n_sr, n_sI, n_sR, r_si, r_sl, r_sI]
/-! the model -/
theorem m_fits (h : RM_ w S) (hV : WS_ S) {d : Nat} : ∃ w1, Fr_ pmf_ w w1 ∧ FT_ w1 (bm_X (sm_B S)) (f_fits (sm_T S) (bm_X (sm_B S)) (sm_B S)) ∧ (f_fits (sm_T S) (bm_X (sm_B S)) (sm_B S)).length ≤ 190 ∧ ∀ Q, cl (d + 3) 251 [v_R (some 1440)] w Q = Q (Sum.inl none) w1 := by
  have hq0 := RM_MQ h hV
  have hX9 := hV.2.2.2.1.1
  have hn10 := hV.1.1
  have hLn := hX9.1
  have hZ : MZ_ w (sm_B S) := ⟨h.2.2.1.2.2.2.1, h.2.2.1.2.2.2.2.1, h.2.2.1.2.2.2.2.2.1⟩
  have f0 : Fr_ pmf_ w (s_i w 1440 47 (Int32.ofNat 0)) := fr_si (fr_rf _ _) (by unfold pmf_; omega)
  obtain ⟨t, ⟨i1, i2, i3⟩, q1⟩ := lp_ig (fun l (s : List Nat) (t : (Option Vl × Option Vl × Option Vl) × Wd) Q => wp (d + 3) 251 7 [some (v_R (some 1440)), some (v_I (Int32.ofNat l)), t.1.1, t.1.2.1, t.1.2.2] [] t.2 Q) (fun l s t => Fr_ pmf_ w t.2 ∧ FT_ t.2 (bm_X (sm_B S)) s ∧ s.length ≤ 19 * l) (fun l s => it_ (ft1_ (p_fit (sm_T S) (bm_X (sm_B S)) (sm_B S)) l) 0 19 s) (xm_L (bm_X (sm_B S))) 0 [] ((none, none, none), s_i w 1440 47 (Int32.ofNat 0)) (fun l s t _ hl hC => by
    obtain ⟨t1, ⟨g1, g2⟩, g3⟩ := m_fit1 (MQ_fr hq0 (fr_mo hC.1 (fun a k z => pmf_pm z))) hV (MZ_fr hZ (fr_mo hC.1 (fun a k z => Or.inl (pmf_pm z)))) (d := d) (show l < xm_L (bm_X (sm_B S)) by omega) hC.2.2 hC.2.1 (a2 := t.1.1) (a3 := t.1.2.1) (a4 := t.1.2.2)
    have hlen := ft1_len (p_fit (sm_T S) (bm_X (sm_B S)) (sm_B S)) l 19 0 s
    exact ⟨t1, ⟨fr_tr hC.1 g1, g2, by have := hC.2.2; omega⟩, g3⟩) ⟨f0, ⟨by rw [i_si, if_pos ⟨rfl, rfl⟩]; rfl, fun i hi => absurd hi (Nat.not_lt_zero i), fun i hi => absurd hi (Nat.not_lt_zero i)⟩, Nat.zero_le _⟩
  have i3 : (f_fits (sm_T S) (bm_X (sm_B S)) (sm_B S)).length ≤ 19 * (0 + xm_L (bm_X (sm_B S))) := i3
  refine ⟨t.2, i1, i2, by omega, fun Q => ?_⟩
  have hq1 := MQ_fr hq0 (fr_mo i1 (fun a k z => pmf_pm z))
  have u0 : w_t t.2 1440 = 25 := hq1.1.1
  have u1 : w_i t.2 1440 28 = Int32.ofNat (xm_L (bm_X (sm_B S))) := hq1.2.2.1.1
  have fin : wp (d + 3) 251 7 [some (v_R (some 1440)), some (v_I (Int32.ofNat (0 + xm_L (bm_X (sm_B S))))), t.1.1, t.1.2.1, t.1.2.2] [] t.2 Q = Q (Sum.inl none) t.2 := by
    rw [x_251_7]
    simp (disch := first | omega | decide | exact ko_b _ | assumption | (simp only [t_si, t_sl, t_sr, t_sI, t_sR, n_si, n_sl, n_sr, n_sI, n_sR, r_si, r_sl, r_sI]; first | done | omega)) only [x_251_e, x_251_b, x_251_8, x_251_9, x_251_12, x_251_e, x_251_b, x_251_114, bk_v, bk_n, nl_I, nl_R, nl_L, nl_0, oo_lt, oo_le, oo_eq, oo_add, oo_sub, oo_tn, oo_ir, nn_leT, nn_leF, nn_ltT, nn_ltF, nn_eqT, nn_eqF, bv_0, bv_1, ko_b, ko_1, ko_0, true_and, and_true, if_true, if_false, not_true_eq_false, not_false_eq_true, oo_02, decide_eq_true_eq, decide_eq_false_iff_not, ite_not, Nat.reduceAdd, Nat.reduceLT, Nat.reduceSub, Nat.reduceLeDiff, reduceIte, Bool.true_eq_false, Bool.false_eq_true, reduceCtorEq, eq_self, decide_true, decide_false, bv_t, bv_f, and_self, t_si, t_sl, t_sr, t_sI, t_sR, n_si, n_sl, n_sr, n_sI, n_sR, r_si, r_sl, r_sI, u1]
  refine Eq.trans ?_ ((q1 Q).trans fin)
  have u2 : w_t w 1440 = 25 := h.1.1
  simp (disch := first | omega | decide | exact ko_b _ | assumption | (simp only [t_si, t_sl, t_sr, t_sI, t_sR, n_si, n_sl, n_sr, n_sI, n_sR, r_si, r_sl, r_sI]; first | done | omega)) only [x_251_e, x_251_b, x_251_0, x_251_1, x_251_2, x_251_5, x_251_6, bk_v, bk_n, nl_I, nl_R, nl_L, nl_0, oo_lt, oo_le, oo_eq, oo_add, oo_sub, oo_tn, oo_ir, nn_leT, nn_leF, nn_ltT, nn_ltF, nn_eqT, nn_eqF, bv_0, bv_1, ko_b, ko_1, ko_0, true_and, and_true, if_true, if_false, not_true_eq_false, not_false_eq_true, oo_02, decide_eq_true_eq, decide_eq_false_iff_not, ite_not, Nat.reduceAdd, Nat.reduceLT, Nat.reduceSub, Nat.reduceLeDiff, reduceIte, Bool.true_eq_false, Bool.false_eq_true, reduceCtorEq, eq_self, decide_true, decide_false, bv_t, bv_f, and_self, t_si, t_sl, t_sr, t_sI, t_sR, n_si, n_sl, n_sr, n_sI, n_sR, r_si, r_sl, r_sI]
theorem m_wh2 (h9 : RM_ w S) (hV : WS_ S) {d : Nat} : MR_ (d + 4) 249 [v_R (some 1440), v_I (Int32.ofNat 2)] w (v_I (b_v (f_seen (sm_T S) (bm_X (sm_B S)) (sm_B S)))) 0 := by
  refine mr_go (ls := [some (v_R (some 1440)), some (v_I (Int32.ofNat 2))]) (fun Q => ?_) (fun w0 hf hc => mr_0 hc (fun Q => ?_))
  · have h := h9
    have hq := RM_MQ h hV
    have hMM := hq
    obtain ⟨hM, hT, hS, ⟨hn, hk4⟩, hW1, hW2, hW3⟩ := hMM
    unfold sh_M at hM
    unfold MT_ at hT
    unfold MS_ at hS
    have hB := h.2.2.1.2
    unfold PK_ at hB
    have hR := h.2.2.2
    simp (disch := first | omega | decide | exact ko_b _ | assumption | (simp only [t_si, t_sl, t_sr, t_sI, t_sR, n_si, n_sl, n_sr, n_sI, n_sR, r_si, r_sl, r_sI]; first | done | omega)) only [x_249_e, x_249_b, x_249_0, x_249_1, x_249_2, x_249_6, x_249_7, x_249_8, x_249_11, x_249_14, x_249_17, x_249_18, x_249_19, x_249_22, x_249_23, x_249_24, x_249_25, x_249_28, x_249_29, x_249_32, x_249_35, x_249_36, x_249_39, x_249_40, x_249_41, x_249_42, x_249_45, x_249_46, x_249_49, x_249_50, x_249_53, x_249_56, x_249_57, x_249_60, x_249_63, x_249_64, x_249_67, x_249_69, x_249_70, x_249_73, x_249_74, x_249_75, x_249_76, x_249_77, x_249_80, x_249_81, x_249_82, x_249_83, x_249_85, x_249_86, bk_v, bk_n, nl_I, nl_R, nl_L, nl_0, oo_lt, oo_le, oo_eq, oo_add, oo_sub, oo_tn, oo_ir, nn_leT, nn_leF, nn_ltT, nn_ltF, nn_eqT, nn_eqF, bv_0, bv_1, ko_b, ko_1, ko_0, true_and, and_true, if_true, if_false, not_true_eq_false, not_false_eq_true, oo_02, decide_eq_true_eq, decide_eq_false_iff_not, ite_not, Nat.reduceAdd, Nat.reduceLT, Nat.reduceSub, Nat.reduceLeDiff, reduceIte, Bool.true_eq_false, Bool.false_eq_true, reduceCtorEq, eq_self, decide_true, decide_false, bv_t, bv_f, and_self, t_si, t_sl, t_sr, t_sI, t_sR, n_si, n_sl, n_sr, n_sI, n_sR, r_si, r_sl, r_sI, hM, hT, hS, hB, hR]
  · have h := RM_fr h9 hV hf
    have hm8 := hV.2.2.2.1.2.2.2.2.2.1
    have hbl := hV.2.2.2.1.2.2.2.2.2.2
    have hs := fun Q => m_seen (RM_MQ h hV) (d := d + 1) (Q := Q) h.2.2.1.2.2.2.1 hm8 h.2.2.1.2.2.2.2.1 h.2.2.1.2.2.2.2.2.1 hbl
    have hM0 := h.1.1
    cases e : f_seen (sm_T S) (bm_X (sm_B S)) (sm_B S) with
    | false =>
      rw [e] at hs
      simp (disch := first | omega | decide | exact ko_b _ | assumption | (simp only [t_si, t_sl, t_sr, t_sI, t_sR, n_si, n_sl, n_sr, n_sI, n_sR, r_si, r_sl, r_sI]; first | done | omega)) only [x_249_e, x_249_b, x_249_5, x_249_6, x_249_7, x_249_8, x_249_11, x_249_14, x_249_17, x_249_18, x_249_19, x_249_22, x_249_23, x_249_24, x_249_25, x_249_28, x_249_29, x_249_32, x_249_35, x_249_36, x_249_39, x_249_40, bk_v, bk_n, nl_I, nl_R, nl_L, nl_0, oo_lt, oo_le, oo_eq, oo_add, oo_sub, oo_tn, oo_ir, nn_leT, nn_leF, nn_ltT, nn_ltF, nn_eqT, nn_eqF, bv_0, bv_1, ko_b, ko_1, ko_0, true_and, and_true, if_true, if_false, not_true_eq_false, not_false_eq_true, oo_02, decide_eq_true_eq, decide_eq_false_iff_not, ite_not, Nat.reduceAdd, Nat.reduceLT, Nat.reduceSub, Nat.reduceLeDiff, reduceIte, Bool.true_eq_false, Bool.false_eq_true, reduceCtorEq, eq_self, decide_true, decide_false, bv_t, bv_f, and_self, t_si, t_sl, t_sr, t_sI, t_sR, n_si, n_sl, n_sr, n_sI, n_sR, r_si, r_sl, r_sI, m_in, ll_o, ll_le, hs]
    | true =>
      rw [e] at hs
      simp (disch := first | omega | decide | exact ko_b _ | assumption | (simp only [t_si, t_sl, t_sr, t_sI, t_sR, n_si, n_sl, n_sr, n_sI, n_sR, r_si, r_sl, r_sI]; first | done | omega)) only [x_249_e, x_249_b, x_249_5, x_249_6, x_249_7, x_249_8, x_249_11, x_249_14, x_249_17, x_249_18, x_249_19, x_249_22, x_249_23, x_249_24, x_249_25, x_249_28, x_249_29, x_249_32, x_249_35, x_249_36, x_249_39, x_249_40, bk_v, bk_n, nl_I, nl_R, nl_L, nl_0, oo_lt, oo_le, oo_eq, oo_add, oo_sub, oo_tn, oo_ir, nn_leT, nn_leF, nn_ltT, nn_ltF, nn_eqT, nn_eqF, bv_0, bv_1, ko_b, ko_1, ko_0, true_and, and_true, if_true, if_false, not_true_eq_false, not_false_eq_true, oo_02, decide_eq_true_eq, decide_eq_false_iff_not, ite_not, Nat.reduceAdd, Nat.reduceLT, Nat.reduceSub, Nat.reduceLeDiff, reduceIte, Bool.true_eq_false, Bool.false_eq_true, reduceCtorEq, eq_self, decide_true, decide_false, bv_t, bv_f, and_self, t_si, t_sl, t_sr, t_sI, t_sR, n_si, n_sl, n_sr, n_sI, n_sR, r_si, r_sl, r_sI, m_in, ll_o, ll_le, hs]
theorem m_wh (h9 : RM_ w S) (hV : WS_ S) {d : Nat} {x : Int32} (hx : Int32.ofNat 0 ≤ x ∧ x ≤ Int32.ofNat 2) : MR_ (d + 4) 249 [v_R (some 1440), v_I x] w (v_I (q_which (sm_T S) (bm_X (sm_B S)) (sm_B S) x)) 0 := by
  unfold q_which
  by_cases h2 : x = Int32.ofNat 2
  · subst h2
    rw [if_pos rfl]
    exact m_wh2 h9 hV
  · rw [if_neg h2]
    refine mr_go (ls := [some (v_R (some 1440)), some (v_I x)]) (fun Q => ?_) (fun w0 hf hc => ?_)
    · have h := h9
      have hq := RM_MQ h hV
      have hMM := hq
      obtain ⟨hM, hT, hS, ⟨hn, hk4⟩, hW1, hW2, hW3⟩ := hMM
      unfold sh_M at hM
      unfold MT_ at hT
      unfold MS_ at hS
      have hB := h.2.2.1.2
      unfold PK_ at hB
      have hR := h.2.2.2
      simp (disch := first | omega | decide | exact ko_b _ | assumption | (simp only [t_si, t_sl, t_sr, t_sI, t_sR, n_si, n_sl, n_sr, n_sI, n_sR, r_si, r_sl, r_sI]; first | done | omega)) only [x_249_e, x_249_b, x_249_0, x_249_1, x_249_2, x_249_6, x_249_7, x_249_8, x_249_11, x_249_14, x_249_17, x_249_18, x_249_19, x_249_22, x_249_23, x_249_24, x_249_25, x_249_28, x_249_29, x_249_32, x_249_35, x_249_36, x_249_39, x_249_40, x_249_41, x_249_42, x_249_45, x_249_46, x_249_49, x_249_50, x_249_53, x_249_56, x_249_57, x_249_60, x_249_63, x_249_64, x_249_67, x_249_69, x_249_70, x_249_73, x_249_74, x_249_75, x_249_76, x_249_77, x_249_80, x_249_81, x_249_82, x_249_83, x_249_85, x_249_86, bk_v, bk_n, nl_I, nl_R, nl_L, nl_0, oo_lt, oo_le, oo_eq, oo_add, oo_sub, oo_tn, oo_ir, nn_leT, nn_leF, nn_ltT, nn_ltF, nn_eqT, nn_eqF, bv_0, bv_1, ko_b, ko_1, ko_0, true_and, and_true, if_true, if_false, not_true_eq_false, not_false_eq_true, oo_02, decide_eq_true_eq, decide_eq_false_iff_not, ite_not, Nat.reduceAdd, Nat.reduceLT, Nat.reduceSub, Nat.reduceLeDiff, reduceIte, Bool.true_eq_false, Bool.false_eq_true, reduceCtorEq, eq_self, decide_true, decide_false, bv_t, bv_f, and_self, t_si, t_sl, t_sr, t_sI, t_sR, n_si, n_sl, n_sr, n_sI, n_sR, r_si, r_sl, r_sI, hM, hT, hS, hB, hR]
    · have h := RM_fr h9 hV hf
      obtain ⟨w1, f1, g1, g2, q1⟩ := m_fits h hV (d := d)
      refine ⟨w1, fr_mo f1 (fun a k z => pmf_pm z), by rw [f1.2.2.2.2.2 _ _ (by unfold pmf_; omega)]; exact hc, fun Q => ?_⟩
      have hM0 := h.1.1
      have hM1 := (MQ_fr (RM_MQ h hV) (fr_mo f1 (fun a k z => pmf_pm z))).1
      unfold sh_M at hM1
      have u0 : w_t w1 1440 = 25 := hM1.1
      have u45 : w_r w1 1440 45 = some 1468 := by simp only [hM1]
      have u46 : w_r w1 1440 46 = some 1469 := by simp only [hM1]
      have tb : w_t w1 1468 = 1 := by simp only [hM1]
      have tc : w_t w1 1469 = 1 := by simp only [hM1]
      have nb : w_n w1 1468 = 200 := by simp only [hM1]
      have nc : w_n w1 1469 = 200 := by simp only [hM1]
      clear hM1
      obtain ⟨g1, g3, g4⟩ := g1
      generalize f_fits (sm_T S) (bm_X (sm_B S)) (sm_B S) = fl at *
      by_cases hz : x = Int32.ofNat 0
      · subst hz
        simp (disch := first | omega | decide | exact ko_b _ | assumption | (simp only [t_si, t_sl, t_sr, t_sI, t_sR, n_si, n_sl, n_sr, n_sI, n_sR, r_si, r_sl, r_sI]; first | done | omega)) only [x_249_e, x_249_b, x_249_5, x_249_6, x_249_7, x_249_8, x_249_11, x_249_14, x_249_17, x_249_18, x_249_19, x_249_22, x_249_23, x_249_24, x_249_25, x_249_28, x_249_29, x_249_32, x_249_35, x_249_36, x_249_39, x_249_40, x_249_41, x_249_42, x_249_45, x_249_46, x_249_49, x_249_50, x_249_53, x_249_56, x_249_57, x_249_60, x_249_63, x_249_64, x_249_67, x_249_69, x_249_70, x_249_73, x_249_74, x_249_75, x_249_76, x_249_77, x_249_80, x_249_81, x_249_82, x_249_83, x_249_85, x_249_86, bk_v, bk_n, nl_I, nl_R, nl_L, nl_0, oo_lt, oo_le, oo_eq, oo_add, oo_sub, oo_tn, oo_ir, nn_leT, nn_leF, nn_ltT, nn_ltF, nn_eqT, nn_eqF, bv_0, bv_1, ko_b, ko_1, ko_0, true_and, and_true, if_true, if_false, not_true_eq_false, not_false_eq_true, oo_02, decide_eq_true_eq, decide_eq_false_iff_not, ite_not, Nat.reduceAdd, Nat.reduceLT, Nat.reduceSub, Nat.reduceLeDiff, reduceIte, Bool.true_eq_false, Bool.false_eq_true, reduceCtorEq, eq_self, decide_true, decide_false, bv_t, bv_f, and_self, t_si, t_sl, t_sr, t_sI, t_sR, n_si, n_sl, n_sr, n_sI, n_sR, r_si, r_sl, r_sI, m_in, ll_o, ll_le, hx, h2, q1, g1]
      · cases fl with
        | nil =>
          have g1 : w_i w1 1440 47 = Int32.ofNat 0 := g1
          simp (disch := first | omega | decide | exact ko_b _ | assumption | (simp only [t_si, t_sl, t_sr, t_sI, t_sR, n_si, n_sl, n_sr, n_sI, n_sR, r_si, r_sl, r_sI]; first | done | omega)) only [x_249_e, x_249_b, x_249_5, x_249_6, x_249_7, x_249_8, x_249_11, x_249_14, x_249_17, x_249_18, x_249_19, x_249_22, x_249_23, x_249_24, x_249_25, x_249_28, x_249_29, x_249_32, x_249_35, x_249_36, x_249_39, x_249_40, x_249_41, x_249_42, x_249_45, x_249_46, x_249_49, x_249_50, x_249_53, x_249_56, x_249_57, x_249_60, x_249_63, x_249_64, x_249_67, x_249_69, x_249_70, x_249_73, x_249_74, x_249_75, x_249_76, x_249_77, x_249_80, x_249_81, x_249_82, x_249_83, x_249_85, x_249_86, bk_v, bk_n, nl_I, nl_R, nl_L, nl_0, oo_lt, oo_le, oo_eq, oo_add, oo_sub, oo_tn, oo_ir, nn_leT, nn_leF, nn_ltT, nn_ltF, nn_eqT, nn_eqF, bv_0, bv_1, ko_b, ko_1, ko_0, true_and, and_true, if_true, if_false, not_true_eq_false, not_false_eq_true, oo_02, decide_eq_true_eq, decide_eq_false_iff_not, ite_not, Nat.reduceAdd, Nat.reduceLT, Nat.reduceSub, Nat.reduceLeDiff, reduceIte, Bool.true_eq_false, Bool.false_eq_true, reduceCtorEq, eq_self, decide_true, decide_false, bv_t, bv_f, and_self, t_si, t_sl, t_sr, t_sI, t_sR, n_si, n_sl, n_sr, n_sI, n_sR, r_si, r_sl, r_sI, m_in, ll_o, ll_le, hx, h2, hz, q1, g1, h_one, List.head?_nil, r_oneN]
        | cons y s =>
          have g1 : w_i w1 1440 47 = Int32.ofNat (s.length + 1) := g1
          have g3 : w_i w1 1468 0 = Int32.ofNat (xm_t (bm_X (sm_B S)) (y / 19)) := g3 0 (Nat.succ_pos _)
          have g4 : w_i w1 1469 0 = wv_ (y % 19) := g4 0 (Nat.succ_pos _)
          have g2 : s.length + 1 ≤ 190 := g2
          simp (disch := first | omega | decide | exact ko_b _ | assumption | (simp only [t_si, t_sl, t_sr, t_sI, t_sR, n_si, n_sl, n_sr, n_sI, n_sR, r_si, r_sl, r_sI]; first | done | omega)) only [x_249_e, x_249_b, x_249_5, x_249_6, x_249_7, x_249_8, x_249_11, x_249_14, x_249_17, x_249_18, x_249_19, x_249_22, x_249_23, x_249_24, x_249_25, x_249_28, x_249_29, x_249_32, x_249_35, x_249_36, x_249_39, x_249_40, x_249_41, x_249_42, x_249_45, x_249_46, x_249_49, x_249_50, x_249_53, x_249_56, x_249_57, x_249_60, x_249_63, x_249_64, x_249_67, x_249_69, x_249_70, x_249_73, x_249_74, x_249_75, x_249_76, x_249_77, x_249_80, x_249_81, x_249_82, x_249_83, x_249_85, x_249_86, bk_v, bk_n, nl_I, nl_R, nl_L, nl_0, oo_lt, oo_le, oo_eq, oo_add, oo_sub, oo_tn, oo_ir, nn_leT, nn_leF, nn_ltT, nn_ltF, nn_eqT, nn_eqF, bv_0, bv_1, ko_b, ko_1, ko_0, true_and, and_true, if_true, if_false, not_true_eq_false, not_false_eq_true, oo_02, decide_eq_true_eq, decide_eq_false_iff_not, ite_not, Nat.reduceAdd, Nat.reduceLT, Nat.reduceSub, Nat.reduceLeDiff, reduceIte, Bool.true_eq_false, Bool.false_eq_true, reduceCtorEq, eq_self, decide_true, decide_false, bv_t, bv_f, and_self, t_si, t_sl, t_sr, t_sI, t_sR, n_si, n_sl, n_sr, n_sI, n_sR, r_si, r_sl, r_sI, m_in, ll_o, ll_le, hx, h2, hz, q1, g1, u45, u46, nb, nc, g3, g4, oo_mul, h_one, List.head?_cons, r_oneS, r_one]
theorem m_wh_x (h9 : RM_ w S) (hV : WS_ S) {d : Nat} {x : Int32} (hx : ¬ (Int32.ofNat 0 ≤ x ∧ x ≤ Int32.ofNat 2)) : MR_ (d + 4) 249 [v_R (some 1440), v_I x] w (v_I (Int32.ofNat 0)) 1 := by
  refine mr_go (ls := [some (v_R (some 1440)), some (v_I x)]) (fun Q => ?_) (fun w0 hf hc => mr_f (fun Q => ?_))
  · have h := h9
    have hq := RM_MQ h hV
    have hMM := hq
    obtain ⟨hM, hT, hS, ⟨hn, hk4⟩, hW1, hW2, hW3⟩ := hMM
    unfold sh_M at hM
    unfold MT_ at hT
    unfold MS_ at hS
    have hB := h.2.2.1.2
    unfold PK_ at hB
    have hR := h.2.2.2
    simp (disch := first | omega | decide | exact ko_b _ | assumption | (simp only [t_si, t_sl, t_sr, t_sI, t_sR, n_si, n_sl, n_sr, n_sI, n_sR, r_si, r_sl, r_sI]; first | done | omega)) only [x_249_e, x_249_b, x_249_0, x_249_1, x_249_2, x_249_6, x_249_7, x_249_8, x_249_11, x_249_14, x_249_17, x_249_18, x_249_19, x_249_22, x_249_23, x_249_24, x_249_25, x_249_28, x_249_29, x_249_32, x_249_35, x_249_36, x_249_39, x_249_40, x_249_41, x_249_42, x_249_45, x_249_46, x_249_49, x_249_50, x_249_53, x_249_56, x_249_57, x_249_60, x_249_63, x_249_64, x_249_67, x_249_69, x_249_70, x_249_73, x_249_74, x_249_75, x_249_76, x_249_77, x_249_80, x_249_81, x_249_82, x_249_83, x_249_85, x_249_86, bk_v, bk_n, nl_I, nl_R, nl_L, nl_0, oo_lt, oo_le, oo_eq, oo_add, oo_sub, oo_tn, oo_ir, nn_leT, nn_leF, nn_ltT, nn_ltF, nn_eqT, nn_eqF, bv_0, bv_1, ko_b, ko_1, ko_0, true_and, and_true, if_true, if_false, not_true_eq_false, not_false_eq_true, oo_02, decide_eq_true_eq, decide_eq_false_iff_not, ite_not, Nat.reduceAdd, Nat.reduceLT, Nat.reduceSub, Nat.reduceLeDiff, reduceIte, Bool.true_eq_false, Bool.false_eq_true, reduceCtorEq, eq_self, decide_true, decide_false, bv_t, bv_f, and_self, t_si, t_sl, t_sr, t_sI, t_sR, n_si, n_sl, n_sr, n_sI, n_sR, r_si, r_sl, r_sI, hM, hT, hS, hB, hR]
  · have h := RM_fr h9 hV hf
    have hM0 := h.1.1
    simp (disch := first | omega | decide | exact ko_b _ | assumption | (simp only [t_si, t_sl, t_sr, t_sI, t_sR, n_si, n_sl, n_sr, n_sI, n_sR, r_si, r_sl, r_sI]; first | done | omega)) only [x_249_e, x_249_b, x_249_5, x_249_6, x_249_7, x_249_8, x_249_11, x_249_14, x_249_17, x_249_18, x_249_19, x_249_22, bk_v, bk_n, nl_I, nl_R, nl_L, nl_0, oo_lt, oo_le, oo_eq, oo_add, oo_sub, oo_tn, oo_ir, nn_leT, nn_leF, nn_ltT, nn_ltF, nn_eqT, nn_eqF, bv_0, bv_1, ko_b, ko_1, ko_0, true_and, and_true, if_true, if_false, not_true_eq_false, not_false_eq_true, oo_02, decide_eq_true_eq, decide_eq_false_iff_not, ite_not, Nat.reduceAdd, Nat.reduceLT, Nat.reduceSub, Nat.reduceLeDiff, reduceIte, Bool.true_eq_false, Bool.false_eq_true, reduceCtorEq, eq_self, decide_true, decide_false, bv_t, bv_f, and_self, t_si, t_sl, t_sr, t_sI, t_sR, n_si, n_sl, n_sr, n_sI, n_sR, r_si, r_sl, r_sI, m_in, ll_o, ll_le, hx, m_fail hM0]
theorem m_news {T : Tm} {X : Xm} (h : MQ_ w T X) {d k l n t : Nat} {was : Int32} {g : Nat → Int32} {s : List Nat} {a6 a7 : Option Vl} {Q : Q_} (hk : k < s.length) (hs : s.length ≤ 190) (ht : ∀ q, q ≤ k → w_i w 1470 q = g (s.getD q 0)) : wp (d + 2) 253 62 [some (v_R (some 1440)), some (v_I (Int32.ofNat l)), some (v_I (Int32.ofNat n)), some (v_I (Int32.ofNat k)), some (v_I (Int32.ofNat t)), some (v_I was), a6, a7] [] w Q = wp (d + 2) 253 4 [some (v_R (some 1440)), some (v_I (Int32.ofNat l)), some (v_I (Int32.ofNat (if (ff_ (fun q => decide (g (s.getD q 0) = g (s.getD k 0))) 0 k).isNone = true then n + 1 else n))), some (v_I (Int32.ofNat (k + 1))), some (v_I (Int32.ofNat t)), some (v_I was), some (v_I (b_v (ff_ (fun q => decide (g (s.getD q 0) = g (s.getD k 0))) 0 k).isNone)), some (v_I (Int32.ofNat (match ff_ (fun q => decide (g (s.getD q 0) = g (s.getD k 0))) 0 k with | some j => j + 1 | none => k)))] [] w Q := by
  have hM := h.1
  unfold sh_M at hM
  have u0 : w_t w 1440 = 25 := hM.1
  have u48 : w_r w 1440 48 = some 1470 := by simp only [hM]
  have tb : w_t w 1470 = 1 := by simp only [hM]
  have nb : w_n w 1470 = 200 := by simp only [hM]
  clear hM
  have key := lp_fo (fun q => wp (d + 2) 253 68 [some (v_R (some 1440)), some (v_I (Int32.ofNat l)), some (v_I (Int32.ofNat n)), some (v_I (Int32.ofNat k)), some (v_I (Int32.ofNat t)), some (v_I was), some (v_I (Int32.ofNat 1)), some (v_I (Int32.ofNat q))] [] w Q) (fun o => wp (d + 2) 253 108 [some (v_R (some 1440)), some (v_I (Int32.ofNat l)), some (v_I (Int32.ofNat n)), some (v_I (Int32.ofNat k)), some (v_I (Int32.ofNat t)), some (v_I was), some (v_I (b_v o.isNone)), some (v_I (Int32.ofNat (match o with | some j => j + 1 | none => k)))] [] w Q) (fun q => decide (g (s.getD q 0) = g (s.getD k 0))) k 0 (fun q _ hq => ?_) ?_
  · refine Eq.trans ?_ (key.trans ?_)
    · simp (disch := first | omega | decide | exact ko_b _ | assumption | (simp only [t_si, t_sl, t_sr, t_sI, t_sR, n_si, n_sl, n_sr, n_sI, n_sR, r_si, r_sl, r_sI]; first | done | omega)) only [x_253_e, x_253_b, x_253_62, x_253_63, x_253_65, x_253_66, bk_v, bk_n, nl_I, nl_R, nl_L, nl_0, oo_lt, oo_le, oo_eq, oo_add, oo_sub, oo_tn, oo_ir, nn_leT, nn_leF, nn_ltT, nn_ltF, nn_eqT, nn_eqF, bv_0, bv_1, ko_b, ko_1, ko_0, true_and, and_true, if_true, if_false, not_true_eq_false, not_false_eq_true, oo_02, decide_eq_true_eq, decide_eq_false_iff_not, ite_not, Nat.reduceAdd, Nat.reduceLT, Nat.reduceSub, Nat.reduceLeDiff, reduceIte, Bool.true_eq_false, Bool.false_eq_true, reduceCtorEq, eq_self, decide_true, decide_false, bv_t, bv_f, and_self, t_si, t_sl, t_sr, t_sI, t_sR, n_si, n_sl, n_sr, n_sI, n_sR, r_si, r_sl, r_sI]
    · cases ff_ (fun q => decide (g (s.getD q 0) = g (s.getD k 0))) 0 k with
      | none => simp (disch := first | omega | decide | exact ko_b _ | assumption | (simp only [t_si, t_sl, t_sr, t_sI, t_sR, n_si, n_sl, n_sr, n_sI, n_sR, r_si, r_sl, r_sI]; first | done | omega)) only [x_253_e, x_253_b, x_253_108, x_253_109, x_253_111, x_253_114, x_253_115, x_253_118, x_253_119, x_253_120, x_253_121, x_253_124, bk_v, bk_n, nl_I, nl_R, nl_L, nl_0, oo_lt, oo_le, oo_eq, oo_add, oo_sub, oo_tn, oo_ir, nn_leT, nn_leF, nn_ltT, nn_ltF, nn_eqT, nn_eqF, bv_0, bv_1, ko_b, ko_1, ko_0, true_and, and_true, if_true, if_false, not_true_eq_false, not_false_eq_true, oo_02, decide_eq_true_eq, decide_eq_false_iff_not, ite_not, Nat.reduceAdd, Nat.reduceLT, Nat.reduceSub, Nat.reduceLeDiff, reduceIte, Bool.true_eq_false, Bool.false_eq_true, reduceCtorEq, eq_self, decide_true, decide_false, bv_t, bv_f, and_self, t_si, t_sl, t_sr, t_sI, t_sR, n_si, n_sl, n_sr, n_sI, n_sR, r_si, r_sl, r_sI, Option.isNone_none]
      | some j => simp (disch := first | omega | decide | exact ko_b _ | assumption | (simp only [t_si, t_sl, t_sr, t_sI, t_sR, n_si, n_sl, n_sr, n_sI, n_sR, r_si, r_sl, r_sI]; first | done | omega)) only [x_253_e, x_253_b, x_253_108, x_253_109, x_253_111, x_253_114, x_253_115, x_253_118, x_253_119, x_253_120, x_253_121, x_253_124, bk_v, bk_n, nl_I, nl_R, nl_L, nl_0, oo_lt, oo_le, oo_eq, oo_add, oo_sub, oo_tn, oo_ir, nn_leT, nn_leF, nn_ltT, nn_ltF, nn_eqT, nn_eqF, bv_0, bv_1, ko_b, ko_1, ko_0, true_and, and_true, if_true, if_false, not_true_eq_false, not_false_eq_true, oo_02, decide_eq_true_eq, decide_eq_false_iff_not, ite_not, Nat.reduceAdd, Nat.reduceLT, Nat.reduceSub, Nat.reduceLeDiff, reduceIte, Bool.true_eq_false, Bool.false_eq_true, reduceCtorEq, eq_self, decide_true, decide_false, bv_t, bv_f, and_self, t_si, t_sl, t_sr, t_sI, t_sR, n_si, n_sl, n_sr, n_sI, n_sR, r_si, r_sl, r_sI, Option.isNone_some, Nat.add_zero]
  · have e1 := ht q (by omega)
    have e2 := ht k (Nat.le_refl _)
    have e1 : w_i w 1470 q = g (s.getD q 0) := e1
    rw [x_253_68]
    by_cases c : g (s.getD q 0) = g (s.getD k 0)
    · simp (disch := first | omega | decide | exact ko_b _ | assumption | (simp only [t_si, t_sl, t_sr, t_sI, t_sR, n_si, n_sl, n_sr, n_sI, n_sR, r_si, r_sl, r_sI]; first | done | omega)) only [x_253_e, x_253_b, x_253_70, x_253_71, x_253_74, x_253_76, x_253_79, x_253_80, x_253_83, x_253_85, x_253_86, x_253_87, x_253_90, x_253_91, x_253_92, x_253_95, x_253_96, x_253_99, x_253_100, x_253_102, x_253_105, bk_v, bk_n, nl_I, nl_R, nl_L, nl_0, oo_lt, oo_le, oo_eq, oo_add, oo_sub, oo_tn, oo_ir, nn_leT, nn_leF, nn_ltT, nn_ltF, nn_eqT, nn_eqF, bv_0, bv_1, ko_b, ko_1, ko_0, true_and, and_true, if_true, if_false, not_true_eq_false, not_false_eq_true, oo_02, decide_eq_true_eq, decide_eq_false_iff_not, ite_not, Nat.reduceAdd, Nat.reduceLT, Nat.reduceSub, Nat.reduceLeDiff, reduceIte, Bool.true_eq_false, Bool.false_eq_true, reduceCtorEq, eq_self, decide_true, decide_false, bv_t, bv_f, and_self, t_si, t_sl, t_sr, t_sI, t_sR, n_si, n_sl, n_sr, n_sI, n_sR, r_si, r_sl, r_sI, u48, nb, e1, e2, c, Option.isNone_some]
      rw [x_253_68]
      by_cases c3 : q + 1 < k
      · simp (disch := first | omega | decide | exact ko_b _ | assumption | (simp only [t_si, t_sl, t_sr, t_sI, t_sR, n_si, n_sl, n_sr, n_sI, n_sR, r_si, r_sl, r_sI]; first | done | omega)) only [x_253_e, x_253_b, x_253_70, x_253_71, x_253_74, x_253_76, x_253_79, x_253_80, x_253_83, x_253_85, x_253_86, x_253_87, x_253_90, x_253_91, x_253_92, x_253_95, x_253_96, x_253_99, x_253_100, x_253_102, x_253_105, bk_v, bk_n, nl_I, nl_R, nl_L, nl_0, oo_lt, oo_le, oo_eq, oo_add, oo_sub, oo_tn, oo_ir, nn_leT, nn_leF, nn_ltT, nn_ltF, nn_eqT, nn_eqF, bv_0, bv_1, ko_b, ko_1, ko_0, true_and, and_true, if_true, if_false, not_true_eq_false, not_false_eq_true, oo_02, decide_eq_true_eq, decide_eq_false_iff_not, ite_not, Nat.reduceAdd, Nat.reduceLT, Nat.reduceSub, Nat.reduceLeDiff, reduceIte, Bool.true_eq_false, Bool.false_eq_true, reduceCtorEq, eq_self, decide_true, decide_false, bv_t, bv_f, and_self, t_si, t_sl, t_sr, t_sI, t_sR, n_si, n_sl, n_sr, n_sI, n_sR, r_si, r_sl, r_sI]
      · simp (disch := first | omega | decide | exact ko_b _ | assumption | (simp only [t_si, t_sl, t_sr, t_sI, t_sR, n_si, n_sl, n_sr, n_sI, n_sR, r_si, r_sl, r_sI]; first | done | omega)) only [x_253_e, x_253_b, x_253_70, x_253_71, x_253_74, x_253_76, x_253_79, x_253_80, x_253_83, x_253_85, x_253_86, x_253_87, x_253_90, x_253_91, x_253_92, x_253_95, x_253_96, x_253_99, x_253_100, x_253_102, x_253_105, bk_v, bk_n, nl_I, nl_R, nl_L, nl_0, oo_lt, oo_le, oo_eq, oo_add, oo_sub, oo_tn, oo_ir, nn_leT, nn_leF, nn_ltT, nn_ltF, nn_eqT, nn_eqF, bv_0, bv_1, ko_b, ko_1, ko_0, true_and, and_true, if_true, if_false, not_true_eq_false, not_false_eq_true, oo_02, decide_eq_true_eq, decide_eq_false_iff_not, ite_not, Nat.reduceAdd, Nat.reduceLT, Nat.reduceSub, Nat.reduceLeDiff, reduceIte, Bool.true_eq_false, Bool.false_eq_true, reduceCtorEq, eq_self, decide_true, decide_false, bv_t, bv_f, and_self, t_si, t_sl, t_sr, t_sI, t_sR, n_si, n_sl, n_sr, n_sI, n_sR, r_si, r_sl, r_sI]
    · simp (disch := first | omega | decide | exact ko_b _ | assumption | (simp only [t_si, t_sl, t_sr, t_sI, t_sR, n_si, n_sl, n_sr, n_sI, n_sR, r_si, r_sl, r_sI]; first | done | omega)) only [x_253_e, x_253_b, x_253_70, x_253_71, x_253_74, x_253_76, x_253_79, x_253_80, x_253_83, x_253_85, x_253_86, x_253_87, x_253_90, x_253_91, x_253_92, x_253_95, x_253_96, x_253_99, x_253_100, x_253_102, x_253_105, bk_v, bk_n, nl_I, nl_R, nl_L, nl_0, oo_lt, oo_le, oo_eq, oo_add, oo_sub, oo_tn, oo_ir, nn_leT, nn_leF, nn_ltT, nn_ltF, nn_eqT, nn_eqF, bv_0, bv_1, ko_b, ko_1, ko_0, true_and, and_true, if_true, if_false, not_true_eq_false, not_false_eq_true, oo_02, decide_eq_true_eq, decide_eq_false_iff_not, ite_not, Nat.reduceAdd, Nat.reduceLT, Nat.reduceSub, Nat.reduceLeDiff, reduceIte, Bool.true_eq_false, Bool.false_eq_true, reduceCtorEq, eq_self, decide_true, decide_false, bv_t, bv_f, and_self, t_si, t_sl, t_sr, t_sI, t_sR, n_si, n_sl, n_sr, n_sI, n_sR, r_si, r_sl, r_sI, u48, nb, e1, e2, c]
  · rw [x_253_68]
    simp (disch := first | omega | decide | exact ko_b _ | assumption | (simp only [t_si, t_sl, t_sr, t_sI, t_sR, n_si, n_sl, n_sr, n_sI, n_sR, r_si, r_sl, r_sI]; first | done | omega)) only [x_253_e, x_253_b, x_253_70, x_253_71, x_253_74, x_253_76, x_253_79, x_253_80, x_253_83, x_253_85, x_253_86, x_253_87, x_253_90, x_253_91, x_253_92, x_253_95, x_253_96, x_253_99, x_253_100, x_253_102, x_253_105, bk_v, bk_n, nl_I, nl_R, nl_L, nl_0, oo_lt, oo_le, oo_eq, oo_add, oo_sub, oo_tn, oo_ir, nn_leT, nn_leF, nn_ltT, nn_ltF, nn_eqT, nn_eqF, bv_0, bv_1, ko_b, ko_1, ko_0, true_and, and_true, if_true, if_false, not_true_eq_false, not_false_eq_true, oo_02, decide_eq_true_eq, decide_eq_false_iff_not, ite_not, Nat.reduceAdd, Nat.reduceLT, Nat.reduceSub, Nat.reduceLeDiff, reduceIte, Bool.true_eq_false, Bool.false_eq_true, reduceCtorEq, eq_self, decide_true, decide_false, bv_t, bv_f, and_self, t_si, t_sl, t_sr, t_sI, t_sR, n_si, n_sl, n_sr, n_sI, n_sR, r_si, r_sl, r_sI, Option.isNone_none, Nat.zero_add]
theorem m_unl (h : MQ_ w (sm_T S) (bm_X (sm_B S))) {d l : Nat} {s : List Nat} (hl : l < xm_L (bm_X (sm_B S))) (hs : s.length ≤ 190) (ho : ft_ok (xm_L (bm_X (sm_B S))) s) (hF : FT_ w (bm_X (sm_B S)) s) : ∃ w1, Fr_ (fun a _ => a = 1470) w w1 ∧ ∀ Q, cl (d + 2) 253 [v_R (some 1440), v_I (Int32.ofNat l)] w Q = Q (Sum.inl (some (v_I (Int32.ofNat (un_ (gt_ (sm_T S) (bm_X (sm_B S)) l) s))))) w1 := by
  have h0 := h
  have hX9 := h.2.2.2.2
  have hn9 := h.2.2.2.1.1
  have hL9 := hX9.1
  have fpm : ∀ a k, (fun a (_ : Nat) => a = 1470) a k → pmf_ a k := fun a k z => by unfold pmf_; omega
  have hFT : ∀ {v : Wd}, Fr_ (fun a _ => a = 1470) w v → FT_ v (bm_X (sm_B S)) s := fun hf => ⟨by rw [hf.2.2.2.2.2 _ _ (by omega)]; exact hF.1, fun i hi => by rw [hf.2.2.2.2.2 _ _ (by omega)]; exact hF.2.1 i hi, fun i hi => by rw [hf.2.2.2.2.2 _ _ (by omega)]; exact hF.2.2 i hi⟩
  obtain ⟨t, ⟨i1, i2⟩, q1⟩ := lp_ig (fun k (n : Nat) (t : (Option Vl × Option Vl × Option Vl × Option Vl) × Wd) Q => wp (d + 2) 253 4 [some (v_R (some 1440)), some (v_I (Int32.ofNat l)), some (v_I (Int32.ofNat n)), some (v_I (Int32.ofNat k)), t.1.1, t.1.2.1, t.1.2.2.1, t.1.2.2.2] [] t.2 Q) (fun k n t => Fr_ (fun a _ => a = 1470) w t.2 ∧ ∀ q, q < k → w_i t.2 1470 q = gt_ (sm_T S) (bm_X (sm_B S)) l (s.getD q 0)) (fun k v => if (ff_ (fun q => decide (gt_ (sm_T S) (bm_X (sm_B S)) l (s.getD q 0) = gt_ (sm_T S) (bm_X (sm_B S)) l (s.getD k 0))) 0 k).isNone = true then v + 1 else v) s.length 0 0 ((none, none, none, none), w) (fun k n t _ hk hC => by
    have hk : k < s.length := by omega
    obtain ⟨i1, i2⟩ := hC
    have hmem : s.getD k 0 < 19 * xm_L (bm_X (sm_B S)) := by
      rw [List.getD_eq_getElem?_getD, List.getElem?_eq_getElem hk, Option.getD_some]
      exact ho _ (List.getElem_mem hk)
    have ht := hX9.2.1 (s.getD k 0 / 19) (by omega)
    have hF1 := hFT i1
    have e68 := hF1.2.1 k hk
    have e69 := hF1.2.2 k hk
    have e47 := hF1.1
    have hq1 := MQ_fr h0 (fr_mo i1 (fun a k z => pmf_pm (fpm a k z)))
    have e56 : w_i t.2 1456 (xm_t (bm_X (sm_B S)) (s.getD k 0 / 19)) = xm_l (bm_X (sm_B S)) (xm_t (bm_X (sm_B S)) (s.getD k 0 / 19)) := hq1.2.2.1.2.2.2.2.2.2 _ ht
    have fv : Fr_ p_st t.2 (s_i t.2 1456 (xm_t (bm_X (sm_B S)) (s.getD k 0 / 19)) (wv_ (s.getD k 0 % 19))) := fr_si (fr_rf _ _) (by unfold p_st; omega)
    have hq2 := MQ_X hq1 fv (MS_lea (t := xm_t (bm_X (sm_B S)) (s.getD k 0 / 19)) (v := wv_ (s.getD k 0 % 19)) hq1.2.2.1) (WX_lea hX9)
    have htl : ∀ Q, cl (d + 1) 185 [v_R (some 1440), v_I (Int32.ofNat l)] _ Q = _ := fun Q => m_tilt hq2 (d := d) (l := l) (Q := Q) hl
    have egt : f_tilt (sm_T S) (x_lea (bm_X (sm_B S)) (xm_t (bm_X (sm_B S)) (s.getD k 0 / 19)) (wv_ (s.getD k 0 % 19))) l = gt_ (sm_T S) (bm_X (sm_B S)) l (s.getD k 0) := rfl
    rw [egt] at htl
    have f3 : Fr_ (fun a _ => a = 1470) t.2 (s_i (s_i (s_i t.2 1456 (xm_t (bm_X (sm_B S)) (s.getD k 0 / 19)) (wv_ (s.getD k 0 % 19))) 1470 k (gt_ (sm_T S) (bm_X (sm_B S)) l (s.getD k 0))) 1456 (xm_t (bm_X (sm_B S)) (s.getD k 0 / 19)) (xm_l (bm_X (sm_B S)) (xm_t (bm_X (sm_B S)) (s.getD k 0 / 19)))) := ⟨rfl, rfl, rfl, rfl, rfl, fun a j z => by
      simp only [i_si]
      by_cases c : a = 1456 ∧ j = xm_t (bm_X (sm_B S)) (s.getD k 0 / 19)
      · rw [if_pos c, c.1, c.2]; exact e56.symm
      · rw [if_neg c, if_neg (fun y => z y.1), if_neg c]⟩
    have c70 : ∀ q, q ≤ k → w_i (s_i (s_i (s_i t.2 1456 (xm_t (bm_X (sm_B S)) (s.getD k 0 / 19)) (wv_ (s.getD k 0 % 19))) 1470 k (gt_ (sm_T S) (bm_X (sm_B S)) l (s.getD k 0))) 1456 (xm_t (bm_X (sm_B S)) (s.getD k 0 / 19)) (xm_l (bm_X (sm_B S)) (xm_t (bm_X (sm_B S)) (s.getD k 0 / 19)))) 1470 q = gt_ (sm_T S) (bm_X (sm_B S)) l (s.getD q 0) := fun q hq => by
      simp only [i_si, Nat.reduceEqDiff, false_and, if_false, true_and]
      by_cases c : q = k
      · rw [if_pos c, c]
      · rw [if_neg c]; exact i2 q (by omega)
    have hq3 := MQ_fr hq1 (fr_mo f3 (fun a k z => pmf_pm (fpm a k z)))
    have hM := hq1.1
    unfold sh_M at hM
    have u0 : w_t t.2 1440 = 25 := hM.1
    have u26 : w_r t.2 1440 26 = some 1456 := by simp only [hM]
    have u45 : w_r t.2 1440 45 = some 1468 := by simp only [hM]
    have u46 : w_r t.2 1440 46 = some 1469 := by simp only [hM]
    have u48 : w_r t.2 1440 48 = some 1470 := by simp only [hM]
    have ta : w_t t.2 1456 = 1 := by simp only [hM]
    have tb : w_t t.2 1468 = 1 := by simp only [hM]
    have tc : w_t t.2 1469 = 1 := by simp only [hM]
    have td : w_t t.2 1470 = 1 := by simp only [hM]
    have na : w_n t.2 1456 = 10 := by simp only [hM]
    have nb : w_n t.2 1468 = 200 := by simp only [hM]
    have nc : w_n t.2 1469 = 200 := by simp only [hM]
    have nd : w_n t.2 1470 = 200 := by simp only [hM]
    clear hM
    refine ⟨((some (v_I (Int32.ofNat (xm_t (bm_X (sm_B S)) (s.getD k 0 / 19)))), some (v_I (xm_l (bm_X (sm_B S)) (xm_t (bm_X (sm_B S)) (s.getD k 0 / 19)))), some (v_I (b_v (ff_ (fun q => decide (gt_ (sm_T S) (bm_X (sm_B S)) l (s.getD q 0) = gt_ (sm_T S) (bm_X (sm_B S)) l (s.getD k 0))) 0 k).isNone)), some (v_I (Int32.ofNat (match ff_ (fun q => decide (gt_ (sm_T S) (bm_X (sm_B S)) l (s.getD q 0) = gt_ (sm_T S) (bm_X (sm_B S)) l (s.getD k 0))) 0 k with | some j => j + 1 | none => k)))), _), ⟨fr_tr i1 f3, fun q hq => c70 q (by omega)⟩, fun Q => ?_⟩
    have hn := m_news hq3 (d := d) (k := k) (l := l) (n := n) (t := xm_t (bm_X (sm_B S)) (s.getD k 0 / 19)) (was := xm_l (bm_X (sm_B S)) (xm_t (bm_X (sm_B S)) (s.getD k 0 / 19))) (a6 := t.1.2.2.1) (a7 := t.1.2.2.2) (Q := Q) hk hs c70
    refine Eq.trans ?_ hn
    rw [x_253_4]
    simp (disch := first | omega | decide | exact ko_b _ | assumption | (simp only [t_si, t_sl, t_sr, t_sI, t_sR, n_si, n_sl, n_sr, n_sI, n_sR, r_si, r_sl, r_sI]; first | done | omega)) only [x_253_e, x_253_b, x_253_5, x_253_6, x_253_9, x_253_12, x_253_13, x_253_16, x_253_17, x_253_18, x_253_20, x_253_21, x_253_24, x_253_26, x_253_27, x_253_29, x_253_30, x_253_33, x_253_35, x_253_36, x_253_39, x_253_40, x_253_41, x_253_42, x_253_43, x_253_46, x_253_47, x_253_48, x_253_49, x_253_52, x_253_53, x_253_54, x_253_57, x_253_59, x_253_61, bk_v, bk_n, nl_I, nl_R, nl_L, nl_0, oo_lt, oo_le, oo_eq, oo_add, oo_sub, oo_tn, oo_ir, nn_leT, nn_leF, nn_ltT, nn_ltF, nn_eqT, nn_eqF, bv_0, bv_1, ko_b, ko_1, ko_0, true_and, and_true, if_true, if_false, not_true_eq_false, not_false_eq_true, oo_02, decide_eq_true_eq, decide_eq_false_iff_not, ite_not, Nat.reduceAdd, Nat.reduceLT, Nat.reduceSub, Nat.reduceLeDiff, reduceIte, Bool.true_eq_false, Bool.false_eq_true, reduceCtorEq, eq_self, decide_true, decide_false, bv_t, bv_f, and_self, t_si, t_sl, t_sr, t_sI, t_sR, n_si, n_sl, n_sr, n_sI, n_sR, r_si, r_sl, r_sI, e47, u26, u45, u46, u48, na, nb, nc, nd, e68, e69, e56, htl]) ⟨fr_rf _ _, fun q hq => absurd hq (Nat.not_lt_zero q)⟩
  refine ⟨t.2, i1, fun Q => ?_⟩
  have hq1 := MQ_fr h0 (fr_mo i1 (fun a k z => pmf_pm (fpm a k z)))
  have u0 : w_t t.2 1440 = 25 := hq1.1.1
  have e47 := (hFT i1).1
  have fin : ∀ n : Nat, wp (d + 2) 253 4 [some (v_R (some 1440)), some (v_I (Int32.ofNat l)), some (v_I (Int32.ofNat n)), some (v_I (Int32.ofNat (0 + s.length))), t.1.1, t.1.2.1, t.1.2.2.1, t.1.2.2.2] [] t.2 Q = Q (Sum.inl (some (v_I (Int32.ofNat n)))) t.2 := fun n => by
    rw [x_253_4]
    simp (disch := first | omega | decide | exact ko_b _ | assumption | (simp only [t_si, t_sl, t_sr, t_sI, t_sR, n_si, n_sl, n_sr, n_sI, n_sR, r_si, r_sl, r_sI]; first | done | omega)) only [x_253_e, x_253_b, x_253_5, x_253_6, x_253_9, x_253_e, x_253_b, x_253_127, x_253_128, bk_v, bk_n, nl_I, nl_R, nl_L, nl_0, oo_lt, oo_le, oo_eq, oo_add, oo_sub, oo_tn, oo_ir, nn_leT, nn_leF, nn_ltT, nn_ltF, nn_eqT, nn_eqF, bv_0, bv_1, ko_b, ko_1, ko_0, true_and, and_true, if_true, if_false, not_true_eq_false, not_false_eq_true, oo_02, decide_eq_true_eq, decide_eq_false_iff_not, ite_not, Nat.reduceAdd, Nat.reduceLT, Nat.reduceSub, Nat.reduceLeDiff, reduceIte, Bool.true_eq_false, Bool.false_eq_true, reduceCtorEq, eq_self, decide_true, decide_false, bv_t, bv_f, and_self, t_si, t_sl, t_sr, t_sI, t_sR, n_si, n_sl, n_sr, n_sI, n_sR, r_si, r_sl, r_sI, e47]
  refine Eq.trans ?_ ((q1 Q).trans (fin _))
  simp (disch := first | omega | decide | exact ko_b _ | assumption | (simp only [t_si, t_sl, t_sr, t_sI, t_sR, n_si, n_sl, n_sr, n_sI, n_sR, r_si, r_sl, r_sI]; first | done | omega)) only [x_253_e, x_253_b, x_253_0, x_253_1, x_253_2, x_253_3, bk_v, bk_n, nl_I, nl_R, nl_L, nl_0, oo_lt, oo_le, oo_eq, oo_add, oo_sub, oo_tn, oo_ir, nn_leT, nn_leF, nn_ltT, nn_ltF, nn_eqT, nn_eqF, bv_0, bv_1, ko_b, ko_1, ko_0, true_and, and_true, if_true, if_false, not_true_eq_false, not_false_eq_true, oo_02, decide_eq_true_eq, decide_eq_false_iff_not, ite_not, Nat.reduceAdd, Nat.reduceLT, Nat.reduceSub, Nat.reduceLeDiff, reduceIte, Bool.true_eq_false, Bool.false_eq_true, reduceCtorEq, eq_self, decide_true, decide_false, bv_t, bv_f, and_self, t_si, t_sl, t_sr, t_sI, t_sR, n_si, n_sl, n_sr, n_sI, n_sR, r_si, r_sl, r_sI]
theorem fits_ok (T : Tm) (X : Xm) (B : Bm) : ft_ok (xm_L X) (f_fits T X B) := by
  rw [fits_flat]
  have key : ∀ (n k : Nat) (s : List Nat), k + n ≤ 19 * xm_L X → ft_ok (xm_L X) s → ft_ok (xm_L X) (it_ (fun k s => if p_fit T X B (k / 19) (k % 19) = true then s ++ [k] else s) k n s) := by
    intro n
    induction n with
    | zero => intro k s _ h; exact h
    | succ n ih =>
      intro k s hk h
      rw [it_]
      refine ih (k + 1) _ (by omega) ?_
      split
      · exact ft_ok1 h (by omega)
      · exact h
  exact key _ 0 [] (by omega) (fun k hk => by cases hk)
theorem m_look (h9 : RM_ w S) (hV : WS_ S) {d : Nat} : MR_ (d + 4) 252 [v_R (some 1440)] w (v_I (f_look (sm_T S) (bm_X (sm_B S)) (sm_B S))) 0 := by
  refine mr_go (ls := [some (v_R (some 1440)), none, none, none, none]) (fun Q => ?_) (fun w0 hf hc => ?_)
  · have h := h9
    have hq := RM_MQ h hV
    have hMM := hq
    obtain ⟨hM, hT, hS, ⟨hn, hk4⟩, hW1, hW2, hW3⟩ := hMM
    unfold sh_M at hM
    unfold MT_ at hT
    unfold MS_ at hS
    have hB := h.2.2.1.2
    unfold PK_ at hB
    have hR := h.2.2.2
    simp (disch := first | omega | decide | exact ko_b _ | assumption | (simp only [t_si, t_sl, t_sr, t_sI, t_sR, n_si, n_sl, n_sr, n_sI, n_sR, r_si, r_sl, r_sI]; first | done | omega)) only [x_252_e, x_252_b, x_252_0, x_252_1, x_252_2, x_252_6, x_252_9, x_252_10, x_252_11, x_252_12, x_252_13, x_252_14, x_252_15, x_252_16, x_252_17, x_252_20, x_252_23, x_252_24, x_252_25, x_252_28, x_252_30, x_252_32, x_252_33, x_252_36, x_252_39, x_252_40, x_252_41, x_252_43, x_252_44, x_252_47, x_252_50, x_252_51, bk_v, bk_n, nl_I, nl_R, nl_L, nl_0, oo_lt, oo_le, oo_eq, oo_add, oo_sub, oo_tn, oo_ir, nn_leT, nn_leF, nn_ltT, nn_ltF, nn_eqT, nn_eqF, bv_0, bv_1, ko_b, ko_1, ko_0, true_and, and_true, if_true, if_false, not_true_eq_false, not_false_eq_true, oo_02, decide_eq_true_eq, decide_eq_false_iff_not, ite_not, Nat.reduceAdd, Nat.reduceLT, Nat.reduceSub, Nat.reduceLeDiff, reduceIte, Bool.true_eq_false, Bool.false_eq_true, reduceCtorEq, eq_self, decide_true, decide_false, bv_t, bv_f, and_self, t_si, t_sl, t_sr, t_sI, t_sR, n_si, n_sl, n_sr, n_sI, n_sR, r_si, r_sl, r_sI, hM, hT, hS, hB, hR]
  · have h := RM_fr h9 hV hf
    have hq0 := RM_MQ h hV
    obtain ⟨w1, f1, g1, g2, q1⟩ := m_fits h hV (d := d)
    have hFT : ∀ {v : Wd}, Fr_ (fun a _ => a = 1470) w1 v → FT_ v (bm_X (sm_B S)) (f_fits (sm_T S) (bm_X (sm_B S)) (sm_B S)) := fun hf => ⟨by rw [hf.2.2.2.2.2 _ _ (by omega)]; exact g1.1, fun i hi => by rw [hf.2.2.2.2.2 _ _ (by omega)]; exact g1.2.1 i hi, fun i hi => by rw [hf.2.2.2.2.2 _ _ (by omega)]; exact g1.2.2 i hi⟩
    have fpm : ∀ a k, (fun a (_ : Nat) => a = 1470) a k → pm_ a k := fun a k z => by unfold pm_; omega
    have hq1 := MQ_fr hq0 (fr_mo f1 (fun a k z => pmf_pm z))
    obtain ⟨t, hC, q2⟩ := lp_ig (fun l (s : Int32 × Int32) (t : Option Vl × Wd) Q => wp (d + 4) 252 15 [some (v_R (some 1440)), some (v_I s.1), some (v_I s.2), some (v_I (Int32.ofNat l)), t.1] [] t.2 Q) (fun k s t => Fr_ (fun a _ => a = 1470) w1 t.2) (f_lk1 (sm_T S) (bm_X (sm_B S)) (sm_B S)) (xm_L (bm_X (sm_B S))) 0 (Int32.ofInt (-1), Int32.ofNat 0) (none, w1) (fun l s t _ hl hC => by
      have hq2 := MQ_fr hq1 (fr_mo hC fpm)
      obtain ⟨w2, f2, q2⟩ := m_unl hq2 (d := d + 1) (show l < xm_L (bm_X (sm_B S)) by omega) g2 (fits_ok _ _ _) (hFT hC)
      refine ⟨(some (v_I (Int32.ofNat (f_ap (sm_T S) (bm_X (sm_B S)) (sm_B S) l))), w2), fr_tr hC f2, fun Q => ?_⟩
      have hX9 := hV.2.2.2.1.1
      have hn10 := hV.1.1
      have hLn := hX9.1
      have u0 : w_t t.2 1440 = 25 := hq2.1.1
      have u1 : w_i t.2 1440 28 = Int32.ofNat (xm_L (bm_X (sm_B S))) := hq2.2.2.1.1
      have q2 : ∀ Q, cl (d + 3) 253 [v_R (some 1440), v_I (Int32.ofNat l)] t.2 Q = Q (Sum.inl (some (v_I (Int32.ofNat (f_ap (sm_T S) (bm_X (sm_B S)) (sm_B S) l))))) w2 := q2
      unfold f_lk1
      rw [x_252_15]
      by_cases c : Int32.ofNat (f_ap (sm_T S) (bm_X (sm_B S)) (sm_B S) l) ≤ s.2
      · have c2 := Int32.not_lt.mpr c
        simp (disch := first | omega | decide | exact ko_b _ | assumption | (simp only [t_si, t_sl, t_sr, t_sI, t_sR, n_si, n_sl, n_sr, n_sI, n_sR, r_si, r_sl, r_sI]; first | done | omega)) only [x_252_e, x_252_b, x_252_16, x_252_17, x_252_20, x_252_23, x_252_24, x_252_25, x_252_28, x_252_30, x_252_32, x_252_33, x_252_36, x_252_39, x_252_40, x_252_41, x_252_43, x_252_44, x_252_47, bk_v, bk_n, nl_I, nl_R, nl_L, nl_0, oo_lt, oo_le, oo_eq, oo_add, oo_sub, oo_tn, oo_ir, nn_leT, nn_leF, nn_ltT, nn_ltF, nn_eqT, nn_eqF, bv_0, bv_1, ko_b, ko_1, ko_0, true_and, and_true, if_true, if_false, not_true_eq_false, not_false_eq_true, oo_02, decide_eq_true_eq, decide_eq_false_iff_not, ite_not, Nat.reduceAdd, Nat.reduceLT, Nat.reduceSub, Nat.reduceLeDiff, reduceIte, Bool.true_eq_false, Bool.false_eq_true, reduceCtorEq, eq_self, decide_true, decide_false, bv_t, bv_f, and_self, t_si, t_sl, t_sr, t_sI, t_sR, n_si, n_sl, n_sr, n_sI, n_sR, r_si, r_sl, r_sI, u1, q2, c, c2]
      · have c2 := Int32.not_le.mp c
        simp (disch := first | omega | decide | exact ko_b _ | assumption | (simp only [t_si, t_sl, t_sr, t_sI, t_sR, n_si, n_sl, n_sr, n_sI, n_sR, r_si, r_sl, r_sI]; first | done | omega)) only [x_252_e, x_252_b, x_252_16, x_252_17, x_252_20, x_252_23, x_252_24, x_252_25, x_252_28, x_252_30, x_252_32, x_252_33, x_252_36, x_252_39, x_252_40, x_252_41, x_252_43, x_252_44, x_252_47, bk_v, bk_n, nl_I, nl_R, nl_L, nl_0, oo_lt, oo_le, oo_eq, oo_add, oo_sub, oo_tn, oo_ir, nn_leT, nn_leF, nn_ltT, nn_ltF, nn_eqT, nn_eqF, bv_0, bv_1, ko_b, ko_1, ko_0, true_and, and_true, if_true, if_false, not_true_eq_false, not_false_eq_true, oo_02, decide_eq_true_eq, decide_eq_false_iff_not, ite_not, Nat.reduceAdd, Nat.reduceLT, Nat.reduceSub, Nat.reduceLeDiff, reduceIte, Bool.true_eq_false, Bool.false_eq_true, reduceCtorEq, eq_self, decide_true, decide_false, bv_t, bv_f, and_self, t_si, t_sl, t_sr, t_sI, t_sR, n_si, n_sl, n_sr, n_sI, n_sR, r_si, r_sl, r_sI, u1, q2, c, c2]) (fr_rf _ _)
    refine ⟨t.2, fr_tr (fr_mo f1 (fun a k z => pmf_pm z)) (fr_mo hC fpm), ?_, fun Q => ?_⟩
    · rw [hC.2.2.2.2.2 _ _ (by omega), f1.2.2.2.2.2 _ _ (by unfold pmf_; omega)]; exact hc
    · have hX9 := hV.2.2.2.1.1
      have hn10 := hV.1.1
      have hLn := hX9.1
      have hq2 := MQ_fr hq1 (fr_mo hC fpm)
      have u0 : w_t t.2 1440 = 25 := hq2.1.1
      have u1 : w_i t.2 1440 28 = Int32.ofNat (xm_L (bm_X (sm_B S))) := hq2.2.2.1.1
      have fin : wp (d + 4) 252 15 [some (v_R (some 1440)), some (v_I (it_ (f_lk1 (sm_T S) (bm_X (sm_B S)) (sm_B S)) 0 (xm_L (bm_X (sm_B S))) (Int32.ofInt (-1), Int32.ofNat 0)).1), some (v_I (it_ (f_lk1 (sm_T S) (bm_X (sm_B S)) (sm_B S)) 0 (xm_L (bm_X (sm_B S))) (Int32.ofInt (-1), Int32.ofNat 0)).2), some (v_I (Int32.ofNat (0 + xm_L (bm_X (sm_B S))))), t.1] [] t.2 Q = Q (Sum.inl (some (v_I (f_look (sm_T S) (bm_X (sm_B S)) (sm_B S))))) t.2 := by
        unfold f_look
        rw [x_252_15]
        simp (disch := first | omega | decide | exact ko_b _ | assumption | (simp only [t_si, t_sl, t_sr, t_sI, t_sR, n_si, n_sl, n_sr, n_sI, n_sR, r_si, r_sl, r_sI]; first | done | omega)) only [x_252_e, x_252_b, x_252_16, x_252_17, x_252_20, x_252_23, x_252_24, x_252_25, x_252_28, x_252_30, x_252_32, x_252_33, x_252_36, x_252_39, x_252_40, x_252_41, x_252_43, x_252_44, x_252_47, x_252_50, x_252_51, bk_v, bk_n, nl_I, nl_R, nl_L, nl_0, oo_lt, oo_le, oo_eq, oo_add, oo_sub, oo_tn, oo_ir, nn_leT, nn_leF, nn_ltT, nn_ltF, nn_eqT, nn_eqF, bv_0, bv_1, ko_b, ko_1, ko_0, true_and, and_true, if_true, if_false, not_true_eq_false, not_false_eq_true, oo_02, decide_eq_true_eq, decide_eq_false_iff_not, ite_not, Nat.reduceAdd, Nat.reduceLT, Nat.reduceSub, Nat.reduceLeDiff, reduceIte, Bool.true_eq_false, Bool.false_eq_true, reduceCtorEq, eq_self, decide_true, decide_false, bv_t, bv_f, and_self, t_si, t_sl, t_sr, t_sI, t_sR, n_si, n_sl, n_sr, n_sI, n_sR, r_si, r_sl, r_sI, u1]
      refine Eq.trans ?_ ((q2 Q).trans fin)
      have hM0 := h.1.1
      simp (disch := first | omega | decide | exact ko_b _ | assumption | (simp only [t_si, t_sl, t_sr, t_sI, t_sR, n_si, n_sl, n_sr, n_sI, n_sR, r_si, r_sl, r_sI]; first | done | omega)) only [x_252_e, x_252_b, x_252_5, x_252_6, x_252_9, x_252_10, x_252_11, x_252_12, x_252_13, x_252_14, bk_v, bk_n, nl_I, nl_R, nl_L, nl_0, oo_lt, oo_le, oo_eq, oo_add, oo_sub, oo_tn, oo_ir, nn_leT, nn_leF, nn_ltT, nn_ltF, nn_eqT, nn_eqF, bv_0, bv_1, ko_b, ko_1, ko_0, true_and, and_true, if_true, if_false, not_true_eq_false, not_false_eq_true, oo_02, decide_eq_true_eq, decide_eq_false_iff_not, ite_not, Nat.reduceAdd, Nat.reduceLT, Nat.reduceSub, Nat.reduceLeDiff, reduceIte, Bool.true_eq_false, Bool.false_eq_true, reduceCtorEq, eq_self, decide_true, decide_false, bv_t, bv_f, and_self, t_si, t_sl, t_sr, t_sI, t_sR, n_si, n_sl, n_sr, n_sI, n_sR, r_si, r_sl, r_sI, q1]
end
