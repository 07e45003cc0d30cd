/-! EQUATIONS OF THE INSTRUCTIONS THAT ASK SOMETHING -/
set_option maxRecDepth 100000
abbrev L_ : Type := List (Option Vl)
abbrev S_ : Type := List Vl
abbrev Q_ : Type := Rs → Wd → Prop
theorem dc {m pc : Nat} {c : ByteArray} {r : Except DecodeError (Instr × Nat)} (hm : m_c m = c) (hd : decode c pc = r) : decode (m_c m) pc = r := by rw [hm]; exact hd
theorem fk {β : Type} {T : List (Nat × Nat × Nat × β)} {m o i g : Nat} {v : Option β} (ho : o_m m = o) (h : lk_3 T o i g = v) : lk_3 T (o_m m) i g = v := by rw [ho]; exact h
theorem fk2 {β : Type} {T : List (Nat × Nat × β)} {m o i : Nat} {v : Option β} (ho : o_m m = o) (h : lk_2 T o i = v) : lk_2 T (o_m m) i = v := by rw [ho]; exact h
theorem fc {β : Type} {T : List (Nat × Nat × β)} {m o i : Nat} {v : Option β} (ho : o_m m = o) (h : lk_2 b_T o i = none ∧ lk_2 T o i = v) : lk_2 b_T (o_m m) i = none ∧ lk_2 T (o_m m) i = v := by rw [ho]; exact h
theorem fo {m o : Nat} {s : String} (ho : o_m m = o) (h : s = o_s o) : s = o_s (o_m m) := by rw [ho]; exact h
theorem vc_2 : ∀ v : Vl, v_c v ≤ 2
  | Sum.inl _ => Nat.le_of_ble_eq_true rfl
  | Sum.inr (Sum.inl _) => Nat.le_of_ble_eq_true rfl
  | Sum.inr (Sum.inr _) => Nat.le_of_ble_eq_true rfl
theorem s8_0 : s_8 [] = true := rfl
theorem s8_1 (a : Vl) : s_8 [a] = true := by
  have := vc_2 a
  simp only [s_8, List.map_cons, List.map_nil, List.sum_cons, List.sum_nil, decide_eq_true_eq]; omega
theorem s8_2 (a b : Vl) : s_8 [a, b] = true := by
  have := vc_2 a; have := vc_2 b
  simp only [s_8, List.map_cons, List.map_nil, List.sum_cons, List.sum_nil, decide_eq_true_eq]; omega
theorem s8_3 (a b c : Vl) : s_8 [a, b, c] = true := by
  have := vc_2 a; have := vc_2 b; have := vc_2 c
  simp only [s_8, List.map_cons, List.map_nil, List.sum_cons, List.sum_nil, decide_eq_true_eq]; omega
theorem s8_4 (a b c e : Vl) : s_8 [a, b, c, e] = true := by
  have := vc_2 a; have := vc_2 b; have := vc_2 c; have := vc_2 e
  simp only [s_8, List.map_cons, List.map_nil, List.sum_cons, List.sum_nil, decide_eq_true_eq]; omega
theorem cl_e {d t n : Nat} {as : S_} {w : Wd} {Q : Q_} {ls : L_} (hn : m_l t = n) (hl : (e_a as).length ≤ n) (he : e_l n as = ls) : cl d t as w Q = wp d t 0 ls [] w Q := by
  subst hn; subst he
  exact propext ⟨fun h => h.2, fun h => ⟨hl, h⟩⟩
theorem bk_v {d m pc : Nat} {ls : L_} {r : S_} {Q : Q_} {v : Vl} {w : Wd} : bk d m pc ls r Q (Sum.inl (some v)) w = wp d m (pc + 3) ls (v :: r) w Q := rfl
theorem bk_n {d m pc : Nat} {ls : L_} {r : S_} {Q : Q_} {w : Wd} : bk d m pc ls r Q (Sum.inl none) w = wp d m (pc + 3) ls r w Q := rfl
theorem bk_t {d m pc q : Nat} {ls : L_} {r : S_} {Q : Q_} {w : Wd} (h : m_h m = none) : bk d m pc ls r Q (Sum.inr q) w = Q (Sum.inr q) w := by
  show (match h_m m pc (w_t w q) with | some (some h) => wp d m h ls [v_R (some q)] w Q | some none => Q (Sum.inr q) w | none => False) = _
  rw [show h_m m pc (w_t w q) = some none by unfold h_m; rw [h]]
theorem bk_p {d m pc q g : Nat} {ls : L_} {r : S_} {Q : Q_} {w : Wd} (hq : w_t w q = g) (h : h_m m pc g = some none) : bk d m pc ls r Q (Sum.inr q) w = Q (Sum.inr q) w := by
  show (match h_m m pc (w_t w q) with | some (some h) => wp d m h ls [v_R (some q)] w Q | some none => Q (Sum.inr q) w | none => False) = _
  rw [hq, h]
theorem bk_h {d m pc q g h9 : Nat} {ls : L_} {r : S_} {Q : Q_} {w : Wd} (hq : w_t w q = g) (h : h_m m pc g = some (some h9)) : bk d m pc ls r Q (Sum.inr q) w = wp d m h9 ls [v_R (some q)] w Q := by
  show (match h_m m pc (w_t w q) with | some (some h) => wp d m h ls [v_R (some q)] w Q | some none => Q (Sum.inr q) w | none => False) = _
  rw [hq, h]
def cp_k (w : Wd) (a b : Nat) (x y z : Int32) : Prop := ¬ x < 0 ∧ ¬ y < 0 ∧ ¬ z < 0 ∧ x.toNatClampNeg + z.toNatClampNeg ≤ w_n w a ∧ y.toNatClampNeg + z.toNatClampNeg ≤ w_n w b
theorem cb_0 : s_T.all (fun e => (lk_2 b_T e.1 e.2.1).isNone) = true := by decide +kernel
theorem cb_s {o i b : Nat} (h : lk_2 b_T o i = some b) : lk_2 s_T o i = none := by
  cases hs : lk_2 s_T o i with
  | none => rfl
  | some t =>
    have h1 := List.all_eq_true.mp cb_0 _ (lk_2m hs)
    simp only [h] at h1
    cases h1
section
variable {d m pc len t k j9 fin9 n9 n : Nat} {ls : L_} {st as r : S_} {w : Wd} {Q : Q_} {idx a b g : Nat} {fin : Bool} {x y z j : Int32} {u : Int64} {o o2 : Option Nat} {off lo hi dflt : Int} {c : Jvm.ClassFile.Cond} {v : Vl}
theorem wq_if {P : Prop} [Decidable P] (hd : decode (m_c m) pc = .ok (.ifCond c off, 3)) (hj : j_k pc off = true) (hz : z_c c x = decide P) : wp d m pc ls (v_I x :: st) w Q = if P then wp d m (j_t pc off) ls st w Q else wp d m (pc + 3) ls st w Q := by
  by_cases h : P
  · rw [if_pos h]
    exact wp_s hd rfl (by simp only [s_1, g_o, hj, hz, h, decide_true, if_true])
  · rw [if_neg h]
    exact wp_s hd rfl (by simp only [s_1, g_o, hj, hz, h, decide_false, if_true]; rfl)
theorem wq_ic {P : Prop} [Decidable P] (hd : decode (m_c m) pc = .ok (.if_icmp c off, 3)) (hj : j_k pc off = true) (hz : i_c c x y = decide P) : wp d m pc ls (v_I y :: v_I x :: st) w Q = if P then wp d m (j_t pc off) ls st w Q else wp d m (pc + 3) ls st w Q := by
  by_cases h : P
  · rw [if_pos h]
    exact wp_s hd rfl (by simp only [s_1, g_o, hj, hz, h, decide_true, if_true])
  · rw [if_neg h]
    exact wp_s hd rfl (by simp only [s_1, g_o, hj, hz, h, decide_false, if_true]; rfl)
/-- a part that fails unless P -/
theorem wq_and {i : Instr} {P : Prop} {pc1 : Nat} {ls1 : List (Option Vl)} {st1 : List Vl} {w1 : Wd} (hd : decode (m_c m) pc = .ok (i, len)) (hl : l_k i len = true) (h1 : P → s_1 m i pc ls st w = some (pc1, ls1, st1, w1)) (h0 : ¬ P → s_1 m i pc ls st w = none) (h2 : s_c m i st w = none) (h3 : s_e m i st w = none) : wp d m pc ls st w Q = (P ∧ wp d m pc1 ls1 st1 w1 Q) := by
  by_cases h : P
  · rw [wp_s hd hl (h1 h)]
    exact propext ⟨fun z => ⟨h, z⟩, fun z => z.2⟩
  · rw [wp_f hd (h0 h) h2 h3]
    exact propext ⟨False.elim, fun z => h z.1⟩
theorem wq_gI (hd : decode (m_c m) pc = .ok (.getfield idx, 3)) (hk : lk_3 f_T (o_m m) idx g = some (k, t, fin)) (ht0 : t ≠ 1) (ht2 : t ≠ 2) (ht : w_t w a = g) : wp d m pc ls (v_R (some a) :: st) w Q = wp d m (pc + 3) ls (v_I (w_i w a k) :: st) w Q :=
  wp_s hd rfl (by simp only [s_1, ht, hk]; unfold f_v; rw [if_neg ht0, if_neg ht2])
theorem wq_gL (hd : decode (m_c m) pc = .ok (.getfield idx, 3)) (hk : lk_3 f_T (o_m m) idx g = some (k, 1, fin)) (ht : w_t w a = g) : wp d m pc ls (v_R (some a) :: st) w Q = wp d m (pc + 3) ls (v_L (w_l w a k) :: st) w Q :=
  wp_s hd rfl (by simp only [s_1, ht, hk]; rfl)
theorem wq_gR (hd : decode (m_c m) pc = .ok (.getfield idx, 3)) (hk : lk_3 f_T (o_m m) idx g = some (k, 2, fin)) (ht : w_t w a = g) : wp d m pc ls (v_R (some a) :: st) w Q = wp d m (pc + 3) ls (v_R (w_r w a k) :: st) w Q :=
  wp_s hd rfl (by simp only [s_1, ht, hk]; rfl)
theorem wq_pI (hd : decode (m_c m) pc = .ok (.putfield idx, 3)) (hk : lk_3 f_T (o_m m) idx g = some (k, 0, fin)) (hf : fin = true → (m_y m).name = "<init>" ∧ ((c_e (g - 20)).2.1 k).1 = o_s (o_m m)) (hg : 20 ≤ g) (ht : w_t w a = g) : wp d m pc ls (v_I x :: v_R (some a) :: st) w Q = wp d m (pc + 3) ls st (s_i w a k x) Q :=
  wp_s hd rfl (by subst ht; simp only [s_1, hk]; rw [if_pos ⟨hf, hg⟩]; rfl)
theorem wq_pB (hd : decode (m_c m) pc = .ok (.putfield idx, 3)) (hk : lk_3 f_T (o_m m) idx g = some (k, t, fin)) (h3 : t = 3 ∨ t = 4 ∨ t = 5) (hf : fin = true → (m_y m).name = "<init>" ∧ ((c_e (g - 20)).2.1 k).1 = o_s (o_m m)) (hg : 20 ≤ g) (ht : w_t w a = g) (hx : k_o t x = true) : wp d m pc ls (v_I x :: v_R (some a) :: st) w Q = wp d m (pc + 3) ls st (s_i w a k x) Q :=
  wp_s hd rfl (by subst ht; simp only [s_1, hk]; rw [if_pos ⟨hf, hg⟩]; simp only [p_v]; rw [if_neg (by omega), if_pos ⟨h3, hx⟩])
theorem wq_pR (hd : decode (m_c m) pc = .ok (.putfield idx, 3)) (hk : lk_3 f_T (o_m m) idx g = some (k, 2, fin)) (hf : fin = true → (m_y m).name = "<init>" ∧ ((c_e (g - 20)).2.1 k).1 = o_s (o_m m)) (hg : 20 ≤ g) (ht : w_t w a = g) : wp d m pc ls (v_R o :: v_R (some a) :: st) w Q = wp d m (pc + 3) ls st (s_r w a k o) Q :=
  wp_s hd rfl (by subst ht; simp only [s_1, hk]; rw [if_pos ⟨hf, hg⟩]; rfl)
theorem wq_al (hd : decode (m_c m) pc = .ok (.arraylength, 1)) (ht : 1 ≤ w_t w a ∧ w_t w a ≤ 9) : wp d m pc ls (v_R (some a) :: st) w Q = wp d m (pc + 1) ls (v_I (Int32.ofNat (w_n w a)) :: st) w Q :=
  wp_s hd rfl (by simp only [s_1]; rw [if_pos ht])
theorem wq_ia (hd : decode (m_c m) pc = .ok (.iaload, 1)) (ht : w_t w a = 1 ∨ w_t w a = 8) : wp d m pc ls (v_I j :: v_R (some a) :: st) w Q = (in_r j (w_n w a) = true ∧ wp d m (pc + 1) ls (v_I (w_i w a j.toNatClampNeg) :: st) w Q) :=
  wq_and hd rfl (fun h => by simp only [s_1]; rw [if_pos ⟨ht, h⟩]) (fun h => by simp only [s_1]; rw [if_neg (fun z => h z.2)]) rfl rfl
theorem wq_ba (hd : decode (m_c m) pc = .ok (.baload, 1)) (ht : w_t w a = 2 ∨ w_t w a = 3 ∨ w_t w a = 9) : wp d m pc ls (v_I j :: v_R (some a) :: st) w Q = (in_r j (w_n w a) = true ∧ wp d m (pc + 1) ls (v_I (w_i w a j.toNatClampNeg) :: st) w Q) :=
  wq_and hd rfl (fun h => by simp only [s_1]; rw [if_pos ⟨ht, h⟩]) (fun h => by simp only [s_1]; rw [if_neg (fun z => h z.2)]) rfl rfl
theorem wq_la (hd : decode (m_c m) pc = .ok (.laload, 1)) (ht : w_t w a = 4) : wp d m pc ls (v_I j :: v_R (some a) :: st) w Q = (in_r j (w_n w a) = true ∧ wp d m (pc + 1) ls (v_L (w_l w a j.toNatClampNeg) :: st) w Q) :=
  wq_and hd rfl (fun h => by simp only [s_1]; rw [if_pos ⟨ht, h⟩]) (fun h => by simp only [s_1]; rw [if_neg (fun z => h z.2)]) rfl rfl
theorem wq_aa (hd : decode (m_c m) pc = .ok (.aaload, 1)) (ht : w_t w a = 5 ∨ w_t w a = 6) : wp d m pc ls (v_I j :: v_R (some a) :: st) w Q = (in_r j (w_n w a) = true ∧ wp d m (pc + 1) ls (v_R (w_r w a j.toNatClampNeg) :: st) w Q) :=
  wq_and hd rfl (fun h => by simp only [s_1]; rw [if_pos ⟨ht, h⟩]) (fun h => by simp only [s_1]; rw [if_neg (fun z => h z.2)]) rfl rfl
theorem wq_is (hd : decode (m_c m) pc = .ok (.iastore, 1)) (ht : w_t w a = 1) : wp d m pc ls (v_I x :: v_I j :: v_R (some a) :: st) w Q = (in_r j (w_n w a) = true ∧ wp d m (pc + 1) ls st (s_i w a j.toNatClampNeg x) Q) :=
  wq_and hd rfl (fun h => by simp only [s_1]; rw [if_pos ⟨ht, h⟩]) (fun h => by simp only [s_1]; rw [if_neg (fun z => h z.2)]) rfl rfl
theorem wq_ls (hd : decode (m_c m) pc = .ok (.lastore, 1)) (ht : w_t w a = 4) : wp d m pc ls (v_L u :: v_I j :: v_R (some a) :: st) w Q = (in_r j (w_n w a) = true ∧ wp d m (pc + 1) ls st (s_l w a j.toNatClampNeg u) Q) :=
  wq_and hd rfl (fun h => by simp only [s_1]; rw [if_pos ⟨ht, h⟩]) (fun h => by simp only [s_1]; rw [if_neg (fun z => h z.2)]) rfl rfl
theorem wq_dv (hd : decode (m_c m) pc = .ok (.idiv, 1)) (hy : y ≠ 0) : wp d m pc ls (v_I y :: v_I x :: st) w Q = wp d m (pc + 1) ls (v_I (x / y) :: st) w Q :=
  wp_s hd rfl (by simp only [s_1]; rw [if_neg hy])
theorem wq_rm (hd : decode (m_c m) pc = .ok (.irem, 1)) (hy : y ≠ 0) : wp d m pc ls (v_I y :: v_I x :: st) w Q = wp d m (pc + 1) ls (v_I (x - x / y * y) :: st) w Q :=
  wp_s hd rfl (by simp only [s_1]; rw [if_neg hy])

theorem wq_iconst {i : Int} (hd : decode (m_c m) pc = .ok (.iconst i, 1)) (h : Int32.ofInt i = x) : wp d m pc ls st w Q = wp d m (pc + 1) ls (v_I x :: st) w Q := by
  subst h; exact wp_s hd rfl rfl
theorem wq_bipush {i : Int} (hd : decode (m_c m) pc = .ok (.bipush i, 2)) (h : (Int8.ofInt i).toInt32 = x) : wp d m pc ls st w Q = wp d m (pc + 2) ls (v_I x :: st) w Q := by
  subst h; exact wp_s hd rfl rfl
theorem wq_sipush {i : Int} (hd : decode (m_c m) pc = .ok (.sipush i, 3)) (h : (Int16.ofInt i).toInt32 = x) : wp d m pc ls st w Q = wp d m (pc + 3) ls (v_I x :: st) w Q := by
  subst h; exact wp_s hd rfl rfl
theorem wq_inc {i : Int} {ls1 : L_} (hd : decode (m_c m) pc = .ok (.iinc k i, 3)) (h : Int32.ofInt i = y) (h1 : ls[k]? = some (some (v_I x))) (h2 : l_set ls k (v_I (x + y)) = ls1) : wp d m pc ls st w Q = wp d m (pc + 3) ls1 st w Q := by
  subst h; subst h2; exact wp_s hd rfl (by simp only [s_1, h1])
theorem wq_ae (hd : decode (m_c m) pc = .ok (.if_acmp .eq off, 3)) (hj : j_k pc off = true) (hq : q_q o o2 = true) : wp d m pc ls (v_R o2 :: v_R o :: st) w Q = if o = o2 then wp d m (j_t pc off) ls st w Q else wp d m (pc + 3) ls st w Q := by
  by_cases h : o = o2
  · rw [if_pos h]
    exact wp_s hd rfl (by simp only [s_1]; rw [if_pos hq]; simp only [g_o, hj, h, decide_true, if_true])
  · rw [if_neg h]
    exact wp_s hd rfl (by simp only [s_1]; rw [if_pos hq]; simp only [g_o, hj, h, decide_false, if_true]; rfl)
theorem wq_an (hd : decode (m_c m) pc = .ok (.if_acmp .ne off, 3)) (hj : j_k pc off = true) (hq : q_q o o2 = true) : wp d m pc ls (v_R o2 :: v_R o :: st) w Q = if ¬ o = o2 then wp d m (j_t pc off) ls st w Q else wp d m (pc + 3) ls st w Q := by
  by_cases h : o = o2
  · rw [if_neg (fun z => z h)]
    exact wp_s hd rfl (by simp only [s_1]; rw [if_pos hq]; simp only [g_o, hj, h, not_true, decide_false, if_true]; rfl)
  · rw [if_pos h]
    exact wp_s hd rfl (by simp only [s_1]; rw [if_pos hq]; simp only [g_o, hj, h, not_false_eq_true, decide_true, if_true])
theorem wq_nu (hd : decode (m_c m) pc = .ok (.ifnull off, 3)) (hj : j_k pc off = true) (hq : q_k o = true) : wp d m pc ls (v_R o :: st) w Q = if o = none then wp d m (j_t pc off) ls st w Q else wp d m (pc + 3) ls st w Q := by
  cases o with
  | none => exact wp_s hd rfl (by simp only [s_1]; rw [if_pos hq]; simp only [g_o, hj, if_true]; rfl)
  | some b => exact wp_s hd rfl (by simp only [s_1]; rw [if_pos hq]; simp only [g_o, hj, if_true]; rfl)
theorem wq_nn (hd : decode (m_c m) pc = .ok (.ifnonnull off, 3)) (hj : j_k pc off = true) (hq : q_k o = true) : wp d m pc ls (v_R o :: st) w Q = if ¬ o = none then wp d m (j_t pc off) ls st w Q else wp d m (pc + 3) ls st w Q := by
  cases o with
  | none => exact wp_s hd rfl (by simp only [s_1]; rw [if_pos hq]; simp only [g_o, hj, if_true]; rfl)
  | some b => exact wp_s hd rfl (by simp only [s_1]; rw [if_pos hq]; simp only [g_o, hj, if_true]; rfl)
theorem wq_ts {offs : Array Int} (hd : decode (m_c m) pc = .ok (.tableswitch dflt lo hi offs, len)) (h : t_s dflt lo hi offs x = some off) (hj : j_k pc off = true) (ht : j_t pc off = n9) : wp d m pc ls (v_I x :: st) w Q = wp d m n9 ls st w Q := by
  subst ht
  exact wp_s hd rfl (by simp only [s_1, h, g_o, hj, if_true])
theorem wq_td {offs : Array Int} (hd : decode (m_c m) pc = .ok (.tableswitch dflt lo hi offs, len)) (h : x.toInt < lo ∨ hi < x.toInt) (hj : j_k pc dflt = true) (ht : j_t pc dflt = n9) : wp d m pc ls (v_I x :: st) w Q = wp d m n9 ls st w Q := by
  subst ht
  exact wp_s hd rfl (by simp only [s_1]; rw [show t_s dflt lo hi offs x = some dflt by unfold t_s; rw [if_pos h]]; simp only [g_o, hj, if_true])
theorem wq_ir (hd : decode (m_c m) pc = .ok (.ireturn, 1)) (hk : m_k m = 0) : wp d m pc ls [v_I x] w Q = Q (Sum.inl (some (v_I x))) w :=
  wp_r hd rfl rfl rfl (by simp only [s_e]; rw [if_pos hk])
theorem wq_iz (hd : decode (m_c m) pc = .ok (.ireturn, 1)) (hk : m_k m = k) (h0 : k ≠ 0) (h3 : k = 3 ∨ k = 4 ∨ k = 5) (hx : k_o k x = true) : wp d m pc ls [v_I x] w Q = Q (Sum.inl (some (v_I x))) w :=
  wp_r hd rfl rfl rfl (by subst hk; simp only [s_e]; rw [if_neg h0, if_pos ⟨h3, hx⟩])
theorem wq_lr (hd : decode (m_c m) pc = .ok (.lreturn, 1)) (hk : m_k m = 1) : wp d m pc ls [v_L u] w Q = Q (Sum.inl (some (v_L u))) w :=
  wp_r hd rfl rfl rfl (by simp only [s_e]; rw [if_pos hk])
theorem wq_ar (hd : decode (m_c m) pc = .ok (.areturn, 1)) (hk : m_k m = 2) : wp d m pc ls [v_R o] w Q = Q (Sum.inl (some (v_R o))) w :=
  wp_r hd rfl rfl rfl (by simp only [s_e]; rw [if_pos hk])
theorem wq_vr (hd : decode (m_c m) pc = .ok (.return_, 1)) (hk : m_k m = 6) : wp d m pc ls [] w Q = Q (Sum.inl none) w :=
  wp_r hd rfl rfl rfl (by simp only [s_e]; rw [if_pos hk])
theorem wq_th {q : Nat} (hd : decode (m_c m) pc = .ok (.athrow, 1)) (hm : m_h m = none) (h : 39 ≤ w_t w q ∧ w_t w q ≤ 41) : wp d m pc ls [v_R (some q)] w Q = Q (Sum.inr q) w :=
  wp_t hd rfl rfl rfl (by simp only [s_e]; rw [if_pos h]) (by unfold h_m; rw [hm])
theorem wq_b2 (hd : decode (m_c m) pc = .ok (.bastore, 1)) (ht : w_t w a = 2) : wp d m pc ls (v_I x :: v_I j :: v_R (some a) :: st) w Q = (in_r j (w_n w a) = true ∧ wp d m (pc + 1) ls st (s_i w a j.toNatClampNeg (vp_nar .byte x)) Q) :=
  wq_and hd rfl (fun h => by simp only [s_1]; rw [if_pos ⟨ht, h⟩]) (fun h => by simp only [s_1]; rw [if_neg (fun z => h z.2), if_neg (fun z => h z.2)]) rfl rfl
theorem wq_b3 (hd : decode (m_c m) pc = .ok (.bastore, 1)) (ht : w_t w a = 3) : wp d m pc ls (v_I x :: v_I j :: v_R (some a) :: st) w Q = (in_r j (w_n w a) = true ∧ wp d m (pc + 1) ls st (s_i w a j.toNatClampNeg (vp_nar .boolean x)) Q) :=
  wq_and hd rfl (fun h => by simp only [s_1]; rw [if_neg (fun z => by have := z.1; omega), if_pos ⟨ht, h⟩]) (fun h => by simp only [s_1]; rw [if_neg (fun z => h z.2), if_neg (fun z => h z.2)]) rfl rfl
theorem wq_s0 (hd : decode (m_c m) pc = .ok (.aastore, 1)) (ht : w_t w a = 5) : wp d m pc ls (v_R none :: v_I j :: v_R (some a) :: st) w Q = (in_r j (w_n w a) = true ∧ wp d m (pc + 1) ls st (s_r w a j.toNatClampNeg none) Q) :=
  wq_and hd rfl (fun h => by simp only [s_1]; rw [if_pos ⟨ht, h⟩]) (fun h => by simp only [s_1]; rw [if_neg (fun z => h z.2)]) rfl rfl
theorem wq_as (hd : decode (m_c m) pc = .ok (.aastore, 1)) (ht : (w_t w a = 5 ∧ 20 ≤ w_t w b) ∨ (w_t w a = 6 ∧ w_t w b = 18)) : wp d m pc ls (v_R (some b) :: v_I j :: v_R (some a) :: st) w Q = (in_r j (w_n w a) = true ∧ wp d m (pc + 1) ls st (s_r w a j.toNatClampNeg (some b)) Q) :=
  wq_and hd rfl (fun h => by simp only [s_1]; rw [if_pos ⟨ht, h⟩]) (fun h => by simp only [s_1]; rw [if_neg (fun z => h z.2)]) rfl rfl
theorem wq_gs (hd : decode (m_c m) pc = .ok (.getstatic idx, 3)) (h : lk_2 g_T (o_m m) idx = some v) : wp d m pc ls st w Q = wp d m (pc + 3) ls (v :: st) w Q :=
  wp_s hd rfl (by simp only [s_1, h])
theorem wq_ldc (hd : decode (m_c m) pc = .ok (.ldc idx, 2)) (h : lk_2 l_T (o_m m) idx = some v) (hv : v_c v = 1) : wp d m pc ls st w Q = wp d m (pc + 2) ls (v :: st) w Q :=
  wp_s hd rfl (by simp only [s_1, h]; rw [if_pos hv])
theorem wq_ldcw (hd : decode (m_c m) pc = .ok (.ldc_w idx, 3)) (h : lk_2 l_T (o_m m) idx = some v) (hv : v_c v = 1) (h2 : v ≠ v_R (some 230)) : wp d m pc ls st w Q = wp d m (pc + 3) ls (v :: st) w Q :=
  wp_s hd rfl (by simp only [s_1, h]; rw [if_pos ⟨hv, h2⟩])
theorem wq_ldc2w (hd : decode (m_c m) pc = .ok (.ldc2_w idx, 3)) (h : lk_2 l_T (o_m m) idx = some v) (hv : v_c v = 2) : wp d m pc ls st w Q = wp d m (pc + 3) ls (v :: st) w Q :=
  wp_s hd rfl (by simp only [s_1, h]; rw [if_pos hv])
theorem wq_fn {o9 : Option Vl} (hd : decode (m_c 273) 4 = .ok (.new idx, 3)) (h : w_t w a = 26) : wp d 273 4 [some (v_R (some a)), o9, some (v_I x)] [] w Q = wp d 273 16 [some (v_R (some a)), o9, some (v_I x)] [v_R (some (w_z w))] (s_i (s_i (s_n w 41 8) (w_z w) 0 x) (w_z w) 1 (w_i w a 3)) Q :=
  wp_s hd rfl (by simp only [s_1, and_self, if_true]; simp only [f_n, List.getElem?_cons_zero, List.getElem?_cons_succ]; rw [if_pos h])
theorem wq_nx (hd : decode (m_c m) pc = .ok (.new idx, 3)) (h9 : ¬ (m = 273 ∧ pc = 4)) (hx : lk_2 x_T m pc = some t) (hp : n9 = pc + 7) : wp d m pc ls [] w Q = wp d m n9 ls [v_R (some (w_z w))] (s_n w t 6) Q := by
  subst hp
  exact wp_s hd rfl (by simp only [s_1]; rw [if_neg h9]; simp only [hx, s8_0, if_true])
theorem wq_nw (hd : decode (m_c m) pc = .ok (.new idx, 3)) (h9 : ¬ (m = 273 ∧ pc = 4)) (hx : lk_2 x_T m pc = none) (h : lk_2 n_T (o_m m) idx = some (t, n)) : wp d m pc ls st w Q = wp d m (pc + 3) ls (v_R (some (w_z w)) :: st) (s_n w t n) Q :=
  wp_s hd rfl (by simp only [s_1]; rw [if_neg h9]; simp only [hx, h])
theorem wq_na {ty : ArrayType} (hd : decode (m_c m) pc = .ok (.newarray ty, 2)) (h1 : a_t ty = t) (h2 : 1 ≤ t) : wp d m pc ls (v_I x :: st) w Q = ((¬ x < Int32.ofNat 0 ∧ x.toNatClampNeg ≤ 100000) ∧ wp d m (pc + 2) ls (v_R (some (w_z w)) :: st) (s_n w t x.toNatClampNeg) Q) := by
  subst h1
  exact wq_and hd rfl (fun h => by simp only [s_1]; exact if_pos ⟨h.1, h.2, h2⟩) (fun h => by simp only [s_1]; exact if_neg (fun z => h ⟨z.1, z.2.1⟩)) rfl rfl
theorem wq_aw (hd : decode (m_c m) pc = .ok (.anewarray idx, 3)) (h1 : lk_2 a_T (o_m m) idx = some t) : wp d m pc ls (v_I x :: st) w Q = ((¬ x < Int32.ofNat 0 ∧ x.toNatClampNeg ≤ 100000) ∧ wp d m (pc + 3) ls (v_R (some (w_z w)) :: st) (s_n w t x.toNatClampNeg) Q) :=
  wq_and hd rfl (fun h => by simp only [s_1, h1]; exact if_pos h) (fun h => by simp only [s_1, h1]; exact if_neg h) rfl rfl
theorem wq_cc {e9 : Unit} (hd : decode (m_c m) pc = .ok (.checkcast idx, 3)) (hk : lk_3 c_T (o_m m) idx g = some e9) (h : w_t w a = g) : wp d m pc ls (v_R (some a) :: st) w Q = wp d m (pc + 3) ls (v_R (some a) :: st) w Q :=
  wp_s hd rfl (by subst h; simp only [s_1, hk])
theorem wq_io {e9 : Unit} (hd : decode (m_c m) pc = .ok (.instanceof idx, 3)) (hk : lk_3 c_T (o_m m) idx g = some e9) (h8 : 8 ≤ g) (h : w_t w a = g) : wp d m pc ls (v_R (some a) :: st) w Q = wp d m (pc + 3) ls (v_I (Int32.ofNat 1) :: st) w Q :=
  wp_s hd rfl (by subst h; simp only [s_1, hk]; rw [if_pos h8]; rfl)
theorem wq_n6 (hd : decode (m_c m) pc = .ok (.invokestatic idx, 3)) (hk : lk_2 b_T (o_m m) idx = some 6) (h8 : s_8 st = true) : wp d m pc ls (v_I y :: v_I x :: st) w Q = wp d m (pc + 3) ls (v_I (if x < y then y else x) :: st) w Q :=
  wp_s hd rfl (by simp only [s_1, hk]; exact if_pos h8)
theorem wq_n7 (hd : decode (m_c m) pc = .ok (.invokestatic idx, 3)) (hk : lk_2 b_T (o_m m) idx = some 7) (h8 : s_8 st = true) : wp d m pc ls (v_I y :: v_I x :: st) w Q = wp d m (pc + 3) ls (v_I (if y < x then y else x) :: st) w Q :=
  wp_s hd rfl (by simp only [s_1, hk]; exact if_pos h8)
theorem wq_n8 (hd : decode (m_c m) pc = .ok (.invokestatic idx, 3)) (hk : lk_2 b_T (o_m m) idx = some 8) (h8 : s_8 st = true) : wp d m pc ls (v_I x :: st) w Q = wp d m (pc + 3) ls (v_I (if Int32.ofNat 0 ≤ x then x else Int32.ofNat 0 - x) :: st) w Q :=
  wp_s hd rfl (by simp only [s_1, hk]; exact if_pos h8)
theorem wq_n2 (hd : decode (m_c m) pc = .ok (.invokespecial idx, 3)) (hk : lk_2 b_T (o_m m) idx = some 2) (h8 : s_8 st = true) (h : 20 ≤ w_t w a) : wp d m pc ls (v_R (some a) :: st) w Q = wp d m (pc + 3) ls st w Q :=
  wp_s hd rfl (by simp only [s_1, hk, if_true]; simp only [nt_, na_2]; rw [if_pos h]; exact if_pos h8)
theorem wq_n3 (hd : decode (m_c m) pc = .ok (.invokevirtual idx, 3)) (hk : lk_2 b_T (o_m m) idx = some 3) (h8 : s_8 st = true) (h : w_t w a = 5) : wp d m pc ls (v_R (some a) :: st) w Q = wp d m (pc + 3) ls (v_R (some 230) :: st) w Q :=
  wp_s hd rfl (by simp only [s_1, hk]; rw [if_pos (Or.inl trivial)]; simp only [nt_, na_3]; rw [if_pos h]; exact if_pos h8)
theorem wq_n4 (hd : decode (m_c m) pc = .ok (.invokevirtual idx, 3)) (hk : lk_2 b_T (o_m m) idx = some 4) (h8 : s_8 st = true) (h : w_t w a = 2) : wp d m pc ls (v_R (some a) :: st) w Q = wp d m (pc + 3) ls (v_R (some (w_z w)) :: st) (s_I (s_n w 2 (w_n w a)) (w_z w) (w_i w a)) Q :=
  wp_s hd rfl (by simp only [s_1, hk]; rw [if_pos (Or.inr (Or.inl trivial))]; simp only [nt_, na_4]; rw [if_pos h]; exact if_pos h8)
theorem wq_n9 (hd : decode (m_c m) pc = .ok (.invokevirtual idx, 3)) (hk : lk_2 b_T (o_m m) idx = some 9) (h8 : s_8 st = true) (h : w_t w a = 15) : wp d m pc ls (v_R (some a) :: st) w Q = wp d m (pc + 3) ls (v_R (some (w_z w)) :: st) (s_R (s_n w 7 (w_n w a)) (w_z w) (w_r w a)) Q :=
  wp_s hd rfl (by simp only [s_1, hk]; rw [if_pos (Or.inr (Or.inr trivial))]; simp only [nt_, na_9]; rw [if_pos h]; exact if_pos h8)
theorem wq_c1 (hd : decode (m_c m) pc = .ok (.invokestatic idx, 3)) (hk : lk_2 b_T (o_m m) idx = some 1) (h8 : s_8 st = true) (h1 : w_t w a = 1) (h2 : w_t w b = 1) : wp d m pc ls (v_I z :: v_I y :: v_R (some b) :: v_I x :: v_R (some a) :: st) w Q = (cp_k w a b x y z ∧ wp d m (pc + 3) ls st (s_I w b (va_cpy (w_i w a) (w_i w b) x.toNatClampNeg y.toNatClampNeg z.toNatClampNeg)) Q) :=
  wq_and hd rfl (fun h => by simp only [s_1, hk]; rw [if_pos (Or.inl trivial)]; simp only [nt_, na_1, cp_]; unfold cp_k at h; rw [if_pos h, if_pos (Or.inl ⟨h1, h2⟩)]; exact if_pos h8) (fun h => by simp only [s_1, hk]; rw [if_pos (Or.inl trivial)]; simp only [nt_, na_1, cp_]; unfold cp_k at h; rw [if_neg h]; rfl) (by simp only [s_c, (cb_s hk)]) rfl
theorem wq_c2 (hd : decode (m_c m) pc = .ok (.invokestatic idx, 3)) (hk : lk_2 b_T (o_m m) idx = some 1) (h8 : s_8 st = true) (h1 : w_t w a = 2) (h2 : w_t w b = 2) : wp d m pc ls (v_I z :: v_I y :: v_R (some b) :: v_I x :: v_R (some a) :: st) w Q = (cp_k w a b x y z ∧ wp d m (pc + 3) ls st (s_I w b (va_cpy (w_i w a) (w_i w b) x.toNatClampNeg y.toNatClampNeg z.toNatClampNeg)) Q) :=
  wq_and hd rfl (fun h => by simp only [s_1, hk]; rw [if_pos (Or.inl trivial)]; simp only [nt_, na_1, cp_]; unfold cp_k at h; rw [if_pos h, if_pos (Or.inr ⟨h1, h2⟩)]; exact if_pos h8) (fun h => by simp only [s_1, hk]; rw [if_pos (Or.inl trivial)]; simp only [nt_, na_1, cp_]; unfold cp_k at h; rw [if_neg h]; rfl) (by simp only [s_c, (cb_s hk)]) rfl
theorem wq_c5 (hd : decode (m_c m) pc = .ok (.invokestatic idx, 3)) (hk : lk_2 b_T (o_m m) idx = some 1) (h8 : s_8 st = true) (h1 : w_t w a = 5) (h2 : w_t w b = 5) : wp d m pc ls (v_I z :: v_I y :: v_R (some b) :: v_I x :: v_R (some a) :: st) w Q = ((cp_k w a b x y z ∧ (List.range z.toNatClampNeg).all (fun i => r_k w (w_r w a (x.toNatClampNeg + i))) = true) ∧ wp d m (pc + 3) ls st (s_R w b (va_cpy (w_r w a) (w_r w b) x.toNatClampNeg y.toNatClampNeg z.toNatClampNeg)) Q) :=
  wq_and hd rfl (fun h => by simp only [s_1, hk]; rw [if_pos (Or.inl trivial)]; simp only [nt_, na_1, cp_]; unfold cp_k at h; rw [if_pos h.1, if_neg (by omega), if_pos ⟨h1, h2, h.2⟩]; exact if_pos h8) (fun h => by
    simp only [s_1, hk]; rw [if_pos (Or.inl trivial)]; simp only [nt_, na_1, cp_]
    by_cases h3 : cp_k w a b x y z
    · have h4 := h3
      unfold cp_k at h4
      rw [if_pos h4, if_neg (by omega), if_neg (fun e => h ⟨h3, e.2.2⟩)]; rfl
    · unfold cp_k at h3
      rw [if_neg h3]; rfl) (by simp only [s_c, (cb_s hk)]) rfl
theorem wq_cs (hd : decode (m_c m) pc = .ok (.invokestatic idx, 3)) (hk : lk_2 b_T (o_m m) idx = none ∧ lk_2 s_T (o_m m) idx = some t) (hn : m_n t = n) (h8 : s_8 r = true) (e1 : ((st.take n).reverse, st.drop n) = (as, r)) (e2 : Nat.ble n st.length = true) : wp (d + 1) m pc ls st w Q = cl d t as w (bk (d + 1) m pc ls r Q) := by
  subst hn
  obtain ⟨e3, e4⟩ := Prod.mk.inj e1
  subst e3; subst e4
  exact wp_c hd rfl (by simp only [s_1, hk.1]) (by simp only [s_c, hk.2]; exact if_pos ⟨Nat.le_of_ble_eq_true e2, h8⟩)
theorem wq_cp (hd : decode (m_c m) pc = .ok (.invokespecial idx, 3)) (hk : lk_2 b_T (o_m m) idx = none ∧ lk_2 p_T (o_m m) idx = some t) (hn : m_n t = n) (h8 : s_8 r = true) (e1 : st.drop n = v_R (some a) :: r) (e2 : v_R (some a) :: (st.take n).reverse = as) (h : 20 ≤ w_t w a) : wp (d + 1) m pc ls st w Q = cl d t as w (bk (d + 1) m pc ls r Q) := by
  subst hn; subst e2
  exact wp_c hd rfl (by simp only [s_1, hk.1]) (by simp only [s_c, hk.2, e1]; exact if_pos ⟨h, h8⟩)
theorem wq_cv (hd : decode (m_c m) pc = .ok (.invokevirtual idx, 3)) (hk : lk_2 b_T (o_m m) idx = none ∧ lk_2 v_N (o_m m) idx = some n) (hv : lk_3 v_T (o_m m) idx g = some t) (hn : m_n t = n) (h8 : s_8 r = true) (e1 : st.drop n = v_R (some a) :: r) (e2 : v_R (some a) :: (st.take n).reverse = as) (h : w_t w a = g) : wp (d + 1) m pc ls st w Q = cl d t as w (bk (d + 1) m pc ls r Q) := by
  subst e2; subst h
  exact wp_c hd rfl (by simp only [s_1, hk.1]) (by simp only [s_c, hk.2, e1, hv]; exact if_pos ⟨h8, hn⟩)
end
