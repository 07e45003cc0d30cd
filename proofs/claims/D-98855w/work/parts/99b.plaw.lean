/-! THE PARSER's plain laws: what is laid runs on the stack, is no longer than what was read -/
set_option maxRecDepth 100000
def Gk_ (K : Nat) (c : List Int32) : Prop := ∀ A st, st.length + K ≤ 64 → ∃ v, ev_ A c st = some (v :: st)
theorem ev_ap {A : Nat → Int32} : ∀ (c1 c2 : List Int32) (st : List Int32), ev_ A (c1 ++ c2) st = (ev_ A c1 st).bind (ev_ A c2) := by
  intro c1
  induction c1 with
  | nil => intro c2 st; rfl
  | cons a c ih =>
    intro c2 st
    show (ev1_ A a st).bind (ev_ A (c ++ c2)) = ((ev1_ A a st).bind (ev_ A c)).bind (ev_ A c2)
    cases ev1_ A a st with
    | none => rfl
    | some s => exact ih c2 s
theorem gc_mo {K K2 : Nat} {c : List Int32} (h : Gk_ K c) (hk : K ≤ K2) : Gk_ K2 c := fun A st hs => h A st (by omega)
theorem gc_num {v : Nat} (hv : v ≤ 9999) : Gk_ 1 [Int32.ofNat v] := fun A st hs => by
  refine ⟨Int32.ofNat v, ?_⟩
  have h20 : Int32.ofInt (-20) < Int32.ofNat v := by
    rw [Int32.lt_iff_toInt_lt, oo_in (by omega), show (Int32.ofInt (-20)).toInt = -20 by decide]; omega
  have h0 : ¬ Int32.ofNat v < Int32.ofNat 0 := by rw [oo_lt (by omega) (by omega)]; omega
  show (ev1_ A (Int32.ofNat v) st).bind (ev_ A []) = _
  unfold ev1_ pv_
  rw [if_pos h20, if_neg h0, if_pos (by omega)]
  rfl
theorem gc_val {j : Nat} (hj : j < 6) : Gk_ 1 [Int32.ofInt (-1 - ((j : Nat) : Int))] := fun A st hs => by
  obtain ⟨h1, h2, h3, h4⟩ := jv_1 ⟨j, hj⟩
  have h1 : Int32.ofInt (-20) < Int32.ofInt (-1 - ((j : Nat) : Int)) := h1
  have h2 : Int32.ofInt (-1 - ((j : Nat) : Int)) < Int32.ofNat 0 := h2
  have h3 : in_r (Int32.ofInt (-1) - Int32.ofInt (-1 - ((j : Nat) : Int))) 6 = true := h3
  have h4 : (Int32.ofInt (-1) - Int32.ofInt (-1 - ((j : Nat) : Int))).toNatClampNeg = j := h4
  refine ⟨A j, ?_⟩
  show (ev1_ A (Int32.ofInt (-1 - ((j : Nat) : Int))) st).bind (ev_ A []) = _
  unfold ev1_ pv_
  rw [if_pos h1, if_pos h2, if_pos h3, h4, if_pos (by omega)]
  rfl
theorem gc_not {K : Nat} {c : List Int32} (h : Gk_ K c) : Gk_ K (c ++ [Int32.ofInt (-28)]) := fun A st hs => by
  obtain ⟨v, hv⟩ := h A st hs
  refine ⟨nt_v v, ?_⟩
  rw [ev_ap, hv]
  show (ev1_ A (Int32.ofInt (-28)) (v :: st)).bind (ev_ A []) = _
  unfold ev1_
  rw [if_neg (by decide), if_pos rfl]
  rfl
theorem gc_op {K o : Nat} {c1 c2 : List Int32} (ho : o < 8) (h1 : Gk_ (K + 1) c1) (h2 : Gk_ K c2) : Gk_ (K + 1) (c1 ++ (c2 ++ [sg_n o])) := fun A st hs => by
  obtain ⟨v, hv⟩ := h1 A st hs
  obtain ⟨u, hu⟩ := h2 A (v :: st) (by rw [List.length_cons]; omega)
  refine ⟨op_ o v u, ?_⟩
  rw [ev_ap, hv]
  show ev_ A (c2 ++ [sg_n o]) (v :: st) = _
  rw [ev_ap, hu]
  show (ev1_ A (sg_n o) (u :: v :: st)).bind (ev_ A []) = _
  unfold ev1_
  rw [if_neg (sg_20 ⟨o, ho⟩), if_neg (sg_28 ⟨o, ho⟩), sg_ff ⟨o, ho⟩]
  rfl
/-- what a reading from b gives -/
def RG_ (K : Nat) (t : Tp) (b : Nat) (r : Rs_) : Prop := ∀ c b', r = Sum.inr (c, b') → Gk_ K c ∧ b < b' ∧ b' ≤ t.2 ∧ c.length + b ≤ b'
theorem nm_g {t : Tp} {lo hi b v b' : Nat} (h : nm_ t lo hi b = Sum.inr (v, b')) : tk_k t b = 2 ∧ tk_e t b - b ≤ 4 ∧ v = tk_num t b ∧ b' = tk_n t b ∧ lo ≤ v ∧ v ≤ hi ∧ b < b' ∧ b' ≤ t.2 := by
  unfold nm_ at h
  by_cases h2 : tk_k t b = 2
  · rw [if_neg (fun z => z h2)] at h
    by_cases h3 : tk_e t b - b ≤ 4 ∧ lo ≤ tk_num t b ∧ tk_num t b ≤ hi
    · rw [if_pos h3] at h
      have e := Sum.inr.inj h
      have e1 : tk_num t b = v := congrArg Prod.fst e
      have e2 : tk_n t b = b' := congrArg Prod.snd e
      have := tk_gt (t := t) (b := b) (by omega)
      exact ⟨h2, h3.1, e1.symm, e2.symm, by omega, by omega, by omega, by omega⟩
    · rw [if_neg h3] at h; cases h
  · rw [if_pos h2] at h; cases h
theorem is_s_k {t : Tp} {b x : Nat} (h : is_s t b x = true) : tk_k t b = 3 ∧ t.1 b = x := by
  unfold is_s at h
  simpa using h
theorem is_w_k {t : Tp} {b : Nat} {s : List Nat} (h : is_w t b s = true) : tk_k t b = 1 := by
  unfold is_w at h
  simp only [Bool.and_eq_true, decide_eq_true_eq] at h
  exact h.1.1
theorem nd_g {t : Tp} {x b b' : Nat} (h : nd_ t x b = Sum.inr b') : is_s t b x = true ∧ b' = tk_n t b ∧ b < b' ∧ b' ≤ t.2 := by
  unfold nd_ at h
  by_cases hs : is_s t b x = true
  · rw [if_pos hs] at h
    have e := Sum.inr.inj h
    have := tk_gt (t := t) (b := b) (by have := (is_s_k hs).1; omega)
    exact ⟨hs, e.symm, by omega, by omega⟩
  · rw [if_neg hs] at h; cases h
theorem vw_lt {t : Tp} {b j : Nat} (h : vw_ t b = some j) : j < 6 := by
  unfold vw_ at h
  repeat' split at h
  all_goals first | (cases h; omega) | cases h
theorem pt_g {K : Nat} {t : Tp} {X : Nat → Rs_} (hX : ∀ b, RG_ K t b (X b)) (hK : 1 ≤ K) (b : Nat) : RG_ K t b (pt_ t X b) := by
  intro c b' h
  unfold pt_ at h
  by_cases h2 : tk_k t b = 2
  · rw [if_pos h2] at h
    cases hn : nm_ t 0 9999 b with
    | inl e => rw [hn] at h; cases h
    | inr r =>
      rw [hn] at h
      obtain ⟨v, b1⟩ := r
      have e := Sum.inr.inj h
      have e1 : [Int32.ofNat v] = c := congrArg Prod.fst e
      have e2 : b1 = b' := congrArg Prod.snd e
      obtain ⟨-, -, -, -, -, n6, n7, n8⟩ := nm_g hn
      subst e1 e2
      exact ⟨gc_mo (gc_num n6) hK, n7, n8, by rw [List.length_singleton]; omega⟩
  · rw [if_neg h2] at h
    by_cases h4 : is_s t b 40 = true
    · rw [if_pos h4] at h
      have g := tk_gt (t := t) (b := b) (by have := (is_s_k h4).1; omega)
      cases hx : X (tk_n t b) with
      | inl e => rw [hx] at h; cases h
      | inr r =>
        rw [hx] at h
        obtain ⟨c1, b1⟩ := r
        obtain ⟨g1, g2, g3, g4⟩ := hX _ _ _ hx
        cases hn : nd_ t 41 b1 with
        | inl e => simp only [hn] at h; cases h
        | inr b2 =>
          simp only [hn] at h
          have e := Sum.inr.inj h
          have e1 : c1 = c := congrArg Prod.fst e
          have e2 : b2 = b' := congrArg Prod.snd e
          obtain ⟨-, -, n3, n4⟩ := nd_g hn
          subst e1 e2
          exact ⟨g1, by omega, n4, by omega⟩
    · rw [if_neg h4] at h
      by_cases h1 : tk_k t b = 1
      · rw [if_pos h1] at h
        have g := tk_gt (t := t) (b := b) (by omega)
        cases hv : vw_ t b with
        | none => rw [hv] at h; cases h
        | some j =>
          rw [hv] at h
          have e := Sum.inr.inj h
          have e1 : [Int32.ofInt (-1 - ((j : Nat) : Int))] = c := congrArg Prod.fst e
          have e2 : tk_n t b = b' := congrArg Prod.snd e
          subst e1 e2
          exact ⟨gc_mo (gc_val (vw_lt hv)) hK, g.1, g.2, by rw [List.length_singleton]; omega⟩
      · rw [if_neg h1] at h; cases h
theorem ch_g {K : Nat} {t : Tp} {sub : Nat → Rs_} {op : Nat → Option Nat} (hs : ∀ b, RG_ K t b (sub b)) (ho : ∀ b o, op b = some o → o < 8 ∧ tk_k t b ≠ 0) (b0 : Nat) : ∀ f c b c' b', Gk_ (K + 1) c → b0 < b → b ≤ t.2 → c.length + b0 ≤ b → ch_ t sub op f c b = Sum.inr (c', b') → Gk_ (K + 1) c' ∧ b0 < b' ∧ b' ≤ t.2 ∧ c'.length + b0 ≤ b' := by
  intro f
  induction f with
  | zero =>
    intro c b c' b' h1 h2 h3 h4 h
    have e := Sum.inr.inj h
    have e1 : c = c' := congrArg Prod.fst e
    have e2 : b = b' := congrArg Prod.snd e
    subst e1 e2
    exact ⟨h1, h2, h3, h4⟩
  | succ f ih =>
    intro c b c' b' h1 h2 h3 h4 h
    unfold ch_ at h
    cases hop : op b with
    | none =>
      rw [hop] at h
      have e := Sum.inr.inj h
      have e1 : c = c' := congrArg Prod.fst e
      have e2 : b = b' := congrArg Prod.snd e
      subst e1 e2
      exact ⟨h1, h2, h3, h4⟩
    | some o =>
      rw [hop] at h
      obtain ⟨o1, o2⟩ := ho b o hop
      have g := tk_gt o2
      cases hx : sub (tk_n t b) with
      | inl e => simp only [hx] at h; cases h
      | inr r =>
        simp only [hx] at h
        obtain ⟨c1, b1⟩ := r
        obtain ⟨g1, g2, g3, g4⟩ := hs _ _ _ hx
        refine ih _ _ c' b' (gc_op o1 h1 g1) (by show b0 < b1; omega) g3 ?_ h
        simp only [List.length_append, List.length_singleton]
        omega
theorem lv_g {K : Nat} {t : Tp} {sub : Nat → Rs_} {op : Nat → Option Nat} (hs : ∀ b, RG_ K t b (sub b)) (ho : ∀ b o, op b = some o → o < 8 ∧ tk_k t b ≠ 0) (b : Nat) : RG_ (K + 1) t b (lv_c t sub op b) := by
  intro c b' h
  unfold lv_c at h
  cases hx : sub b with
  | inl e => rw [hx] at h; cases h
  | inr r =>
    rw [hx] at h
    obtain ⟨c1, b1⟩ := r
    obtain ⟨g1, g2, g3, g4⟩ := hs _ _ _ hx
    exact ch_g hs ho b _ c1 b1 c b' (gc_mo g1 (by omega)) g2 g3 g4 h
