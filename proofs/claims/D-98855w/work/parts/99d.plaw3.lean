/-! THE PARSER's plain laws: lines, towns, what the new state keeps -/
set_option maxRecDepth 100000
theorem ln_g {t : Tp} {s s1 : Ln_} {b b' : Nat} (hT : TG_ t s.1) (hb : tk_k t b ≠ 0) (h : ln_ t s b = Sum.inr (s1, b')) : TG_ t s1.1 ∧ b < b' ∧ b' ≤ t.2 := by
  have g0 := tk_gt hb
  obtain ⟨t1, t2, t3, t4, t5, t6, t7, t8⟩ := hT
  unfold ln_ at h
  by_cases w1 : is_w t b [108, 105, 109, 105, 116] = true
  · rw [if_pos w1] at h
    by_cases z : s.2.1 = true
    · rw [if_pos z] at h; cases h
    · rw [if_neg z] at h
      cases hn : nm_ t 0 40 (tk_n t b) with
      | inl e => rw [hn] at h; cases h
      | inr r =>
        rw [hn] at h
        obtain ⟨v, b1⟩ := r
        obtain ⟨-, -, -, -, -, n6, n7, n8⟩ := nm_g hn
        have e := Sum.inr.inj h
        have e1 := congrArg Prod.fst e
        have e2 : b1 = b' := congrArg Prod.snd e
        simp only at e1
        subst e1 e2
        exact ⟨⟨t1, t2, ⟨v, n6, rfl⟩, t4, t5, t6, t7, t8⟩, by omega, n8⟩
  · rw [if_neg w1] at h
    by_cases w2 : is_w t b [102, 111, 111, 100] = true
    · rw [if_pos w2] at h
      by_cases z : s.2.2.1 = true
      · rw [if_pos z] at h; cases h
      · rw [if_neg z] at h
        cases hn : nm_ t 0 999 (tk_n t b) with
        | inl e => rw [hn] at h; cases h
        | inr r =>
          rw [hn] at h
          obtain ⟨v, b1⟩ := r
          obtain ⟨-, -, -, -, -, n6, n7, n8⟩ := nm_g hn
          have e := Sum.inr.inj h
          have e1 := congrArg Prod.fst e
          have e2 : b1 = b' := congrArg Prod.snd e
          simp only at e1
          subst e1 e2
          refine ⟨⟨t1, t2, t3, t4, t5, t6, ?_, t8⟩, by omega, n8⟩
          show Int32.ofNat 0 ≤ Int32.ofNat v
          rw [oo_le (by omega) (by omega)]; omega
    · rw [if_neg w2] at h
      by_cases w3 : is_w t b [116, 97, 107, 101, 115] = true
      · rw [if_pos w3] at h
        by_cases z : s.2.2.2 = true
        · rw [if_pos z] at h; cases h
        · rw [if_neg z] at h
          cases hn : ex_p t 6 (tk_n t b) with
          | inl e => rw [hn] at h; cases h
          | inr r =>
            rw [hn] at h
            obtain ⟨c, b1⟩ := r
            obtain ⟨n5, n6, n7, n8⟩ := ex_g 6 _ _ _ hn
            have e := Sum.inr.inj h
            have e1 := congrArg Prod.fst e
            have e2 : b1 = b' := congrArg Prod.snd e
            simp only at e1
            subst e1 e2
            refine ⟨⟨t1, t2, t3, t4, ?_, t6, t7, Or.inr n5⟩, by omega, n7⟩
            show c.length ≤ t.2
            omega
      · rw [if_neg w3] at h
        cases hk : ks_ t b with
        | none => rw [hk] at h; cases h
        | some k =>
          rw [hk] at h
          simp only at h
          by_cases hn : tm_n s.1 < 10
          · rw [if_pos hn] at h
            cases hx : tb_ t s.1 k b with
            | inl e => rw [hx] at h; cases h
            | inr r =>
              rw [hx] at h
              obtain ⟨T1, b1⟩ := r
              have g := tb_g ⟨t1, t2, t3, t4, t5, t6, t7, t8⟩ (ks_lt hk).1 hn hx hb
              have e := Sum.inr.inj h
              have e1 := congrArg Prod.fst e
              have e2 : b1 = b' := congrArg Prod.snd e
              simp only at e1
              subst e1 e2
              exact g
          · rw [if_neg hn] at h; cases h
theorem lns_g {t : Tp} : ∀ f (s : Ln_) b T, TG_ t s.1 → lns_ t f s b = Sum.inr T → TG_ t T := by
  intro f
  induction f with
  | zero => intro s b T hT h; cases Sum.inr.inj h; exact hT
  | succ f ih =>
    intro s b T hT h
    unfold lns_ at h
    by_cases h0 : tk_k t b = 0
    · rw [if_pos h0] at h; cases Sum.inr.inj h; exact hT
    · rw [if_neg h0] at h
      cases hx : ln_ t s b with
      | inl e => rw [hx] at h; cases h
      | inr r =>
        rw [hx] at h
        obtain ⟨s1, b1⟩ := r
        have g := ln_g hT h0 hx
        cases hn : nd_ t 59 b1 with
        | inl e => simp only [hn] at h; cases h
        | inr b2 =>
          simp only [hn] at h
          exact ih s1 b2 T g.1 h
theorem town_g {t : Tp} {T : Tm} (h : town_ t = Sum.inr T) : TG_ t T := lns_g _ _ _ _ TG_0 h
/-- a town's first state -/
def X0_ (T : Tm) : Xm := (tm_n T, fun k => k, fun _ => Int32.ofNat 0, fun _ => Int32.ofNat 0, tm_ln T, Int32.ofNat 0, Int32.ofInt (-1))
def B0_ (B : Bm) (T : Tm) : Bm := (X0_ T, 0, bm_h B, 0, bm_l B, bm_t B, bm_r B)
/-- a town read -/
def s_twn (S : Sm) (T : Tm) : Sm := (T, B0_ (sm_B S) T, none, sm_tp S, 0, Int32.ofInt (-1))
/-- a town refused, k the place -/
def s_flt (S : Sm) (k : Nat) : Sm := (sm_T S, b_ref (sm_B S) 0, sm_I S, sm_tp S, 0, Int32.ofNat k)
theorem WS_twn {S : Sm} {T : Tm} {n : Nat} (hV : WS_ S) (hn : n ≤ 600) (h : TG_ (sm_tp S, n) T) : WS_ (s_twn S T) := by
  obtain ⟨t1, t2, t3, t4, t5, t6, t7, t8⟩ := h
  have i0 : in_9 (Int32.ofNat 0) := (in9_n (Nat.zero_le _)).1
  exact ⟨⟨t1, t2⟩, t3, t4, ⟨⟨Nat.le_refl _, fun k hk => hk, fun i j _ _ e => e⟩, ⟨fun _ _ => i0, t4⟩, Nat.zero_le _, fun k hk => absurd hk (Nat.not_lt_zero _), fun k hk => absurd hk (Nat.not_lt_zero _), Nat.zero_le _, fun k hk => absurd hk (Nat.not_lt_zero _)⟩, fun B e => (by cases e), Nat.zero_le _, hV.2.2.2.2.2.2⟩
theorem WE_twn {S : Sm} {T : Tm} {n : Nat} (hn : n ≤ 600) (h : TG_ (sm_tp S, n) T) : WE_ (sm_T (s_twn S T)) := by
  obtain ⟨t1, t2, t3, t4, t5, t6, t7, t8⟩ := h
  refine ⟨Nat.le_trans t5 hn, t6, t7, ?_⟩
  rcases t8 with z | z
  · exact Or.inl z
  · exact Or.inr fun A => z A [] (by show 0 + 31 ≤ 64; omega)
theorem WS_flt {S : Sm} {k : Nat} (hV : WS_ S) : WS_ (s_flt S k) := ⟨hV.1, hV.2.1, hV.2.2.1, hV.2.2.2.1, hV.2.2.2.2.1, Nat.zero_le _, hV.2.2.2.2.2.2⟩
