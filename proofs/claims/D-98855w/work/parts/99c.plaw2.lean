/-! THE PARSER's plain laws: expressions, towns -/
set_option maxRecDepth 100000
theorem cm_g {K : Nat} {t : Tp} {S : Nat → Rs_} (hs : ∀ b, RG_ K t b (S b)) (b : Nat) : RG_ (K + 1) t b (cm_ t S b) := by
  intro c b' h
  unfold cm_ at h
  cases hx : S b with
  | inl e => rw [hx] at h; cases h
  | inr r =>
    rw [hx] at h
    obtain ⟨c1, b1⟩ := r
    obtain ⟨g1, g2, g3, g4⟩ := hs _ _ _ hx
    cases ho : op_c t b1 with
    | none =>
      simp only [ho] at h
      have e := Sum.inr.inj h
      have e1 : c1 = c := congrArg Prod.fst e
      have e2 : b1 = b' := congrArg Prod.snd e
      subst e1 e2
      exact ⟨gc_mo g1 (by omega), g2, g3, g4⟩
    | some o =>
      simp only [ho] at h
      have o8 : o < 8 ∧ tk_k t b1 = 3 := by
        unfold op_c at ho
        split at ho
        · rename_i z; cases ho; exact ⟨by omega, (is_s_k z).1⟩
        · split at ho
          · rename_i z; cases ho; exact ⟨by omega, (is_s_k z).1⟩
          · cases ho
      have g := tk_gt (t := t) (b := b1) (by omega)
      cases hy : S (tk_n t b1) with
      | inl e => simp only [hy] at h; cases h
      | inr r2 =>
        simp only [hy] at h
        obtain ⟨c2, b2⟩ := r2
        obtain ⟨k1, k2, k3, k4⟩ := hs _ _ _ hy
        have e := Sum.inr.inj h
        have e1 : c1 ++ (c2 ++ [sg_n o]) = c := congrArg Prod.fst e
        have e2 : b2 = b' := congrArg Prod.snd e
        subst e1 e2
        refine ⟨gc_op o8.1 (gc_mo g1 (by omega)) k1, by omega, k3, ?_⟩
        simp only [List.length_append, List.length_singleton]
        omega
theorem nots_g {K : Nat} {t : Tp} {C : Nat → Rs_} (hs : ∀ b, RG_ K t b (C b)) : ∀ k b, RG_ K t b (nots_ t C k b) := by
  intro k
  induction k with
  | zero =>
    intro b c b' h
    unfold nots_ at h
    split at h
    · cases h
    · exact hs b c b' h
  | succ k ih =>
    intro b c b' h
    unfold nots_ at h
    by_cases hn : is_w t b ws_not = true
    · rw [if_pos hn] at h
      have g := tk_gt (t := t) (b := b) (by have := is_w_k hn; omega)
      cases hx : nots_ t C k (tk_n t b) with
      | inl e => rw [hx] at h; cases h
      | inr r =>
        rw [hx] at h
        obtain ⟨c1, b1⟩ := r
        obtain ⟨g1, g2, g3, g4⟩ := ih _ _ _ hx
        have e := Sum.inr.inj h
        have e1 : c1 ++ [Int32.ofInt (-28)] = c := congrArg Prod.fst e
        have e2 : b1 = b' := congrArg Prod.snd e
        subst e1 e2
        refine ⟨gc_not g1, by omega, g3, ?_⟩
        simp only [List.length_append, List.length_singleton]
        omega
    · rw [if_neg hn] at h
      exact hs b c b' h
theorem op_mg {t : Tp} (b o : Nat) (h : op_m t b = some o) : o < 8 ∧ tk_k t b ≠ 0 := by
  unfold op_m at h
  split at h
  · rename_i z; cases h; have := (is_s_k z).1; exact ⟨by omega, by omega⟩
  · split at h
    · rename_i z; cases h; have := (is_s_k z).1; exact ⟨by omega, by omega⟩
    · cases h
theorem op_ag {t : Tp} (b o : Nat) (h : op_a t b = some o) : o < 8 ∧ tk_k t b ≠ 0 := by
  unfold op_a at h
  split at h
  · rename_i z; cases h; have := (is_s_k z).1; exact ⟨by omega, by omega⟩
  · split at h
    · rename_i z; cases h; have := (is_s_k z).1; exact ⟨by omega, by omega⟩
    · cases h
theorem op_ng {t : Tp} (b o : Nat) (h : op_n t b = some o) : o < 8 ∧ tk_k t b ≠ 0 := by
  unfold op_n at h
  split at h
  · rename_i z; cases h; have := is_w_k z; exact ⟨by omega, by omega⟩
  · cases h
theorem op_og {t : Tp} (b o : Nat) (h : op_o t b = some o) : o < 8 ∧ tk_k t b ≠ 0 := by
  unfold op_o at h
  split at h
  · rename_i z; cases h; have := is_w_k z; exact ⟨by omega, by omega⟩
  · cases h
theorem ex_g {t : Tp} : ∀ r b, RG_ (5 * r + 1) t b (ex_p t r b) := by
  intro r
  induction r with
  | zero =>
    intro b c b' h
    unfold ex_p at h
    split at h <;> cases h
  | succ r ih =>
    intro b
    have h1 := fun b => pt_g (K := 5 * r + 1) ih (by omega) b
    have h2 := fun b => lv_g h1 op_mg b
    have h3 := fun b => lv_g h2 op_ag b
    have h4 := fun b => cm_g h3 b
    have h5 := fun b => nots_g h4 6 b
    have h6 := fun b => lv_g h5 op_ng b
    have h7 := lv_g h6 op_og b
    unfold ex_p
    by_cases hs : st_x t b = true
    · rw [if_pos hs]; exact h7
    · rw [if_neg hs]; intro c b' h; cases h
/-- what a town that is read keeps -/
def TG_ (t : Tp) (T : Tm) : Prop := tm_n T ≤ 10 ∧ (∀ k, k < tm_n T → tm_kd T k < 4) ∧ (∃ l, l ≤ 40 ∧ tm_li T = Int32.ofNat l) ∧ (∀ k, k < tm_n T → in_9 (tm_ln T k)) ∧ (tm_co T).length ≤ t.2 ∧ (∀ k, k < tm_n T → Int32.ofNat 0 ≤ tm_hg T k) ∧ Int32.ofNat 0 ≤ tm_fo T ∧ (tm_co T = [] ∨ Gk_ 31 (tm_co T))
theorem TG_0 {t : Tp} : TG_ t T00_ := ⟨Nat.zero_le _, fun k h => absurd h (Nat.not_lt_zero _), ⟨9, by omega, rfl⟩, fun k h => absurd h (Nat.not_lt_zero _), Nat.zero_le _, fun k h => absurd h (Nat.not_lt_zero _), by decide, Or.inl rfl⟩
theorem ap_lt {α : Type} {n k : Nat} {f : Nat → α} {x : α} {P : α → Prop} (h1 : ∀ k, k < n → P (f k)) (h2 : P x) (hk : k < n + 1) : P (ap_ n f x k) := by
  unfold ap_
  by_cases e : k = n
  · rw [if_pos e]; exact h2
  · rw [if_neg e]; exact h1 k (by omega)
theorem in9_n {v : Nat} (h : v ≤ 9) : in_9 (Int32.ofNat v) ∧ in_9 (-(Int32.ofNat v)) := by
  have g : ∀ v : Fin 10, in_9 (Int32.ofNat v.val) ∧ in_9 (-(Int32.ofNat v.val)) := by
    unfold in_9
    decide
  exact g ⟨v, by omega⟩
theorem ks_lt {t : Tp} {b k : Nat} (h : ks_ t b = some k) : k < 4 ∧ tk_k t b = 1 := by
  unfold ks_ at h
  split at h
  · rename_i z; cases h; exact ⟨by omega, is_w_k z⟩
  · split at h
    · rename_i z; cases h; exact ⟨by omega, is_w_k z⟩
    · split at h
      · rename_i z; cases h; exact ⟨by omega, is_w_k z⟩
      · split at h
        · rename_i z; cases h; exact ⟨by omega, is_w_k z⟩
        · cases h
theorem tb_g {t : Tp} {T T1 : Tm} {k b b' : Nat} (hT : TG_ t T) (hk : k < 4) (hn : tm_n T < 10) (h : tb_ t T k b = Sum.inr (T1, b')) (hb : tk_k t b ≠ 0) : TG_ t T1 ∧ b < b' ∧ b' ≤ t.2 := by
  unfold tb_ at h
  have g0 := tk_gt hb
  cases h1 : nm_ t 1 99 (tk_n t b) with
  | inl e => rw [h1] at h; cases h
  | inr r1 =>
    rw [h1] at h
    obtain ⟨v1, b1⟩ := r1
    obtain ⟨-, -, -, -, -, -, n17, n18⟩ := nm_g h1
    cases h2 : nm_ t 0 999 b1 with
    | inl e => simp only [h2] at h; cases h
    | inr r2 =>
      simp only [h2] at h
      obtain ⟨v2, b2⟩ := r2
      obtain ⟨-, -, -, -, -, -, n27, n28⟩ := nm_g h2
      have hq : b2 ≤ (if is_s t b2 45 = true then tk_n t b2 else b2) := by
        split
        · rename_i z
          have := (is_s_k z).1
          have := tk_gt (t := t) (b := b2) (by omega)
          omega
        · omega
      simp only at h
      cases h3 : nm_ t 0 9 (if is_s t b2 45 = true then tk_n t b2 else b2) with
      | inl e => simp only [h3] at h; cases h
      | inr r3 =>
        simp only [h3] at h
        obtain ⟨v3, b3⟩ := r3
        obtain ⟨-, -, -, -, -, n36, n37, n38⟩ := nm_g h3
        cases h4 : nm_ t 0 99 b3 with
        | inl e => simp only [h4] at h; cases h
        | inr r4 =>
          simp only [h4] at h
          obtain ⟨v4, b4⟩ := r4
          obtain ⟨-, -, -, -, -, n46, n47, n48⟩ := nm_g h4
          have e := Sum.inr.inj h
          have e1 := congrArg Prod.fst e
          have e2 : b4 = b' := congrArg Prod.snd e
          simp only at e1
          subst e1 e2
          obtain ⟨t1, t2, t3, t4, t5, t6, t7, t8⟩ := hT
          refine ⟨⟨hn, fun j hj => ap_lt (P := fun x => x < 4) t2 hk hj, t3, fun j hj => ap_lt (P := in_9) t4 ?_ hj, t5, fun j hj => ap_lt (P := fun x => Int32.ofNat 0 ≤ x) t6 ?_ hj, t7, t8⟩, by omega, n48⟩
          · split
            · exact (in9_n n36).2
            · exact (in9_n n36).1
          · rw [oo_le (by omega) (by omega)]; omega
