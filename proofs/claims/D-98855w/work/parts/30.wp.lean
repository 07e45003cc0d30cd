/-! THE RUN AS A PREDICATE: no machine from here on -/
set_option maxRecDepth 100000
def wp (d m pc : Nat) (ls : List (Option Vl)) (st : List Vl) (w : Wd) (Q : Rs → Wd → Prop) : Prop := ∃ n r, ex_ n d m pc ls st w = some r ∧ Q r.1 r.2
def cl (d t : Nat) (as : List Vl) (w : Wd) (Q : Rs → Wd → Prop) : Prop := (e_a as).length ≤ m_l t ∧ wp d t 0 (e_l (m_l t) as) [] w Q
section
variable {d m pc pc1 len : Nat} {ls ls1 : List (Option Vl)} {st st1 : List Vl} {w w1 : Wd} {Q : Rs → Wd → Prop} {i : Instr}
theorem wp_s (hd : decode (m_c m) pc = .ok (i, len)) (hl : l_k i len = true) (h : s_1 m i pc ls st w = some (pc1, ls1, st1, w1)) : wp d m pc ls st w Q = wp d m pc1 ls1 st1 w1 Q := by
  refine propext ⟨fun ⟨n, r, hx, hq⟩ => ?_, fun ⟨n, r, hx, hq⟩ => ⟨n + 1, r, ?_, hq⟩⟩
  · cases n with
    | zero => rw [ex_] at hx; cases hx
    | succ n =>
      rw [ex_, hd] at hx
      simp only [hl, h, if_true] at hx
      exact ⟨n, r, hx, hq⟩
  · rw [ex_, hd]
    simp only [hl, h, if_true]
    exact hx
/-- what fails has no run -/
theorem wp_f (hd : decode (m_c m) pc = .ok (i, len)) (h1 : s_1 m i pc ls st w = none) (h2 : s_c m i st w = none) (h3 : s_e m i st w = none) : wp d m pc ls st w Q = False := by
  refine propext ⟨fun ⟨n, r, hx, hq⟩ => ?_, False.elim⟩
  cases n with
  | zero => rw [ex_] at hx; cases hx
  | succ n =>
    rw [ex_, hd] at hx
    simp only [h1, h2, h3] at hx
    split at hx <;> cases hx
theorem wp_r {v : Option Vl} (hd : decode (m_c m) pc = .ok (i, len)) (hl : l_k i len = true) (h1 : s_1 m i pc ls st w = none) (h2 : s_c m i st w = none) (h3 : s_e m i st w = some (Sum.inl v)) : wp d m pc ls st w Q = Q (Sum.inl v) w := by
  refine propext ⟨fun ⟨n, r, hx, hq⟩ => ?_, fun hq => ⟨1, (Sum.inl v, w), ?_, hq⟩⟩
  · cases n with
    | zero => rw [ex_] at hx; cases hx
    | succ n =>
      rw [ex_, hd] at hx
      simp only [hl, h1, h2, h3, if_true] at hx
      cases hx
      exact hq
  · rw [ex_, hd]
    simp only [hl, h1, h2, h3, if_true]
end
theorem ex_u1 : ∀ (n d m pc : Nat) (ls : List (Option Vl)) (st : List Vl) (w : Wd) (res : Rs × Wd), ex_ n d m pc ls st w = some res → ex_ (n + 1) d m pc ls st w = some res := by
  intro n
  induction n with
  | zero => intro d m pc ls st w res h; rw [ex_] at h; cases h
  | succ n ih =>
    intro d m pc ls st w res h
    rw [ex_] at h
    rw [ex_]
    cases hd : decode (m_c m) pc with
    | error e => rw [hd] at h; cases h
    | ok p =>
      obtain ⟨i, len⟩ := p
      rw [hd] at h
      dsimp only at h ⊢
      by_cases hl : l_k i len = true
      · rw [if_pos hl] at h ⊢
        cases h1 : s_1 m i pc ls st w with
        | some q =>
          obtain ⟨pc1, ls1, st1, w1⟩ := q
          rw [h1] at h
          exact ih _ _ _ _ _ _ _ h
        | none =>
          rw [h1] at h
          dsimp only at h ⊢
          cases h2 : s_c m i st w with
          | some q =>
            obtain ⟨t, as, r⟩ := q
            rw [h2] at h
            dsimp only at h ⊢
            cases d with
            | zero => cases h
            | succ d1 =>
              dsimp only at h ⊢
              by_cases hlen : (e_a as).length ≤ m_l t
              · rw [if_pos hlen] at h ⊢
                cases hx : ex_ n d1 t 0 (e_l (m_l t) as) [] w with
                | none => rw [hx] at h; cases h
                | some r1 =>
                  obtain ⟨r1, w1⟩ := r1
                  rw [ih _ _ _ _ _ _ _ hx]
                  rw [hx] at h
                  rcases r1 with (_ | v) | q
                  · exact ih _ _ _ _ _ _ _ h
                  · exact ih _ _ _ _ _ _ _ h
                  · dsimp only at h ⊢
                    cases hh : h_m m pc (w_t w1 q) with
                    | none => rw [hh] at h; cases h
                    | some o =>
                      rw [hh] at h
                      cases o with
                      | none => exact h
                      | some x => exact ih _ _ _ _ _ _ _ h
              · rw [if_neg hlen] at h; cases h
          | none =>
            rw [h2] at h
            dsimp only at h ⊢
            cases h3 : s_e m i st w with
            | none => rw [h3] at h; cases h
            | some q =>
              rw [h3] at h
              rcases q with v | q
              · exact h
              · dsimp only at h ⊢
                cases hh : h_m m pc (w_t w q) with
                | none => rw [hh] at h; cases h
                | some o =>
                  rw [hh] at h
                  cases o with
                  | none => exact h
                  | some x => exact ih _ _ _ _ _ _ _ h
      · rw [if_neg hl] at h; cases h
theorem ex_u {n n' d m pc : Nat} {ls : List (Option Vl)} {st : List Vl} {w : Wd} {res : Rs × Wd} (h : ex_ n d m pc ls st w = some res) (hn : n ≤ n') : ex_ n' d m pc ls st w = some res := by
  obtain ⟨k, rfl⟩ := Nat.le.dest hn
  induction k with
  | zero => exact h
  | succ k ih => exact ex_u1 _ _ _ _ _ _ _ _ (ih (Nat.le_add_right _ _))
/-- behind a callee -/
def bk (d m pc : Nat) (ls : List (Option Vl)) (r : List Vl) (Q : Rs → Wd → Prop) : Rs → Wd → Prop := fun rs w => match rs with
  | Sum.inl v => wp d m (pc + 3) ls (v.toList ++ r) w Q
  | Sum.inr q => match h_m m pc (w_t w q) with
    | some (some h) => wp d m h ls [v_R (some q)] w Q
    | some none => Q (Sum.inr q) w
    | none => False
/-- a call -/
theorem wp_c {d m pc len t : Nat} {ls : List (Option Vl)} {st as r : List Vl} {w : Wd} {Q : Rs → Wd → Prop} {i : Instr} (hd : decode (m_c m) pc = .ok (i, len)) (hl : l_k i len = true) (h1 : s_1 m i pc ls st w = none) (h2 : s_c m i st w = some (t, as, r)) : wp (d + 1) m pc ls st w Q = cl d t as w (bk (d + 1) m pc ls r Q) := by
  refine propext ⟨fun ⟨n, res, hx, hq⟩ => ?_, fun ⟨hlen, n, r1, hx, hq⟩ => ?_⟩
  · cases n with
    | zero => rw [ex_] at hx; cases hx
    | succ n =>
      rw [ex_, hd] at hx
      simp only [hl, h1, h2, if_true] at hx
      by_cases hlen : (e_a as).length ≤ m_l t
      · rw [if_pos hlen] at hx
        refine ⟨hlen, ?_⟩
        cases hy : ex_ n d t 0 (e_l (m_l t) as) [] w with
        | none => rw [hy] at hx; cases hx
        | some r1 =>
          obtain ⟨r1, w1⟩ := r1
          rw [hy] at hx
          refine ⟨n, (r1, w1), hy, ?_⟩
          rcases r1 with (_ | v) | q
          · exact ⟨n, res, hx, hq⟩
          · exact ⟨n, res, hx, hq⟩
          · dsimp only at hx
            show (match h_m m pc (w_t w1 q) with | some (some h) => wp (d + 1) m h ls [v_R (some q)] w1 Q | some none => Q (Sum.inr q) w1 | none => False)
            cases hh : h_m m pc (w_t w1 q) with
            | none => rw [hh] at hx; cases hx
            | some o =>
              rw [hh] at hx
              cases o with
              | none => cases hx; exact hq
              | some x => exact ⟨n, res, hx, hq⟩
      · rw [if_neg hlen] at hx; cases hx
  · obtain ⟨r1, w1⟩ := r1
    have go : ∀ {pc2 : Nat} {st2 : List Vl}, wp (d + 1) m pc2 ls st2 w1 Q → ∃ n2 res, n ≤ n2 ∧ ex_ n2 (d + 1) m pc2 ls st2 w1 = some res ∧ Q res.1 res.2 := fun ⟨n2, res, e1, e2⟩ => ⟨max n n2, res, Nat.le_max_left _ _, ex_u e1 (Nat.le_max_right _ _), e2⟩
    rcases r1 with (_ | v) | q
    · obtain ⟨n2, res, e0, e1, e2⟩ := go hq
      refine ⟨n2 + 1, res, ?_, e2⟩
      rw [ex_, hd]
      simp only [hl, h1, h2, if_true, if_pos hlen, ex_u hx e0]
      exact e1
    · obtain ⟨n2, res, e0, e1, e2⟩ := go hq
      refine ⟨n2 + 1, res, ?_, e2⟩
      rw [ex_, hd]
      simp only [hl, h1, h2, if_true, if_pos hlen, ex_u hx e0]
      exact e1
    · have hq : (match h_m m pc (w_t w1 q) with | some (some h) => wp (d + 1) m h ls [v_R (some q)] w1 Q | some none => Q (Sum.inr q) w1 | none => False) := hq
      cases hh : h_m m pc (w_t w1 q) with
      | none => rw [hh] at hq; exact hq.elim
      | some o =>
        rw [hh] at hq
        cases o with
        | none =>
          refine ⟨n + 1, (Sum.inr q, w1), ?_, hq⟩
          rw [ex_, hd]
          simp only [hl, h1, h2, if_true, if_pos hlen, hx, hh]
        | some x =>
          obtain ⟨n2, res, e0, e1, e2⟩ := go hq
          refine ⟨n2 + 1, res, ?_, e2⟩
          rw [ex_, hd]
          simp only [hl, h1, h2, if_true, if_pos hlen, ex_u hx e0, hh]
          exact e1
/-- a throw -/
theorem wp_t {d m pc len q : Nat} {ls : List (Option Vl)} {st : List Vl} {w : Wd} {Q : Rs → Wd → Prop} {i : Instr} (hd : decode (m_c m) pc = .ok (i, len)) (hl : l_k i len = true) (h1 : s_1 m i pc ls st w = none) (h2 : s_c m i st w = none) (h3 : s_e m i st w = some (Sum.inr q)) (hh : h_m m pc (w_t w q) = some none) : wp d m pc ls st w Q = Q (Sum.inr q) w := by
  refine propext ⟨fun ⟨n, r, hx, hq⟩ => ?_, fun hq => ⟨1, (Sum.inr q, w), ?_, hq⟩⟩
  · cases n with
    | zero => rw [ex_] at hx; cases hx
    | succ n =>
      rw [ex_, hd] at hx
      simp only [hl, h1, h2, h3, hh, if_true] at hx
      cases hx
      exact hq
  · rw [ex_, hd]
    simp only [hl, h1, h2, h3, hh, if_true]
