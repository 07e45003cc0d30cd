/-! LOCALS: what lists of locals say of the machine's -/
set_option maxRecDepth 100000
def l_p (f : Vl → Value) : Nat → List (Option Vl) → List (Nat × Value)
  | _, [] => []
  | i, none :: r => l_p f (i + 1) r
  | i, some v :: r => (i, f v) :: l_p f (i + 1) r
theorem l_p_mem {f : Vl → Value} : ∀ (ls : List (Option Vl)) (i k : Nat) (v : Vl), ls[k]? = some (some v) → (i + k, f v) ∈ l_p f i ls
  | [], _, _, _, h => by simp at h
  | a :: r, i, 0, v, h => by
    simp at h
    subst h
    simp [l_p]
  | none :: r, i, k + 1, v, h => by
    have := l_p_mem (f := f) r (i + 1) k v (by simpa using h)
    simp only [l_p]
    rw [show i + (k + 1) = i + 1 + k by omega]
    exact this
  | some u :: r, i, k + 1, v, h => by
    have := l_p_mem (f := f) r (i + 1) k v (by simpa using h)
    simp only [l_p]
    rw [show i + (k + 1) = i + 1 + k by omega]
    exact List.mem_cons_of_mem _ this
theorem l_p_of {f : Vl → Value} : ∀ (ls : List (Option Vl)) (i : Nat) (q : Nat × Value), q ∈ l_p f i ls → ∃ (k : Nat) (v : Vl), ls[k]? = some (some v) ∧ q.1 = i + k ∧ q.2 = f v
  | [], _, _, h => by simp [l_p] at h
  | none :: r, i, q, h => by
    obtain ⟨k, v, h1, h2, h3⟩ := l_p_of (f := f) r (i + 1) q (by simpa [l_p] using h)
    exact ⟨k + 1, v, by simpa using h1, by omega, h3⟩
  | some u :: r, i, q, h => by
    simp only [l_p, List.mem_cons] at h
    rcases h with rfl | h
    · exact ⟨0, u, by simp, rfl, rfl⟩
    · obtain ⟨k, v, h1, h2, h3⟩ := l_p_of (f := f) r (i + 1) q h
      exact ⟨k + 1, v, by simpa using h1, by omega, h3⟩
theorem tv_c (G : GG_) (v : Vl) : (tv_ G v).category = v_c v := by
  rcases v with x | x | o
  · rfl
  · rfl
  · show (va_rf _).category = 1
    cases o.bind (ad_ G) <;> rfl
def LH_ (G : GG_) (L : Array Slot) (ls : List (Option Vl)) (nL : Nat) : Prop := lv_has L nL (l_p (tv_ G) 0 ls) ∧ ls.length = nL
theorem LH_.get {G : GG_} {L : Array Slot} {ls : List (Option Vl)} {nL k : Nat} {v : Vl} (h : LH_ G L ls nL) (hk : ls[k]? = some (some v)) : L[k]? = some (.val (tv_ G v)) := by
  have := h.1.2.2 _ (l_p_mem (f := tv_ G) ls 0 k v hk)
  simpa using this
theorem n_l_some {o : Option Vl} {u : Vl} (h : n_l o = some u) : o = some u ∧ v_c u = 1 := by
  rcases o with _ | (x | x | x)
  · cases h
  · cases h; exact ⟨rfl, rfl⟩
  · cases h
  · cases h; exact ⟨rfl, rfl⟩
theorem l_set_len (ls : List (Option Vl)) (k : Nat) (v : Vl) : (l_set ls k v).length = ls.length := by simp [l_set]
theorem l_set_at {ls : List (Option Vl)} {k j : Nat} {v u : Vl} (h : (l_set ls k v)[j]? = some (some u)) : (j = k ∧ u = v) ∨ (j ≠ k ∧ ls[j]? = some (some u) ∧ ¬ (j + 1 = k ∧ v_c u = 2)) := by
  unfold l_set at h
  rw [List.getElem?_set] at h
  by_cases hj : k = j
  · rw [if_pos hj] at h
    split at h
    · simp at h
      exact Or.inl ⟨hj.symm, h.symm⟩
    · cases h
  · rw [if_neg hj, List.getElem?_modify] at h
    refine Or.inr ⟨fun z => hj z.symm, ?_⟩
    by_cases h1 : k - 1 = j
    · simp only [h1, ↓reduceIte] at h
      cases hl : ls[j]? with
      | none => rw [hl] at h; cases h
      | some o =>
        rw [hl] at h
        have h2 : n_l o = some u := by simpa using h
        obtain ⟨e1, e2⟩ := n_l_some h2
        exact ⟨by rw [e1], fun z => by omega⟩
    · simp only [h1, ↓reduceIte] at h
      have h2 : ls[j]? = some (some u) := by simpa using h
      exact ⟨h2, fun z => by omega⟩
theorem LH_.set {G : GG_} {L L1 : Array Slot} {ls : List (Option Vl)} {nL k : Nat} {v : Vl} (h : LH_ G L ls nL) (h1 : lv_has L1 nL ((k, tv_ G v) :: (l_p (tv_ G) 0 ls).filter (fun q => !(q.1 == k) && !(q.1 + 1 == k && q.2.category == 2)))) : LH_ G L1 (l_set ls k v) nL := by
  refine ⟨⟨h1.1, h1.2.1, fun q hq => h1.2.2 q ?_⟩, by rw [l_set_len]; exact h.2⟩
  obtain ⟨j, u, e1, e2, e3⟩ := l_p_of _ _ _ hq
  obtain ⟨q1, q2⟩ := q
  simp only [Nat.zero_add] at e2 e3
  subst e2; subst e3
  rcases l_set_at e1 with ⟨a, b⟩ | ⟨a, b, d⟩
  · rw [a, b]; exact List.mem_cons_self
  · refine List.mem_cons_of_mem _ (List.mem_filter.mpr ⟨by have := l_p_mem (f := tv_ G) ls 0 q1 u b; simpa using this, ?_⟩)
    simp only [tv_c, Bool.and_eq_true, Bool.not_eq_true', beq_eq_false_iff_ne, ne_eq, Bool.and_eq_false_iff]
    refine ⟨a, ?_⟩
    by_cases z : q1 + 1 = k
    · exact Or.inr (fun y => d ⟨z, y⟩)
    · exact Or.inl z
theorem LH_.set2 {G : GG_} {L L1 : Array Slot} {ls : List (Option Vl)} {nL k : Nat} {v : Vl} (h : LH_ G L ls nL) (h1 : lv_has L1 nL ((k, tv_ G v) :: (l_p (tv_ G) 0 ls).filter (fun q => !(q.1 == k) && (!(q.1 == k + 1) && !(q.1 + 1 == k && q.2.category == 2))))) : LH_ G L1 (l_set2 ls k v) nL := by
  refine ⟨⟨h1.1, h1.2.1, fun q hq => h1.2.2 q ?_⟩, by simp [l_set2, l_set_len]; exact h.2⟩
  obtain ⟨j, u, e1, e2, e3⟩ := l_p_of _ _ _ hq
  obtain ⟨q1, q2⟩ := q
  simp only [Nat.zero_add] at e2 e3
  subst e2; subst e3
  unfold l_set2 at e1
  rw [List.getElem?_set] at e1
  by_cases hj : k + 1 = q1
  · rw [if_pos hj] at e1
    split at e1 <;> simp at e1
  · rw [if_neg hj] at e1
    rcases l_set_at e1 with ⟨a, b⟩ | ⟨a, b, d⟩
    · rw [a, b]; exact List.mem_cons_self
    · refine List.mem_cons_of_mem _ (List.mem_filter.mpr ⟨by have := l_p_mem (f := tv_ G) ls 0 q1 u b; simpa using this, ?_⟩)
      simp only [tv_c, Bool.and_eq_true, Bool.not_eq_true', beq_eq_false_iff_ne, ne_eq, Bool.and_eq_false_iff]
      refine ⟨a, fun z => hj z.symm, ?_⟩
      by_cases z : q1 + 1 = k
      · exact Or.inr (fun y => d ⟨z, y⟩)
      · exact Or.inl z
/-- the locals at the entry -/
theorem e_a_at (G : GG_) : ∀ (as : List Vl) (i k : Nat) (u : Vl), (e_a as)[k]? = some (some u) → (i + k, tv_ G u) ∈ lv_args i (as.map (tv_ G))
  | [], _, _, _, h => by simp [e_a] at h
  | Sum.inl x :: r, i, 0, u, h => by
    simp [e_a] at h; subst h; simp [lv_args]
  | Sum.inl x :: r, i, k + 1, u, h => by
    have := e_a_at G r (i + 1) k u (by simpa [e_a] using h)
    simp only [List.map_cons, lv_args]
    rw [if_neg (show ¬ (tv_ G (Sum.inl x)).category = 2 by rw [tv_c]; show ¬ 1 = 2; decide), show i + (k + 1) = i + 1 + k by omega]
    exact List.mem_cons_of_mem _ this
  | Sum.inr (Sum.inr x) :: r, i, 0, u, h => by
    simp [e_a] at h; subst h; simp [lv_args]
  | Sum.inr (Sum.inr x) :: r, i, k + 1, u, h => by
    have := e_a_at G r (i + 1) k u (by simpa [e_a] using h)
    simp only [List.map_cons, lv_args]
    rw [if_neg (show ¬ (tv_ G (Sum.inr (Sum.inr x))).category = 2 by rw [tv_c]; show ¬ 1 = 2; decide), show i + (k + 1) = i + 1 + k by omega]
    exact List.mem_cons_of_mem _ this
  | Sum.inr (Sum.inl x) :: r, i, 0, u, h => by
    simp [e_a] at h; subst h; simp [lv_args]
  | Sum.inr (Sum.inl x) :: r, i, 1, u, h => by simp [e_a] at h
  | Sum.inr (Sum.inl x) :: r, i, k + 2, u, h => by
    have := e_a_at G r (i + 2) k u (by simpa [e_a] using h)
    simp only [List.map_cons, lv_args]
    rw [if_pos (show (tv_ G (Sum.inr (Sum.inl x))).category = 2 by rw [tv_c]; rfl), show i + (k + 2) = i + 2 + k by omega]
    exact List.mem_cons_of_mem _ this
theorem e_a_len (G : GG_) : ∀ (as : List Vl), (e_a as).length = (lg_sl (as.map (tv_ G))).length
  | [] => rfl
  | Sum.inl x :: r => by
    have := e_a_len G r
    simp only [e_a, List.map_cons, List.length_cons, lg_sl, List.flatMap_cons, List.length_append] at this ⊢
    rw [if_neg (show ¬ (tv_ G (Sum.inl x)).category = 2 by rw [tv_c]; show ¬ 1 = 2; decide)]
    simp only [List.length_cons, List.length_nil]
    omega
  | Sum.inr (Sum.inr x) :: r => by
    have := e_a_len G r
    simp only [e_a, List.map_cons, List.length_cons, lg_sl, List.flatMap_cons, List.length_append] at this ⊢
    rw [if_neg (show ¬ (tv_ G (Sum.inr (Sum.inr x))).category = 2 by rw [tv_c]; show ¬ 1 = 2; decide)]
    simp only [List.length_cons, List.length_nil]
    omega
  | Sum.inr (Sum.inl x) :: r => by
    have := e_a_len G r
    simp only [e_a, List.map_cons, List.length_cons, lg_sl, List.flatMap_cons, List.length_append] at this ⊢
    rw [if_pos (show (tv_ G (Sum.inr (Sum.inl x))).category = 2 by rw [tv_c]; rfl)]
    simp only [List.length_cons, List.length_nil]
    omega
theorem LH_.entry (G : GG_) (as : List Vl) {n : Nat} (h : (e_a as).length ≤ n) : LH_ G ((lg_sl (as.map (tv_ G)) ++ List.replicate (n - (lg_sl (as.map (tv_ G))).length) Slot.unset).toArray) (e_l n as) n := by
  have h0 := lv_entry (as.map (tv_ G)) (n := n) (by rw [← e_a_len]; exact h)
  refine ⟨⟨h0.1, h0.2.1, fun q hq => h0.2.2 q ?_⟩, by simp [e_l]; omega⟩
  obtain ⟨j, u, e1, e2, e3⟩ := l_p_of _ _ _ hq
  obtain ⟨q1, q2⟩ := q
  simp only [Nat.zero_add] at e2 e3
  subst e2; subst e3
  unfold e_l at e1
  rw [List.getElem?_append] at e1
  split at e1
  · have := e_a_at G as 0 q1 u e1
    simpa using this
  · rw [List.getElem?_replicate] at e1
    split at e1 <;> simp at e1
