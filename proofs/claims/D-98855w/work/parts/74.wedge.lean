/-! WEDGES: by memory from below, by table from above -/
set_option maxRecDepth 100000
theorem it_le {f : Nat → Nat → Nat} {A : Nat → Prop} {c : Nat} : ∀ (n k v : Nat), (∀ i v, k ≤ i → i < k + n → (f i v ≤ c ↔ v ≤ c ∨ A i)) → (it_ f k n v ≤ c ↔ v ≤ c ∨ ∃ i, k ≤ i ∧ i < k + n ∧ A i) := by
  intro n
  induction n with
  | zero => intro k v _; exact ⟨Or.inl, fun h => h.elim id (fun ⟨i, h1, h2, _⟩ => by omega)⟩
  | succ n ih =>
    intro k v h
    rw [it_, ih (k + 1) (f k v) (fun i v h1 h2 => h i v (by omega) (by omega)), h k v (Nat.le_refl _) (by omega)]
    constructor
    · rintro ((h1 | h1) | ⟨i, h1, h2, h3⟩)
      · exact Or.inl h1
      · exact Or.inr ⟨k, Nat.le_refl _, by omega, h1⟩
      · exact Or.inr ⟨i, by omega, by omega, h3⟩
    · rintro (h1 | ⟨i, h1, h2, h3⟩)
      · exact Or.inl (Or.inl h1)
      · by_cases e : i = k
        · subst e; exact Or.inl (Or.inr h3)
        · exact Or.inr ⟨i, by omega, by omega, h3⟩
theorem it_fle {f : Nat → (Nat → Nat) → (Nat → Nat)} {A : Nat → Prop} {c x : Nat} : ∀ (n k : Nat) (g : Nat → Nat), (∀ i g, k ≤ i → i < k + n → (f i g x ≤ c ↔ g x ≤ c ∨ A i)) → (it_ f k n g x ≤ c ↔ g x ≤ c ∨ ∃ i, k ≤ i ∧ i < k + n ∧ A i) := by
  intro n
  induction n with
  | zero => intro k v _; exact ⟨Or.inl, fun h => h.elim id (fun ⟨i, h1, h2, _⟩ => by omega)⟩
  | succ n ih =>
    intro k v h
    rw [it_, ih (k + 1) (f k v) (fun i v h1 h2 => h i v (by omega) (by omega)), h k v (Nat.le_refl _) (by omega)]
    constructor
    · rintro ((h1 | h1) | ⟨i, h1, h2, h3⟩)
      · exact Or.inl h1
      · exact Or.inr ⟨k, Nat.le_refl _, by omega, h1⟩
      · exact Or.inr ⟨i, by omega, by omega, h3⟩
    · rintro (h1 | ⟨i, h1, h2, h3⟩)
      · exact Or.inl (Or.inl h1)
      · by_cases e : i = k
        · subst e; exact Or.inl (Or.inr h3)
        · exact Or.inr ⟨i, by omega, by omega, h3⟩
/-- what a wedge costs -/
def cj_ (j : Nat) : Nat := if j ≤ 9 then 9 - j else j - 9
def wf1_ (nx : Nat → Nat → Nat → Option Nat) (F : Nat → Nat) (l b j v : Nat) : Nat := match nx l b j with
  | some b1 => min v (cj_ j + F b1)
  | none => v
def wf_ (nx : Nat → Nat → Nat → Option Nat) : Nat → Nat → Nat → Nat
  | 0, _, _ => 0
  | r + 1, l, b => it_ (wf1_ nx (wf_ nx r (l + 1)) l b) 0 19 100000
def fw1_ (nx : Nat → Nat → Nat → Option Nat) (few : Nat → Nat) (l k j : Nat) (g : Nat → Nat) : Nat → Nat := match nx l k j with
  | some b => fun x => if x = b then min (g b) (few k + cj_ j) else g x
  | none => g
def fw2_ (nx : Nat → Nat → Nat → Option Nat) (few : Nat → Nat) (l k : Nat) (g : Nat → Nat) : Nat → Nat := if few k < 100000 then it_ (fw1_ nx few l k) 0 19 g else g
def fw_ (nx : Nat → Nat → Nat → Option Nat) : Nat → Nat → Nat
  | 0 => fun k => if k = 40 then 0 else 100000
  | l + 1 => it_ (fw2_ nx (fw_ nx l) l) 0 81 (fun _ => 100000)
def fwm_ (few : Nat → Nat) : Nat := it_ (fun k v => min v (few k)) 0 81 100000
section
variable {nx : Nat → Nat → Nat → Option Nat}
theorem wf_ch {r l b c : Nat} (hc : c < 100000) : wf_ nx (r + 1) l b ≤ c ↔ ∃ j b1, j < 19 ∧ nx l b j = some b1 ∧ cj_ j + wf_ nx r (l + 1) b1 ≤ c := by
  rw [wf_, it_le (A := fun j => ∃ b1, nx l b j = some b1 ∧ cj_ j + wf_ nx r (l + 1) b1 ≤ c) 19 0 100000 (fun i v _ _ => ?_)]
  · constructor
    · rintro (h | ⟨i, h1, h2, b1, h3, h4⟩)
      · omega
      · exact ⟨i, b1, by omega, h3, h4⟩
    · rintro ⟨i, b1, h1, h2, h3⟩
      exact Or.inr ⟨i, by omega, by omega, b1, h2, h3⟩
  · unfold wf1_
    cases nx l b i with
    | none => exact ⟨Or.inl, fun h => h.elim id (fun ⟨_, h, _⟩ => by cases h)⟩
    | some b1 =>
      simp only [Option.some.injEq, exists_eq_left']
      omega
theorem fw_ch {l x c : Nat} (hc : c < 100000) : fw_ nx (l + 1) x ≤ c ↔ ∃ k j, k < 81 ∧ j < 19 ∧ nx l k j = some x ∧ fw_ nx l k + cj_ j ≤ c := by
  rw [fw_, it_fle (A := fun k => ∃ j, j < 19 ∧ nx l k j = some x ∧ fw_ nx l k + cj_ j ≤ c) 81 0 (fun _ => 100000) (fun k g _ _ => ?_)]
  · constructor
    · rintro (h | ⟨k, h1, h2, j, h3, h4, h5⟩)
      · omega
      · exact ⟨k, j, by omega, h3, h4, h5⟩
    · rintro ⟨k, j, h1, h2, h3, h4⟩
      exact Or.inr ⟨k, by omega, by omega, j, h2, h3, h4⟩
  · unfold fw2_
    by_cases h0 : fw_ nx l k < 100000
    · rw [if_pos h0, it_fle (A := fun j => nx l k j = some x ∧ fw_ nx l k + cj_ j ≤ c) 19 0 g (fun j g _ _ => ?_)]
      · constructor
        · rintro (h | ⟨j, h1, h2, h3⟩)
          · exact Or.inl h
          · exact Or.inr ⟨j, by omega, h3⟩
        · rintro (h | ⟨j, h1, h3⟩)
          · exact Or.inl h
          · exact Or.inr ⟨j, by omega, by omega, h3⟩
      · unfold fw1_
        cases nx l k j with
        | none => exact ⟨Or.inl, fun h => h.elim id (fun ⟨h, _⟩ => by cases h)⟩
        | some b =>
          simp only [Option.some.injEq]
          by_cases e : x = b
          · subst e
            simp only [if_true, true_and]
            omega
          · rw [if_neg e]
            exact ⟨Or.inl, fun h => h.elim id (fun ⟨h, _⟩ => absurd h.symm e)⟩
    · rw [if_neg h0]
      exact ⟨Or.inl, fun h => h.elim id (fun ⟨j, _, _, h⟩ => by omega)⟩
theorem fw_0 (hnx : ∀ l b j b1, nx l b j = some b1 → b1 < 81) {L c : Nat} (hc : c < 100000) : ∀ l, l ≤ L → ((∃ k, k < 81 ∧ fw_ nx l k + wf_ nx (L - l) l k ≤ c) ↔ wf_ nx L 0 40 ≤ c) := by
  intro l
  induction l with
  | zero =>
    intro _
    constructor
    · rintro ⟨k, h1, h2⟩
      unfold fw_ at h2
      by_cases e : k = 40
      · subst e; rw [if_pos rfl] at h2; simp only [Nat.sub_zero, Nat.zero_add] at h2; exact h2
      · rw [if_neg e] at h2; omega
    · intro h
      refine ⟨40, by omega, ?_⟩
      unfold fw_
      rw [if_pos rfl, Nat.zero_add]
      exact h
  | succ l ih =>
    intro hl
    rw [← ih (by omega)]
    obtain ⟨r, hr⟩ : ∃ r, L - l = r + 1 := ⟨L - l - 1, by omega⟩
    have hr2 : L - (l + 1) = r := by omega
    rw [hr, hr2]
    constructor
    · rintro ⟨x, h1, h2⟩
      obtain ⟨k, j, h3, h4, h5, h6⟩ := (fw_ch (c := fw_ nx (l + 1) x) (by omega)).mp (Nat.le_refl _)
      have h7 := (wf_ch (c := cj_ j + wf_ nx r (l + 1) x) (r := r) (by omega)).mpr ⟨j, x, h4, h5, Nat.le_refl _⟩
      exact ⟨k, h3, by omega⟩
    · rintro ⟨k, h1, h2⟩
      obtain ⟨j, x, h3, h4, h5⟩ := (wf_ch (c := wf_ nx (r + 1) l k) (r := r) (by omega)).mp (Nat.le_refl _)
      have h7 := (fw_ch (c := fw_ nx l k + cj_ j) (x := x) (by omega)).mpr ⟨k, j, h1, h3, h4, Nat.le_refl _⟩
      exact ⟨x, hnx _ _ _ _ h4, by omega⟩
theorem it_min {f : Nat → Nat → Nat} (h : ∀ i v, f i v ≤ v) : ∀ n k v, it_ f k n v ≤ v := by
  intro n
  induction n with
  | zero => intro k v; exact Nat.le_refl _
  | succ n ih => intro k v; rw [it_]; exact Nat.le_trans (ih _ _) (h _ _)
theorem wf_far (r l b : Nat) : wf_ nx r l b ≤ 100000 := by
  cases r with
  | zero => exact Nat.zero_le _
  | succ r =>
    rw [wf_]
    refine it_min (fun j v => ?_) _ _ _
    unfold wf1_
    split
    · exact Nat.min_le_left _ _
    · exact Nat.le_refl _
theorem wf_fw (hnx : ∀ l b j b1, nx l b j = some b1 → b1 < 81) (L : Nat) : fwm_ (fw_ nx L) = wf_ nx L 0 40 := by
  have h1 : fwm_ (fw_ nx L) ≤ 100000 := it_min (fun k v => Nat.min_le_left _ _) _ _ _
  have h2 := wf_far (nx := nx) L 0 40
  have key : ∀ c, c < 100000 → (fwm_ (fw_ nx L) ≤ c ↔ wf_ nx L 0 40 ≤ c) := by
    intro c hc
    rw [← fw_0 hnx hc L (Nat.le_refl _), Nat.sub_self]
    unfold fwm_
    rw [it_le (A := fun k => fw_ nx L k ≤ c) 81 0 100000 (fun i v _ _ => by omega)]
    constructor
    · rintro (h | ⟨k, a1, a2, a3⟩)
      · omega
      · exact ⟨k, by omega, by unfold wf_; omega⟩
    · rintro ⟨k, a1, a2⟩
      exact Or.inr ⟨k, by omega, by omega, by omega⟩
  by_cases e1 : fwm_ (fw_ nx L) < 100000
  · have := (key _ e1).mp (Nat.le_refl _)
    by_cases e2 : wf_ nx L 0 40 < 100000
    · have := (key _ e2).mpr (Nat.le_refl _)
      omega
    · omega
  · by_cases e2 : wf_ nx L 0 40 < 100000
    · have := (key _ e2).mpr (Nat.le_refl _)
      omega
    · omega
end
