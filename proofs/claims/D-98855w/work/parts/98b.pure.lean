/-! PURE, from town's call -/
set_option maxRecDepth 100000
theorem pure_of (hT : Twn_ (1000 + 602)) (L : Nat) (xs : Nat → Int32) (hL : L ≤ 384) : ∃ (n d : Nat) (w' : Wd), d ≤ 1660 ∧ ex_ n d 0 0 (e_l 8 [v_R (some 0)]) [] (w_00 L xs) = some (Sum.inl (some (v_I 1)), w') ∧ w_z w' ≤ 1000 + 1200128 ∧ w_s w' ≤ 5501098 := by
  obtain ⟨w2, ⟨h1, h2⟩, q⟩ := law_pure (L := L) (xs := xs) hT hL
  have q1 := q (fun r w => r = Sum.inl (some (v_I (Int32.ofNat 1))) ∧ w = w2)
  have q2 : wp (1000 + 602 + 14) 0 0 [some (v_R (some 0)), none, none, none, none, none, none, none] [] (w_00 L xs) (fun r w => r = Sum.inl (some (v_I (Int32.ofNat 1))) ∧ w = w2) := q1.mpr ⟨rfl, rfl⟩
  obtain ⟨n, r, hr, e1, e2⟩ := q2
  refine ⟨n, 1000 + 602 + 14, w2, by omega, ?_, by omega, h2⟩
  have e : r = (Sum.inl (some (v_I 1)), w2) := Prod.ext e1 e2
  rw [← e]
  exact hr
