/-! ONE STEP, WHATEVER IT IS -/
set_option maxRecDepth 100000
section
variable {p : Program} {l : Launch} {e : Env} {R : Room} {s : State} {m : MethodId} {args : Array Value} {below : List Frame} {meth : Method} {c : Code} {D : va_G} {G : GG_} {w0 : Wd} {Q : State → Prop} {zE sE mi d pc pc1 : Nat} {ls ls1 : List (Option Vl)} {st st1 : List Vl} {w w1 : Wd}

theorem m_eq (h : w = w1) : w_z w ≤ w_z w1 ∧ w_s w ≤ w_s w1 := by subst h; exact ⟨Nat.le_refl _, Nat.le_refl _⟩
theorem p_vm {a k kd : Nat} {v : Vl} (h : p_v w a k kd v = some w1) : w_z w1 = w_z w ∧ w_s w1 = w_s w := by
  rcases v with x | x | o
  · simp only [p_v] at h
    split at h
    · cases h; exact ⟨rfl, rfl⟩
    · split at h
      · cases h; exact ⟨rfl, rfl⟩
      · cases h
  · simp only [p_v] at h
    split at h
    · cases h; exact ⟨rfl, rfl⟩
    · cases h
  · simp only [p_v] at h
    split at h
    · cases h; exact ⟨rfl, rfl⟩
    · cases h
theorem cp_m {a d9 : Nat} {sp dp n : Int32} (h : cp_ w a d9 sp dp n = some w1) : w_z w1 = w_z w ∧ w_s w1 = w_s w := by
  unfold cp_ at h
  split at h
  · split at h
    · cases h; exact ⟨rfl, rfl⟩
    · split at h
      · cases h; exact ⟨rfl, rfl⟩
      · cases h
  · cases h
theorem nt_m {b : Nat} (h : nt_ b st w = some (st1, w1)) : w_z w ≤ w_z w1 ∧ w_s w ≤ w_s w1 := by
  unfold nt_ at h
  split at h
  · unfold na_1 at h
    split at h
    · split at h
      · rename_i hcp
        cases h
        obtain ⟨a1, a2⟩ := cp_m hcp
        omega
      · cases h
    · cases h
  · unfold na_2 at h
    split at h
    · split at h
      · cases h; exact m_eq rfl
      · cases h
    · cases h
  · unfold na_3 at h
    split at h
    · split at h
      · cases h; exact m_eq rfl
      · cases h
    · cases h
  · unfold na_4 at h
    split at h
    · split at h
      · cases h; exact ⟨Nat.le_succ _, Nat.le_add_right _ _⟩
      · cases h
    · cases h
  · unfold na_5 at h
    split at h
    · split at h
      · cases h; exact ⟨Nat.le_refl _, Nat.le_refl _⟩
      · cases h
    · cases h
  · unfold na_6 at h
    split at h
    · cases h; exact m_eq rfl
    · cases h
  · unfold na_7 at h
    split at h
    · cases h; exact m_eq rfl
    · cases h
  · unfold na_8 at h
    split at h
    · cases h; exact m_eq rfl
    · cases h
  · unfold na_9 at h
    split at h
    · split at h
      · cases h; exact ⟨Nat.le_succ _, Nat.le_add_right _ _⟩
      · cases h
    · cases h
  · cases h
theorem n_2m {b : Bool} {b9 : Nat} {cnd : Prop} {dec : Decidable cnd} (h : n_2 pc ls (@ite _ cnd dec (nt_ b9 st w) none) b = some (pc1, ls1, st1, w1)) : w_z w ≤ w_z w1 ∧ w_s w ≤ w_s w1 := by
  obtain ⟨g, -, -, -⟩ := n_2i h
  split at g
  · exact nt_m g
  · cases g
theorem s_1m {i : Instr} (h : s_1 mi i pc ls st w = some (pc1, ls1, st1, w1)) : w_z w ≤ w_z w1 ∧ w_s w ≤ w_s w1 := by
  cases i
  case iconst n9 =>
    simp only [s_1] at h; repeat' split at h
    all_goals first | (cases h; done) | exact f_nm h | exact m_eq (s4 h).2.2.2 | exact m_eq (g_oi h).2.2.2.1 | skip
    all_goals (obtain ⟨_, _, _, e⟩ := s4 h; subst e; first | exact ⟨Nat.le_refl _, Nat.le_refl _⟩ | exact ⟨Nat.le_succ _, Nat.le_add_right _ _⟩)
  case bipush n9 =>
    simp only [s_1] at h; repeat' split at h
    all_goals first | (cases h; done) | exact f_nm h | exact m_eq (s4 h).2.2.2 | exact m_eq (g_oi h).2.2.2.1 | skip
    all_goals (obtain ⟨_, _, _, e⟩ := s4 h; subst e; first | exact ⟨Nat.le_refl _, Nat.le_refl _⟩ | exact ⟨Nat.le_succ _, Nat.le_add_right _ _⟩)
  case sipush n9 =>
    simp only [s_1] at h; repeat' split at h
    all_goals first | (cases h; done) | exact f_nm h | exact m_eq (s4 h).2.2.2 | exact m_eq (g_oi h).2.2.2.1 | skip
    all_goals (obtain ⟨_, _, _, e⟩ := s4 h; subst e; first | exact ⟨Nat.le_refl _, Nat.le_refl _⟩ | exact ⟨Nat.le_succ _, Nat.le_add_right _ _⟩)
  case lconst n9 =>
    simp only [s_1] at h; repeat' split at h
    all_goals first | (cases h; done) | exact f_nm h | exact m_eq (s4 h).2.2.2 | exact m_eq (g_oi h).2.2.2.1 | skip
    all_goals (obtain ⟨_, _, _, e⟩ := s4 h; subst e; first | exact ⟨Nat.le_refl _, Nat.le_refl _⟩ | exact ⟨Nat.le_succ _, Nat.le_add_right _ _⟩)
  case aconst_null =>
    simp only [s_1] at h; repeat' split at h
    all_goals first | (cases h; done) | exact f_nm h | exact m_eq (s4 h).2.2.2 | exact m_eq (g_oi h).2.2.2.1 | skip
    all_goals (obtain ⟨_, _, _, e⟩ := s4 h; subst e; first | exact ⟨Nat.le_refl _, Nat.le_refl _⟩ | exact ⟨Nat.le_succ _, Nat.le_add_right _ _⟩)
  case iload_n k9 =>
    obtain ⟨_, _, _, _, _, e⟩ := ld_0 h; exact m_eq e
  case iload k9 =>
    obtain ⟨_, _, _, _, _, e⟩ := ld_0 h; exact m_eq e
  case lload_n k9 =>
    obtain ⟨_, _, _, _, _, e⟩ := ld_1 h; exact m_eq e
  case lload k9 =>
    obtain ⟨_, _, _, _, _, e⟩ := ld_1 h; exact m_eq e
  case aload_n k9 =>
    obtain ⟨_, _, _, _, _, e⟩ := ld_2 h; exact m_eq e
  case aload k9 =>
    obtain ⟨_, _, _, _, _, e⟩ := ld_2 h; exact m_eq e
  case istore_n k9 =>
    obtain ⟨_, _, _, _, _, _, _, e⟩ := sv_0 h; exact m_eq e
  case istore k9 =>
    obtain ⟨_, _, _, _, _, _, _, e⟩ := sv_0 h; exact m_eq e
  case lstore_n k9 =>
    obtain ⟨_, _, _, _, _, _, _, e⟩ := sv_1 h; exact m_eq e
  case lstore k9 =>
    obtain ⟨_, _, _, _, _, _, _, e⟩ := sv_1 h; exact m_eq e
  case astore_n k9 =>
    obtain ⟨_, _, _, _, _, _, _, e⟩ := sv_2 h; exact m_eq e
  case astore k9 =>
    obtain ⟨_, _, _, _, _, _, _, e⟩ := sv_2 h; exact m_eq e
  case iinc k9 n9 =>
    simp only [s_1] at h; repeat' split at h
    all_goals first | (cases h; done) | exact f_nm h | exact m_eq (s4 h).2.2.2 | exact m_eq (g_oi h).2.2.2.1 | skip
    all_goals (obtain ⟨_, _, _, e⟩ := s4 h; subst e; first | exact ⟨Nat.le_refl _, Nat.le_refl _⟩ | exact ⟨Nat.le_succ _, Nat.le_add_right _ _⟩)
  case iadd =>
    obtain ⟨_, _, _, _, _, _, _, e⟩ := b_2i h; exact m_eq e
  case isub =>
    obtain ⟨_, _, _, _, _, _, _, e⟩ := b_2i h; exact m_eq e
  case imul =>
    obtain ⟨_, _, _, _, _, _, _, e⟩ := b_2i h; exact m_eq e
  case iand =>
    obtain ⟨_, _, _, _, _, _, _, e⟩ := b_2i h; exact m_eq e
  case ior =>
    obtain ⟨_, _, _, _, _, _, _, e⟩ := b_2i h; exact m_eq e
  case ixor =>
    obtain ⟨_, _, _, _, _, _, _, e⟩ := b_2i h; exact m_eq e
  case ishl =>
    obtain ⟨_, _, _, _, _, _, _, e⟩ := b_2i h; exact m_eq e
  case ishr =>
    obtain ⟨_, _, _, _, _, _, _, e⟩ := b_2i h; exact m_eq e
  case iushr =>
    obtain ⟨_, _, _, _, _, _, _, e⟩ := b_2i h; exact m_eq e
  case idiv =>
    simp only [s_1] at h; repeat' split at h
    all_goals first | (cases h; done) | exact f_nm h | exact m_eq (s4 h).2.2.2 | exact m_eq (g_oi h).2.2.2.1 | skip
    all_goals (obtain ⟨_, _, _, e⟩ := s4 h; subst e; first | exact ⟨Nat.le_refl _, Nat.le_refl _⟩ | exact ⟨Nat.le_succ _, Nat.le_add_right _ _⟩)
  case irem =>
    simp only [s_1] at h; repeat' split at h
    all_goals first | (cases h; done) | exact f_nm h | exact m_eq (s4 h).2.2.2 | exact m_eq (g_oi h).2.2.2.1 | skip
    all_goals (obtain ⟨_, _, _, e⟩ := s4 h; subst e; first | exact ⟨Nat.le_refl _, Nat.le_refl _⟩ | exact ⟨Nat.le_succ _, Nat.le_add_right _ _⟩)
  case ineg =>
    obtain ⟨_, _, _, _, _, _, e⟩ := b_1i h; exact m_eq e
  case i2l =>
    obtain ⟨_, _, _, _, _, _, e⟩ := b_1i h; exact m_eq e
  case i2b =>
    obtain ⟨_, _, _, _, _, _, e⟩ := b_1i h; exact m_eq e
  case i2c =>
    obtain ⟨_, _, _, _, _, _, e⟩ := b_1i h; exact m_eq e
  case ladd =>
    simp only [s_1] at h; repeat' split at h
    all_goals first | (cases h; done) | exact f_nm h | exact m_eq (s4 h).2.2.2 | exact m_eq (g_oi h).2.2.2.1 | skip
    all_goals (obtain ⟨_, _, _, e⟩ := s4 h; subst e; first | exact ⟨Nat.le_refl _, Nat.le_refl _⟩ | exact ⟨Nat.le_succ _, Nat.le_add_right _ _⟩)
  case lcmp =>
    simp only [s_1] at h; repeat' split at h
    all_goals first | (cases h; done) | exact f_nm h | exact m_eq (s4 h).2.2.2 | exact m_eq (g_oi h).2.2.2.1 | skip
    all_goals (obtain ⟨_, _, _, e⟩ := s4 h; subst e; first | exact ⟨Nat.le_refl _, Nat.le_refl _⟩ | exact ⟨Nat.le_succ _, Nat.le_add_right _ _⟩)
  case dup =>
    simp only [s_1] at h; repeat' split at h
    all_goals first | (cases h; done) | exact f_nm h | exact m_eq (s4 h).2.2.2 | exact m_eq (g_oi h).2.2.2.1 | skip
    all_goals (obtain ⟨_, _, _, e⟩ := s4 h; subst e; first | exact ⟨Nat.le_refl _, Nat.le_refl _⟩ | exact ⟨Nat.le_succ _, Nat.le_add_right _ _⟩)
  case pop =>
    simp only [s_1] at h; repeat' split at h
    all_goals first | (cases h; done) | exact f_nm h | exact m_eq (s4 h).2.2.2 | exact m_eq (g_oi h).2.2.2.1 | skip
    all_goals (obtain ⟨_, _, _, e⟩ := s4 h; subst e; first | exact ⟨Nat.le_refl _, Nat.le_refl _⟩ | exact ⟨Nat.le_succ _, Nat.le_add_right _ _⟩)
  case dup_x1 =>
    simp only [s_1] at h; repeat' split at h
    all_goals first | (cases h; done) | exact f_nm h | exact m_eq (s4 h).2.2.2 | exact m_eq (g_oi h).2.2.2.1 | skip
    all_goals (obtain ⟨_, _, _, e⟩ := s4 h; subst e; first | exact ⟨Nat.le_refl _, Nat.le_refl _⟩ | exact ⟨Nat.le_succ _, Nat.le_add_right _ _⟩)
  case dup2 =>
    simp only [s_1] at h; repeat' split at h
    all_goals first | (cases h; done) | exact f_nm h | exact m_eq (s4 h).2.2.2 | exact m_eq (g_oi h).2.2.2.1 | skip
    all_goals (obtain ⟨_, _, _, e⟩ := s4 h; subst e; first | exact ⟨Nat.le_refl _, Nat.le_refl _⟩ | exact ⟨Nat.le_succ _, Nat.le_add_right _ _⟩)
  case goto o9 =>
    exact m_eq (g_oi h).2.2.2.1
  case ifCond c9 o9 =>
    simp only [s_1] at h; repeat' split at h
    all_goals first | (cases h; done) | exact f_nm h | exact m_eq (s4 h).2.2.2 | exact m_eq (g_oi h).2.2.2.1 | skip
    all_goals (obtain ⟨_, _, _, e⟩ := s4 h; subst e; first | exact ⟨Nat.le_refl _, Nat.le_refl _⟩ | exact ⟨Nat.le_succ _, Nat.le_add_right _ _⟩)
  case if_icmp c9 o9 =>
    simp only [s_1] at h; repeat' split at h
    all_goals first | (cases h; done) | exact f_nm h | exact m_eq (s4 h).2.2.2 | exact m_eq (g_oi h).2.2.2.1 | skip
    all_goals (obtain ⟨_, _, _, e⟩ := s4 h; subst e; first | exact ⟨Nat.le_refl _, Nat.le_refl _⟩ | exact ⟨Nat.le_succ _, Nat.le_add_right _ _⟩)
  case ifnull o9 =>
    simp only [s_1] at h; repeat' split at h
    all_goals first | (cases h; done) | exact f_nm h | exact m_eq (s4 h).2.2.2 | exact m_eq (g_oi h).2.2.2.1 | skip
    all_goals (obtain ⟨_, _, _, e⟩ := s4 h; subst e; first | exact ⟨Nat.le_refl _, Nat.le_refl _⟩ | exact ⟨Nat.le_succ _, Nat.le_add_right _ _⟩)
  case ifnonnull o9 =>
    simp only [s_1] at h; repeat' split at h
    all_goals first | (cases h; done) | exact f_nm h | exact m_eq (s4 h).2.2.2 | exact m_eq (g_oi h).2.2.2.1 | skip
    all_goals (obtain ⟨_, _, _, e⟩ := s4 h; subst e; first | exact ⟨Nat.le_refl _, Nat.le_refl _⟩ | exact ⟨Nat.le_succ _, Nat.le_add_right _ _⟩)
  case getfield i9 =>
    simp only [s_1] at h; repeat' split at h
    all_goals first | (cases h; done) | exact f_nm h | exact m_eq (s4 h).2.2.2 | exact m_eq (g_oi h).2.2.2.1 | skip
    all_goals (obtain ⟨_, _, _, e⟩ := s4 h; subst e; first | exact ⟨Nat.le_refl _, Nat.le_refl _⟩ | exact ⟨Nat.le_succ _, Nat.le_add_right _ _⟩)
  case putfield i9 =>
    simp only [s_1] at h
    split at h
    · split at h
      · split at h
        · split at h
          · rename_i hp9
            obtain ⟨a1, a2⟩ := p_vm hp9
            obtain ⟨_, _, _, e⟩ := s4 h
            subst e
            omega
          · cases h
        · cases h
      · cases h
    · cases h
  case getstatic i9 =>
    simp only [s_1] at h; repeat' split at h
    all_goals first | (cases h; done) | exact f_nm h | exact m_eq (s4 h).2.2.2 | exact m_eq (g_oi h).2.2.2.1 | skip
    all_goals (obtain ⟨_, _, _, e⟩ := s4 h; subst e; first | exact ⟨Nat.le_refl _, Nat.le_refl _⟩ | exact ⟨Nat.le_succ _, Nat.le_add_right _ _⟩)
  case ldc i9 =>
    simp only [s_1] at h; repeat' split at h
    all_goals first | (cases h; done) | exact f_nm h | exact m_eq (s4 h).2.2.2 | exact m_eq (g_oi h).2.2.2.1 | skip
    all_goals (obtain ⟨_, _, _, e⟩ := s4 h; subst e; first | exact ⟨Nat.le_refl _, Nat.le_refl _⟩ | exact ⟨Nat.le_succ _, Nat.le_add_right _ _⟩)
  case ldc_w i9 =>
    simp only [s_1] at h; repeat' split at h
    all_goals first | (cases h; done) | exact f_nm h | exact m_eq (s4 h).2.2.2 | exact m_eq (g_oi h).2.2.2.1 | skip
    all_goals (obtain ⟨_, _, _, e⟩ := s4 h; subst e; first | exact ⟨Nat.le_refl _, Nat.le_refl _⟩ | exact ⟨Nat.le_succ _, Nat.le_add_right _ _⟩)
  case ldc2_w i9 =>
    simp only [s_1] at h; repeat' split at h
    all_goals first | (cases h; done) | exact f_nm h | exact m_eq (s4 h).2.2.2 | exact m_eq (g_oi h).2.2.2.1 | skip
    all_goals (obtain ⟨_, _, _, e⟩ := s4 h; subst e; first | exact ⟨Nat.le_refl _, Nat.le_refl _⟩ | exact ⟨Nat.le_succ _, Nat.le_add_right _ _⟩)
  case new i9 =>
    simp only [s_1] at h; repeat' split at h
    all_goals first | (cases h; done) | exact f_nm h | exact m_eq (s4 h).2.2.2 | exact m_eq (g_oi h).2.2.2.1 | skip
    all_goals (obtain ⟨_, _, _, e⟩ := s4 h; subst e; first | exact ⟨Nat.le_refl _, Nat.le_refl _⟩ | exact ⟨Nat.le_succ _, Nat.le_add_right _ _⟩)
  case newarray t9 =>
    simp only [s_1] at h; repeat' split at h
    all_goals first | (cases h; done) | exact f_nm h | exact m_eq (s4 h).2.2.2 | exact m_eq (g_oi h).2.2.2.1 | skip
    all_goals (obtain ⟨_, _, _, e⟩ := s4 h; subst e; first | exact ⟨Nat.le_refl _, Nat.le_refl _⟩ | exact ⟨Nat.le_succ _, Nat.le_add_right _ _⟩)
  case anewarray i9 =>
    simp only [s_1] at h; repeat' split at h
    all_goals first | (cases h; done) | exact f_nm h | exact m_eq (s4 h).2.2.2 | exact m_eq (g_oi h).2.2.2.1 | skip
    all_goals (obtain ⟨_, _, _, e⟩ := s4 h; subst e; first | exact ⟨Nat.le_refl _, Nat.le_refl _⟩ | exact ⟨Nat.le_succ _, Nat.le_add_right _ _⟩)
  case arraylength =>
    simp only [s_1] at h; repeat' split at h
    all_goals first | (cases h; done) | exact f_nm h | exact m_eq (s4 h).2.2.2 | exact m_eq (g_oi h).2.2.2.1 | skip
    all_goals (obtain ⟨_, _, _, e⟩ := s4 h; subst e; first | exact ⟨Nat.le_refl _, Nat.le_refl _⟩ | exact ⟨Nat.le_succ _, Nat.le_add_right _ _⟩)
  case iaload =>
    simp only [s_1] at h; repeat' split at h
    all_goals first | (cases h; done) | exact f_nm h | exact m_eq (s4 h).2.2.2 | exact m_eq (g_oi h).2.2.2.1 | skip
    all_goals (obtain ⟨_, _, _, e⟩ := s4 h; subst e; first | exact ⟨Nat.le_refl _, Nat.le_refl _⟩ | exact ⟨Nat.le_succ _, Nat.le_add_right _ _⟩)
  case baload =>
    simp only [s_1] at h; repeat' split at h
    all_goals first | (cases h; done) | exact f_nm h | exact m_eq (s4 h).2.2.2 | exact m_eq (g_oi h).2.2.2.1 | skip
    all_goals (obtain ⟨_, _, _, e⟩ := s4 h; subst e; first | exact ⟨Nat.le_refl _, Nat.le_refl _⟩ | exact ⟨Nat.le_succ _, Nat.le_add_right _ _⟩)
  case laload =>
    simp only [s_1] at h; repeat' split at h
    all_goals first | (cases h; done) | exact f_nm h | exact m_eq (s4 h).2.2.2 | exact m_eq (g_oi h).2.2.2.1 | skip
    all_goals (obtain ⟨_, _, _, e⟩ := s4 h; subst e; first | exact ⟨Nat.le_refl _, Nat.le_refl _⟩ | exact ⟨Nat.le_succ _, Nat.le_add_right _ _⟩)
  case aaload =>
    simp only [s_1] at h; repeat' split at h
    all_goals first | (cases h; done) | exact f_nm h | exact m_eq (s4 h).2.2.2 | exact m_eq (g_oi h).2.2.2.1 | skip
    all_goals (obtain ⟨_, _, _, e⟩ := s4 h; subst e; first | exact ⟨Nat.le_refl _, Nat.le_refl _⟩ | exact ⟨Nat.le_succ _, Nat.le_add_right _ _⟩)
  case iastore =>
    simp only [s_1] at h; repeat' split at h
    all_goals first | (cases h; done) | exact f_nm h | exact m_eq (s4 h).2.2.2 | exact m_eq (g_oi h).2.2.2.1 | skip
    all_goals (obtain ⟨_, _, _, e⟩ := s4 h; subst e; first | exact ⟨Nat.le_refl _, Nat.le_refl _⟩ | exact ⟨Nat.le_succ _, Nat.le_add_right _ _⟩)
  case bastore =>
    simp only [s_1] at h; repeat' split at h
    all_goals first | (cases h; done) | exact f_nm h | exact m_eq (s4 h).2.2.2 | exact m_eq (g_oi h).2.2.2.1 | skip
    all_goals (obtain ⟨_, _, _, e⟩ := s4 h; subst e; first | exact ⟨Nat.le_refl _, Nat.le_refl _⟩ | exact ⟨Nat.le_succ _, Nat.le_add_right _ _⟩)
  case lastore =>
    simp only [s_1] at h; repeat' split at h
    all_goals first | (cases h; done) | exact f_nm h | exact m_eq (s4 h).2.2.2 | exact m_eq (g_oi h).2.2.2.1 | skip
    all_goals (obtain ⟨_, _, _, e⟩ := s4 h; subst e; first | exact ⟨Nat.le_refl _, Nat.le_refl _⟩ | exact ⟨Nat.le_succ _, Nat.le_add_right _ _⟩)
  case aastore =>
    simp only [s_1] at h; repeat' split at h
    all_goals first | (cases h; done) | exact f_nm h | exact m_eq (s4 h).2.2.2 | exact m_eq (g_oi h).2.2.2.1 | skip
    all_goals (obtain ⟨_, _, _, e⟩ := s4 h; subst e; first | exact ⟨Nat.le_refl _, Nat.le_refl _⟩ | exact ⟨Nat.le_succ _, Nat.le_add_right _ _⟩)
  case checkcast i9 =>
    simp only [s_1] at h; repeat' split at h
    all_goals first | (cases h; done) | exact f_nm h | exact m_eq (s4 h).2.2.2 | exact m_eq (g_oi h).2.2.2.1 | skip
    all_goals (obtain ⟨_, _, _, e⟩ := s4 h; subst e; first | exact ⟨Nat.le_refl _, Nat.le_refl _⟩ | exact ⟨Nat.le_succ _, Nat.le_add_right _ _⟩)
  case instanceof i9 =>
    simp only [s_1] at h; repeat' split at h
    all_goals first | (cases h; done) | exact f_nm h | exact m_eq (s4 h).2.2.2 | exact m_eq (g_oi h).2.2.2.1 | skip
    all_goals (obtain ⟨_, _, _, e⟩ := s4 h; subst e; first | exact ⟨Nat.le_refl _, Nat.le_refl _⟩ | exact ⟨Nat.le_succ _, Nat.le_add_right _ _⟩)
  case invokestatic i9 =>
    simp only [s_1] at h; split at h <;> first | exact n_2m h | cases h
  case invokespecial i9 =>
    simp only [s_1] at h; split at h <;> first | exact n_2m h | cases h
  case invokevirtual i9 =>
    simp only [s_1] at h; split at h <;> first | exact n_2m h | cases h
  case if_acmp c9 o9 =>
    cases c9 <;> (simp only [s_1] at h; repeat' split at h) <;> first | (cases h; done) | exact m_eq (g_oi h).2.2.2.1
  case tableswitch a9 b9 c9 o9 =>
    simp only [s_1] at h; repeat' split at h
    all_goals first | (cases h; done) | exact m_eq (g_oi h).2.2.2.1
  all_goals exact absurd h (by simp [s_1])
theorem st_1 {i : Instr} {len : Nat} (C : Cx_ p l R s m args meth c G w0 zE mi d) (hz : zE ≤ w_z w) (hsl : sE ≤ w_s w) (hr : w_z w1 - zE ≤ R.cells ∧ w_s w1 - sE ≤ R.slots) (hd : decode (m_c mi) pc = .ok (i, len)) (hl : l_k i len = true) (h : s_1 mi i pc ls st w = some (pc1, ls1, st1, w1)) (k : WW_ p l e R s m args below meth c D G w0 Q (m_l mi) zE sE w1 ls1 st1 pc1) : WW_ p l e R s m args below meth c D G w0 Q (m_l mi) zE sE w ls st pc := by
  cases i
  case iconst n9 =>
    have e : len = 1 := by simpa [l_k] using hl
    subst e
    exact a_iconst C hz hsl hr hd h k
  case bipush n9 =>
    have e : len = 2 := by simpa [l_k] using hl
    subst e
    exact a_bipush C hz hsl hr hd h k
  case sipush n9 =>
    have e : len = 3 := by simpa [l_k] using hl
    subst e
    exact a_sipush C hz hsl hr hd h k
  case lconst n9 =>
    have e : len = 1 := by simpa [l_k] using hl
    subst e
    exact a_lconst C hz hsl hr hd h k
  case aconst_null =>
    have e : len = 1 := by simpa [l_k] using hl
    subst e
    exact a_aconst_null C hz hsl hr hd h k
  case iload_n k9 =>
    have e : len = 1 := by simpa [l_k] using hl
    subst e
    exact a_iload_n C hz hsl hr hd h k
  case iload k9 =>
    have e : len = 2 := by simpa [l_k] using hl
    subst e
    exact a_iload C hz hsl hr hd h k
  case lload_n k9 =>
    have e : len = 1 := by simpa [l_k] using hl
    subst e
    exact a_lload_n C hz hsl hr hd h k
  case lload k9 =>
    have e : len = 2 := by simpa [l_k] using hl
    subst e
    exact a_lload C hz hsl hr hd h k
  case aload_n k9 =>
    have e : len = 1 := by simpa [l_k] using hl
    subst e
    exact a_aload_n C hz hsl hr hd h k
  case aload k9 =>
    have e : len = 2 := by simpa [l_k] using hl
    subst e
    exact a_aload C hz hsl hr hd h k
  case istore_n k9 =>
    have e : len = 1 := by simpa [l_k] using hl
    subst e
    exact a_istore_n C hz hsl hr hd h k
  case istore k9 =>
    have e : len = 2 := by simpa [l_k] using hl
    subst e
    exact a_istore C hz hsl hr hd h k
  case lstore_n k9 =>
    have e : len = 1 := by simpa [l_k] using hl
    subst e
    exact a_lstore_n C hz hsl hr hd h k
  case lstore k9 =>
    have e : len = 2 := by simpa [l_k] using hl
    subst e
    exact a_lstore C hz hsl hr hd h k
  case astore_n k9 =>
    have e : len = 1 := by simpa [l_k] using hl
    subst e
    exact a_astore_n C hz hsl hr hd h k
  case astore k9 =>
    have e : len = 2 := by simpa [l_k] using hl
    subst e
    exact a_astore C hz hsl hr hd h k
  case iinc k9 n9 =>
    have e : len = 3 := by simpa [l_k] using hl
    subst e
    exact a_iinc C hz hsl hr hd h k
  case iadd =>
    have e : len = 1 := by simpa [l_k] using hl
    subst e
    exact a_iadd C hz hsl hr hd h k
  case isub =>
    have e : len = 1 := by simpa [l_k] using hl
    subst e
    exact a_isub C hz hsl hr hd h k
  case imul =>
    have e : len = 1 := by simpa [l_k] using hl
    subst e
    exact a_imul C hz hsl hr hd h k
  case iand =>
    have e : len = 1 := by simpa [l_k] using hl
    subst e
    exact a_iand C hz hsl hr hd h k
  case ior =>
    have e : len = 1 := by simpa [l_k] using hl
    subst e
    exact a_ior C hz hsl hr hd h k
  case ixor =>
    have e : len = 1 := by simpa [l_k] using hl
    subst e
    exact a_ixor C hz hsl hr hd h k
  case ishl =>
    have e : len = 1 := by simpa [l_k] using hl
    subst e
    exact a_ishl C hz hsl hr hd h k
  case ishr =>
    have e : len = 1 := by simpa [l_k] using hl
    subst e
    exact a_ishr C hz hsl hr hd h k
  case iushr =>
    have e : len = 1 := by simpa [l_k] using hl
    subst e
    exact a_iushr C hz hsl hr hd h k
  case idiv =>
    have e : len = 1 := by simpa [l_k] using hl
    subst e
    exact a_idiv C hz hsl hr hd h k
  case irem =>
    have e : len = 1 := by simpa [l_k] using hl
    subst e
    exact a_irem C hz hsl hr hd h k
  case ineg =>
    have e : len = 1 := by simpa [l_k] using hl
    subst e
    exact a_ineg C hz hsl hr hd h k
  case i2l =>
    have e : len = 1 := by simpa [l_k] using hl
    subst e
    exact a_i2l C hz hsl hr hd h k
  case i2b =>
    have e : len = 1 := by simpa [l_k] using hl
    subst e
    exact a_i2b C hz hsl hr hd h k
  case i2c =>
    have e : len = 1 := by simpa [l_k] using hl
    subst e
    exact a_i2c C hz hsl hr hd h k
  case ladd =>
    have e : len = 1 := by simpa [l_k] using hl
    subst e
    exact a_ladd C hz hsl hr hd h k
  case lcmp =>
    have e : len = 1 := by simpa [l_k] using hl
    subst e
    exact a_lcmp C hz hsl hr hd h k
  case dup =>
    have e : len = 1 := by simpa [l_k] using hl
    subst e
    exact a_dup C hz hsl hr hd h k
  case pop =>
    have e : len = 1 := by simpa [l_k] using hl
    subst e
    exact a_pop C hz hsl hr hd h k
  case dup_x1 =>
    have e : len = 1 := by simpa [l_k] using hl
    subst e
    exact a_dup_x1 C hz hsl hr hd h k
  case dup2 =>
    have e : len = 1 := by simpa [l_k] using hl
    subst e
    exact a_dup2 C hz hsl hr hd h k
  case goto o9 =>
    have e : len = 3 := by simpa [l_k] using hl
    subst e
    exact a_goto C hz hsl hr hd h k
  case ifCond c9 o9 =>
    have e : len = 3 := by simpa [l_k] using hl
    subst e
    exact a_ifCond C hz hsl hr hd h k
  case if_icmp c9 o9 =>
    have e : len = 3 := by simpa [l_k] using hl
    subst e
    exact a_if_icmp C hz hsl hr hd h k
  case ifnull o9 =>
    have e : len = 3 := by simpa [l_k] using hl
    subst e
    exact a_ifnull C hz hsl hr hd h k
  case ifnonnull o9 =>
    have e : len = 3 := by simpa [l_k] using hl
    subst e
    exact a_ifnonnull C hz hsl hr hd h k
  case getfield i9 =>
    have e : len = 3 := by simpa [l_k] using hl
    subst e
    exact a_getfield C hz hsl hr hd h k
  case putfield i9 =>
    have e : len = 3 := by simpa [l_k] using hl
    subst e
    exact a_putfield C hz hsl hr hd h k
  case getstatic i9 =>
    have e : len = 3 := by simpa [l_k] using hl
    subst e
    exact a_getstatic C hz hsl hr hd h k
  case ldc i9 =>
    have e : len = 2 := by simpa [l_k] using hl
    subst e
    exact a_ldc C hz hsl hr hd h k
  case ldc_w i9 =>
    have e : len = 3 := by simpa [l_k] using hl
    subst e
    exact a_ldc_w C hz hsl hr hd h k
  case ldc2_w i9 =>
    have e : len = 3 := by simpa [l_k] using hl
    subst e
    exact a_ldc2_w C hz hsl hr hd h k
  case new i9 =>
    have e : len = 3 := by simpa [l_k] using hl
    subst e
    exact a_new C hz hsl hr hd h k
  case newarray t9 =>
    have e : len = 2 := by simpa [l_k] using hl
    subst e
    exact a_newarray C hz hsl hr hd h k
  case anewarray i9 =>
    have e : len = 3 := by simpa [l_k] using hl
    subst e
    exact a_anewarray C hz hsl hr hd h k
  case arraylength =>
    have e : len = 1 := by simpa [l_k] using hl
    subst e
    exact a_arraylength C hz hsl hr hd h k
  case iaload =>
    have e : len = 1 := by simpa [l_k] using hl
    subst e
    exact a_iaload C hz hsl hr hd h k
  case baload =>
    have e : len = 1 := by simpa [l_k] using hl
    subst e
    exact a_baload C hz hsl hr hd h k
  case laload =>
    have e : len = 1 := by simpa [l_k] using hl
    subst e
    exact a_laload C hz hsl hr hd h k
  case aaload =>
    have e : len = 1 := by simpa [l_k] using hl
    subst e
    exact a_aaload C hz hsl hr hd h k
  case iastore =>
    have e : len = 1 := by simpa [l_k] using hl
    subst e
    exact a_iastore C hz hsl hr hd h k
  case bastore =>
    have e : len = 1 := by simpa [l_k] using hl
    subst e
    exact a_bastore C hz hsl hr hd h k
  case lastore =>
    have e : len = 1 := by simpa [l_k] using hl
    subst e
    exact a_lastore C hz hsl hr hd h k
  case aastore =>
    have e : len = 1 := by simpa [l_k] using hl
    subst e
    exact a_aastore C hz hsl hr hd h k
  case checkcast i9 =>
    have e : len = 3 := by simpa [l_k] using hl
    subst e
    exact a_checkcast C hz hsl hr hd h k
  case instanceof i9 =>
    have e : len = 3 := by simpa [l_k] using hl
    subst e
    exact a_instanceof C hz hsl hr hd h k
  case invokestatic i9 =>
    have e : len = 3 := by simpa [l_k] using hl
    subst e
    exact a_invokestatic C hz hsl hr hd h k
  case invokespecial i9 =>
    have e : len = 3 := by simpa [l_k] using hl
    subst e
    exact a_invokespecial C hz hsl hr hd h k
  case invokevirtual i9 =>
    have e : len = 3 := by simpa [l_k] using hl
    subst e
    exact a_invokevirtual C hz hsl hr hd h k
  case if_acmp c9 o9 =>
    have e : len = 3 := by simpa [l_k] using hl
    subst e
    cases c9
    · exact a_acmp_eq C hz hsl hr hd h k
    · exact a_acmp_ne C hz hsl hr hd h k
  case tableswitch a9 b9 c9 o9 => exact a_tableswitch C hz hsl hr hd h k
  all_goals exact absurd h (by simp [s_1])
end
