/-! CALLS: a callee's run is a contract; a contract at a call -/
set_option maxRecDepth 100000
def rm_ (d mc ms : Nat) : Room := { frames := d + 8, cells := mc, slots := ms, locals := 60 * d + 400 }
def Pc_ (D : va_G) (G : GG_) (w0 : Wd) (as : List Vl) (w : Wd) : Array Value → State → Prop := va_Pc (as.map (tv_ G)) (fun U => GI_ G w0 U U.heap ∧ RW_ D G w0 w U U.heap)
def Qc_ (D : va_G) (G : GG_) (w0 : Wd) (res : Rs × Wd) : Array Value → State → Outcome → State → Prop := fun _ st o t => (∃ v : Option Vl, res.1 = Sum.inl v ∧ o = .returned (v.map (tv_ G))) ∧ RW_ D G w0 res.2 t t.heap ∧ va_F (A_ G) st t
def XC_ (D : va_G) (G : GG_) (w0 : Wd) (res : Rs × Wd) : String → Addr → State → State → Prop := fun E q st t => (∃ a : Nat, res.1 = Sum.inr a ∧ 1000 ≤ a ∧ q = G.1 + (a - 1000) ∧ E = c_n (w_t res.2 a) ∧ 39 ≤ w_t res.2 a ∧ w_t res.2 a ≤ 41) ∧ RW_ D G w0 res.2 t t.heap ∧ va_F (A_ G) st t
def ws9 (t : Nat) : List Cond := match m_h t with
  | none => ws_ (m_y t) (m_c t) (m_l t) (m_r t)
  | some hh => wsW_ (m_y t) (m_c t) (m_l t) (m_r t) hh
def Met_ (l : Launch) (D : va_G) (G : GG_) (w0 : Wd) (d t : Nat) (as : List Vl) (w : Wd) (res : Rs × Wd) : Prop := vx_Met l (m_y t) (ws9 t) (rm_ d (w_z res.2 - w_z w) (w_s res.2 - w_s w)) (Pc_ D G w0 as w) (Qc_ D G w0 res) (XC_ D G w0 res) (w_z res.2 - w_z w) (w_s res.2 - w_s w) (A_ G)
def Run_ (l : Launch) (D : va_G) (G : GG_) (w0 : Wd) (d mi pc : Nat) (ls : List (Option Vl)) (st : List Vl) (w : Wd) (res : Rs × Wd) : Prop := ∀ (p : Program) (e : Env) (R : Room) (s : State) (m : MethodId) (args : Array Value) (below : List Frame) (meth : Method) (c : Code) (zE sE : Nat), Cx_ p l R s m args meth c G w0 zE mi d → zE ≤ w_z w → sE ≤ w_s w → w_z res.2 - zE ≤ R.cells → w_s res.2 - sE ≤ R.slots →
  WW_ p l e R s m args below meth c D G w0 (vx_MQ below (Qc_ D G w0 res) (XC_ D G w0 res) args s (w_z res.2 - zE) (w_s res.2 - sE) (A_ G)) (m_l mi) zE sE w ls st pc
theorem m_okk (t : Nat) : M_ok (m_e t) = true := by
  unfold m_e
  rw [List.getD_eq_getElem?_getD]
  cases h : m_t[t]? with
  | none => show M_ok e_0 = true; decide +kernel
  | some e => exact List.all_eq_true.mp m_ok e (List.mem_of_getElem? h)
theorem m_okp (t : Nat) : plainName (m_y t).cls = true ∧ ((m_y t).cls ≠ "java/lang/invoke/MethodHandle" ∧ (m_y t).cls ≠ "java/lang/invoke/VarHandle" ∧ (parseMethodDescriptor (m_y t).desc).map (fun d => d.parameters.length) = some (m_n t)) ∧ m_l t ≤ 30 ∧ o_s (o_m t) = (m_y t).cls ∧ (match m_r t with | none => m_k t = 6 | some ty => k_d ty = m_k t) := by
  have h := m_okk t
  unfold M_ok at h
  simp only [Bool.and_eq_true, decide_eq_true_eq] at h
  obtain ⟨⟨⟨⟨⟨⟨h1, h2⟩, h3⟩, h4⟩, h5⟩, h6⟩, h7⟩ := h
  refine ⟨h1, ⟨h2, h3, h4⟩, h5, h6, ?_⟩
  show match (m_e t).2.2.2.2.1 with | none => _ | some ty => _
  cases hr : (m_e t).2.2.2.2.1 with
  | none => rw [hr] at h7; exact of_decide_eq_true h7
  | some ty => rw [hr] at h7; exact of_decide_eq_true h7
theorem blind_ {D : va_G} {G : GG_} {w0 : Wd} (hN : GN_ G w0) (as : List Vl) (w : Wd) : FrameBlind (Pc_ D G w0 as w) := by
  intro a U g mk h
  obtain ⟨h1, h2, h3⟩ := h
  exact ⟨h1, GI_.moved (s := U) (U := U.calling g mk a) hN (State.WarmedH.refl U) (Nat.le_refl _) (fun _ _ _ => rfl) h2, RW_.moved (u := U) (U := U.calling g mk a) (Vm.Alike.refl U.vm) h3⟩
theorem met_of {l : Launch} {D : va_G} {G : GG_} {w0 : Wd} {d t : Nat} {as : List Vl} {w : Wd} {res : Rs × Wd} (hst : l.stackTraces = false) (hN : GN_ G w0) (hlen : (e_a as).length ≤ m_l t) (hrun : Run_ l D G w0 d t 0 (e_l (m_l t) as) [] w res) : Met_ l D G w0 d t as w res := by
  obtain ⟨hpl, hdd, hl30, how, hk⟩ := m_okp t
  unfold Met_ ws9
  cases hh : m_h t with
  | none =>
    refine vx_ofW (cc := m_c t) (maxL := m_l t) (ret := m_r t) hpl rfl ?_
    intro p e s m args below meth c s₁ B hml hno hv
    obtain ⟨rfl, hI, hW⟩ := hv
    have hts := atoms_spec (ws := ws_ (m_y t) (m_c t) (m_l t) (m_r t)) B.pre
    have hts : ∀ w ∈ lw_all, w.before _ s = true := fun w h => hts w (List.mem_cons_of_mem _ h)
    have hown : s.vm.findClass (o_s (o_m t)) = some m.cls := by rw [how]; exact findClass_of_methodNamed B.named
    obtain ⟨ws, tys, hX, hsz⟩ := hW.parts
    have C : Cx_ p l (rm_ d (w_z res.2 - w_z w) (w_s res.2 - w_s w)) s m (as.map (tv_ G)).toArray meth c G w0 (w_z w) t d :=
      ⟨B.exec, B.bytes, B.returns, hml, hown, hts, B.notSynchronized, fun z => by rw [(name_of_methodNamed B.named B.method).1]; exact z, by rw [hh]; exact hno, hN, hI, hst, Nat.le_refl _, Nat.le_refl _, hsz, hX.2.2.2.2.1⟩
    have h := hrun p e _ s m _ below meth c (w_z w) (w_s w) C (Nat.le_refl _) (Nat.le_refl _) (Nat.le_refl _) (Nat.le_refl _) s.heap [] _ hW va_S.rf (LH_.entry G as hlen)
    rw [lg_entry_eq]
    rw [Nat.sub_self, Nat.sub_self] at h
    exact h
  | some hh9 =>
    refine vx_ofWH (cc := m_c t) (maxL := m_l t) (ret := m_r t) (hh := hh9) hpl rfl ?_
    intro p e s m args below meth c s₁ B hml hv
    obtain ⟨rfl, hI, hW⟩ := hv
    have hts0 := atoms_spec (ws := wsW_ (m_y t) (m_c t) (m_l t) (m_r t) hh9) B.pre
    have hts : ∀ w ∈ lw_all, w.before _ s = true := fun w h => hts0 w (List.mem_cons_of_mem _ h)
    have hown : s.vm.findClass (o_s (o_m t)) = some m.cls := by rw [how]; exact findClass_of_methodNamed B.named
    obtain ⟨ws, tys, hX, hsz⟩ := hW.parts
    have C : Cx_ p l (rm_ d (w_z res.2 - w_z w) (w_s res.2 - w_s w)) s m (as.map (tv_ G)).toArray meth c G w0 (w_z w) t d :=
      ⟨B.exec, B.bytes, B.returns, hml, hown, hts, B.notSynchronized, fun z => by rw [(name_of_methodNamed B.named B.method).1]; exact z, by rw [hh]; exact vx_table (x := m_y t) B (hts0 _ List.mem_cons_self), hN, hI, hst, Nat.le_refl _, Nat.le_refl _, hsz, hX.2.2.2.2.1⟩
    have h := hrun p e _ s m _ below meth c (w_z w) (w_s w) C (Nat.le_refl _) (Nat.le_refl _) (Nat.le_refl _) (Nat.le_refl _) s.heap [] _ hW va_S.rf (LH_.entry G as hlen)
    rw [lg_entry_eq]
    rw [Nat.sub_self, Nat.sub_self] at h
    exact h
section
variable {p : Program} {l : Launch} {e : Env} {R : Room} {s : State} {m : MethodId} {args : Array Value} {below : List Frame} {meth : Method} {c : Code} {D : va_G} {G : GG_} {w0 : Wd} {Q : State → Prop} {zE sE mi d pc : Nat} {ls : List (Option Vl)} {st r as : List Vl} {w : Wd} {res : Rs × Wd} {H : Heap} {locs : List Loc} {L : Array Slot}
theorem pre_ (hN : GN_ G w0) (hI : GI_ G w0 s s.heap) (hW : RW_ D G w0 w s H) (hS : va_S (A_ G) s.heap H locs) (as : List Vl) : PreS s H (Pc_ D G w0 as w) (as.map (tv_ G)) :=
  ⟨blind_ hN as w, fun U hU hw => ⟨rfl, by rw [hU]; exact GI_.moved hN hw hS.1 hS.2.1 hI, by rw [hU]; exact hW.moved hw.alike⟩⟩
/-- a receiver: its class by its tag -/
theorem recv_ (hN : GN_ G w0) (hI : GI_ G w0 s s.heap) {ws : va_W} {tys : List (ClassId × FieldType)} (hX : RX_ D G w0 w s H ws tys) (hS : va_S (A_ G) s.heap H locs) {a : Nat} (hg : w_t w a = 17 ∨ w_t w a = 18 ∨ (20 ≤ w_t w a ∧ w_t w a ≤ 41)) : ∃ b : Nat, tv_ G (v_R (some a)) = .ref b ∧ ∃ cellB : Cell, H[b]? = some cellB ∧ cellB.vm.isStatics = false ∧ s.vm.findClass (c_n (w_t w a)) = some cellB.cls := by
  rcases hg with hg | hg | ⟨hg, hg2⟩
  · have ha := hX.con hN (a := a) (by omega) (by omega)
    obtain ⟨e1, -⟩ := hX.2.2.2.2.2.2 a ha
    obtain ⟨q, hq, hO, -⟩ := (GC_.get hI a ha).2.1 (by rw [← e1]; exact hg)
    refine ⟨q, tv_con ha hq, ?_⟩
    rw [hg]
    exact va_Orecv hO hS
  · have ha := hX.con hN (a := a) (by omega) (by omega)
    obtain ⟨e1, -⟩ := hX.2.2.2.2.2.2 a ha
    obtain ⟨q, hq, hO, -⟩ := (GC_.get hI a ha).1 (by rw [← e1]; exact hg)
    refine ⟨q, tv_con ha hq, ?_⟩
    rw [hg]
    exact va_Orecv hO hS
  · obtain ⟨q, ha, haz, h41, hq⟩ := hX.obj hN hg
    refine ⟨_, tv_dyn ha, ?_⟩
    have hcn : c_n (w_t w a) = (c_e (w_t w a - 20)).1 := by
      unfold c_n
      rw [if_neg (by omega), if_neg (by omega)]
    rw [hcn]
    exact va_recv hX.1 hX.2.1 (c_at (by omega)) hq
theorem st_split (n : Nat) (st : List Vl) : st.map (tv_ G) = (((st.take n).reverse).map (tv_ G)).reverse ++ (st.drop n).map (tv_ G) := by
  rw [List.map_reverse, List.reverse_reverse, ← List.map_append, List.take_append_drop]
/-- what every call asks of room -/
theorem room_ {d1 t : Nat} (hRf : d1 + 1 + 8 ≤ R.frames) (hRl : 60 * (d1 + 1) + 400 ≤ R.locals) (mc ms : Nat) : (rm_ d1 mc ms).frames + 1 ≤ R.frames ∧ 8 + (m_l t + 11) + (rm_ d1 mc ms).locals ≤ R.locals := by
  have h30 := (m_okp t).2.2.1
  exact ⟨by show d1 + 8 + 1 ≤ _; omega, by show 8 + (m_l t + 11) + (60 * d1 + 400) ≤ _; omega⟩
abbrev VR_ (p : Program) (l : Launch) (e : Env) (R : Room) (s : State) (m : MethodId) (args : Array Value) (below : List Frame) (meth : Method) (c : Code) (D : va_G) (G : GG_) (w0 : Wd) (zE sE : Nat) (pc : Nat) (L : Array Slot) (st r as : List Vl) (w : Wd) (res : Rs × Wd) (H : Heap) (locs : List Loc) : Prop :=
  vx_Run p l e R s m args below meth c H locs (w_z w - zE) (w_s w - sE) (w_z res.2 - w_z w) (w_s res.2 - w_s w) (F0 m pc L (st.map (tv_ G))) (r.map (tv_ G)) (Qc_ D G w0 res (as.map (tv_ G)).toArray) (XC_ D G w0 res) (A_ G)
theorem run_S {d1 t idx : Nat} (C : Cx_ p l R s m args meth c G w0 zE mi (d1 + 1)) (hW : RW_ D G w0 w s H) (hS : va_S (A_ G) s.heap H locs) (hL : LH_ G L ls (m_l mi)) (hd : decode (m_c mi) pc = .ok (.invokestatic idx, 3)) (hok : S_ok (o_m mi) idx t) (hM : Met_ l D G w0 d1 t ((st.take (m_n t)).reverse) w res) (hlen : m_n t ≤ st.length) (h8 : s_8 (st.drop (m_n t)) = true)
    (hf : w_z w - zE + (w_z res.2 - w_z w) ≤ R.cells ∧ w_s w - sE + (w_s res.2 - w_s w) ≤ R.slots) : VR_ p l e R s m args below meth c D G w0 zE sE pc L st (st.drop (m_n t)) ((st.take (m_n t)).reverse) w res H locs := by
  obtain ⟨hx, hb, hrt, hml, hown, hts, hlk, hini, hht, hN, hI, hst0, hRf, hRl, hE, hE0⟩ := C
  obtain ⟨h1, h2, h3, h4⟩ := hok
  obtain ⟨hpl, hdd, hl30, how, hk⟩ := m_okp t
  have hn : (((st.take (m_n t)).reverse).map (tv_ G)).length = m_n t := by simp [hlen]
  have h9 := s8_ (G := G) h8
  unfold Met_ ws9 at hM
  unfold cd_ at h4
  cases hh : m_h t with
  | none =>
    rw [hh] at hM h4
    exact vx_runS (Ts := lw_all) ⟨hx, hb, hml, hown, hts⟩ hM (va_cwS (m_n t) hts (lw_S h1 h2 h3 h4) rfl rfl rfl hdd (room_ hRf hRl _ _)) (pre_ hN hI hW hS _) rfl hn hL.1.1 (st_split (m_n t) st) (by show 2 * 0 + _ ≤ 8; omega) hd hf
  | some hh9 =>
    rw [hh] at hM h4
    exact vx_runSX (Ts := lw_all) ⟨hx, hb, hml, hown, hts⟩ hM (vx_cwSW (m_n t) hts (lw_SW h1 h2 h3 h4) rfl rfl rfl hdd (room_ hRf hRl _ _)) (pre_ hN hI hW hS _) rfl hn hL.1.1 (st_split (m_n t) st) (by show 2 * 0 + _ ≤ 8; omega) hd hf
theorem run_V {d1 t idx a : Nat} (C : Cx_ p l R s m args meth c G w0 zE mi (d1 + 1)) (hW : RW_ D G w0 w s H) (hS : va_S (A_ G) s.heap H locs) (hL : LH_ G L ls (m_l mi)) (hd : decode (m_c mi) pc = .ok (.invokevirtual idx, 3)) (hok : V_ok (o_m mi) idx (w_t w a) t) (hM : Met_ l D G w0 d1 t (v_R (some a) :: (st.take (m_n t)).reverse) w res) (hdr : st.drop (m_n t) = v_R (some a) :: r) (h8 : s_8 r = true)
    (hf : w_z w - zE + (w_z res.2 - w_z w) ≤ R.cells ∧ w_s w - sE + (w_s res.2 - w_s w) ≤ R.slots) : VR_ p l e R s m args below meth c D G w0 zE sE pc L st r (v_R (some a) :: (st.take (m_n t)).reverse) w res H locs := by
  obtain ⟨hx, hb, hrt, hml, hown, hts, hlk, hini, hht, hN, hI, hst0, hRf, hRl, hE, hE0⟩ := C
  obtain ⟨ws, tys, hX, hsz⟩ := hW.parts
  obtain ⟨hg, hok⟩ := hok
  obtain ⟨b, htv, hrc⟩ := recv_ hN hI hX hS hg
  obtain ⟨hpl, hdd, hl30, how, hk⟩ := m_okp t
  have hlen : m_n t ≤ st.length := by
    rcases Nat.lt_or_ge st.length (m_n t) with z | z
    · rw [List.drop_eq_nil_of_le (by omega)] at hdr; cases hdr
    · exact z
  have hn : (((st.take (m_n t)).reverse).map (tv_ G)).length = m_n t := by simp [hlen]
  have h9 := s8_ (G := G) h8
  have hstk : st.map (tv_ G) = (((st.take (m_n t)).reverse).map (tv_ G)).reverse ++ .ref b :: r.map (tv_ G) := by
    rw [st_split (m_n t) st, hdr, List.map_cons, htv]
  have hpre := pre_ hN hI hW hS (v_R (some a) :: (st.take (m_n t)).reverse)
  rw [List.map_cons, htv] at hpre
  have hpv : PreV s H (c_n (w_t w a)) b (Pc_ D G w0 (v_R (some a) :: (st.take (m_n t)).reverse) w) (((st.take (m_n t)).reverse).map (tv_ G)) := ⟨hpre.1, hrc, hpre.2⟩
  unfold VR_
  rw [List.map_cons (l := (st.take (m_n t)).reverse), htv]
  unfold Met_ ws9 at hM
  rcases hok with ⟨hc, h1, h2, h3, h4, h5⟩ | ⟨hh, own, x, h1, h2, h3, h4, h5, h6, h7, h10⟩ | ⟨hh, h1, h2, h3, h4, h5, h6, -⟩
  · unfold cd_ at h5
    cases hh : m_h t with
    | none =>
      rw [hh] at hM h5
      exact vx_runV (Ts := lw_all) ⟨hx, hb, hml, hown, hts⟩ hM (cwV (m_n t) hts (lw_V h1 h2 h3 h4 h5) rfl rfl rfl ⟨hc, hdd⟩ (room_ hRf hRl _ _)) hpv rfl hn hL.1.1 hstk (by show 2 * 0 + _ ≤ 8; omega) hd hf
    | some hh9 =>
      rw [hh] at hM h5
      exact vx_runVX (Ts := lw_all) ⟨hx, hb, hml, hown, hts⟩ hM (vx_cwVW (m_n t) hts (lw_VW h1 h2 h3 h4 h5) rfl rfl rfl ⟨hc, hdd⟩ (room_ hRf hRl _ _)) hpv rfl hn hL.1.1 hstk (by show 2 * 0 + _ ≤ 8; omega) hd hf
  · unfold cd_ at h6
    rw [hh] at hM h6
    have hcu : va_CU R s args (o_s (o_m mi)) (c_n (w_t w a)) own idx x (m_y t) (m_c t) (m_l t) (m_r t) (ws_ (m_y t) (m_c t) (m_l t) (m_r t)) (rm_ d1 (w_z res.2 - w_z w) (w_s res.2 - w_s w)) (w_z res.2 - w_z w) (w_s res.2 - w_s w) (m_n t) := by
      rcases h10 with ⟨b9, m9, r9, g1, g2⟩ | g1
      · refine va_cwO (m_n t) hts (lw_app ?_ (lw_meth h6)) rfl rfl rfl g1 h7 (room_ hRf hRl _ _)
        intro w9 hw
        simp only [List.mem_cons, List.not_mem_nil, or_false] at hw
        rcases hw with rfl | rfl | rfl | rfl | rfl | rfl
        · exact h1
        · exact h2
        · exact g2
        · exact h3
        · exact h4
        · exact h5
      · refine va_cwA (m_n t) hts (lw_app ?_ (lw_meth h6)) rfl rfl rfl (hI.2.2.2.1 _ g1) h7 (room_ hRf hRl _ _)
        intro w9 hw
        simp only [List.mem_cons, List.not_mem_nil, or_false] at hw
        rcases hw with rfl | rfl | rfl | rfl | rfl
        · exact h1
        · exact h2
        · exact h3
        · exact h4
        · exact h5
    exact vx_runU (Ts := lw_all) ⟨hx, hb, hml, hown, hts⟩ hM hcu hpv rfl hn hL.1.1 hstk (by show 2 * 0 + _ ≤ 8; omega) hd hf
  · unfold cd_ at h6
    rw [hh] at hM h6
    have hsel := hI.2.2.2.2.2.2.2.2.2.2.2.2.2.2.1 _ h1
    have hsel2 : (Cond.selects (c_n (w_t w a)) (m_y t) (m_y t)).before args s = true := va_any rfl hsel
    have hG : GoodIn lw_all (ws_ (m_y t) (m_c t) (m_l t) (m_r t)) := lw_meth h6
    have hrm := room_ (t := t) hRf hRl (w_z res.2 - w_z w) (w_s res.2 - w_s w)
    have hcu : va_CU R s args (o_s (o_m mi)) (c_n (w_t w a)) (m_y t).cls idx (m_y t) (m_y t) (m_c t) (m_l t) (m_r t) (ws_ (m_y t) (m_c t) (m_l t) (m_r t)) (rm_ d1 (w_z res.2 - w_z w) (w_s res.2 - w_s w)) (w_z res.2 - w_z w) (w_s res.2 - w_s w) (m_n t) :=
      ⟨⟨rfl, rfl, hrm.1, hrm.2, pay_in hts hG, List.mem_cons_self⟩, hts _ h6, hts _ h5, ⟨hdd.1, hdd.2.1⟩, fun sig hsig => by
        have h2 := hdd.2.2
        rw [hsig] at h2
        exact (Option.some.inj h2).symm, hts _ h2, hts _ h3, va_Decl.of (hts _ h4) (hts _ h6), hsel2, hts _ h4⟩
    exact vx_runU (Ts := lw_all) ⟨hx, hb, hml, hown, hts⟩ hM hcu hpv rfl hn hL.1.1 hstk (by show 2 * 0 + _ ≤ 8; omega) hd hf
/-- super.m(..) where the class above only inherits m -/
theorem vx_callSU9 {T : State} {locs : List Loc} {cells slots : Nat} (X : Stand p l e R s m args below meth c T locs cells slots) (hexec : p.tables.exec = Jvm.exec) {own B9 : String} {index : Nat} {y : MethodName} {bytes : ByteArray} {maxL : Nat} {ret : Option FieldType}
    (hown : s.vm.findClass own = some m.cls) (hlink : (Cond.methodLink own index ⟨B9, y.name, y.desc⟩).before args s = true) (hsame : (Cond.sameMethod B9 y.cls y.name y.desc).before args s = true) (hsup : (Cond.superclass own B9).before args s = true) (hsup2 : (Cond.superclass B9 y.cls).before args s = true)
    (hinst : (Cond.instanceMethod y).before args s = true) (hcode : (Cond.code y bytes maxL ret).before args s = true) (hno : y.name ≠ "<init>")
    {W : Nat} {Pre : Pt → Array Value → Prop} {Post : Pt → Array Value → Option Value → Pt → Prop} {PostX : Pt → Array Value → Addr → Pt → Prop} (hK : vx_Back l R p e below s args y 3 W Pre Post PostX)
    {b : Addr} {cellB : Cell} {kB : Class} (hcell : T.heap[b]? = some cellB) (hobj : cellB.vm.isStatics = false) (hkB : s.vm.classes[cellB.cls]? = some kB)
    {g : JFrame} (hg : g.method = m) (hsize : g.locals.size = c.maxLocals) {argsL rest : List Value} (hlen : ∀ sig, parseMethodDescriptor y.desc = some sig → argsL.length = sig.parameters.length)
    (hstack : g.stack = argsL.reverse ++ .ref b :: rest) (hW : 2 * g.monitorRoom + (rest.map fun v => v.category).sum ≤ W) (hdg : decode c.code g.pc = .ok (.invokespecial index, 3))
    (hpre : ∀ vm₁, s.WarmedH vm₁ → Pre ⟨T.setVm vm₁, locs, cells, slots⟩ (Value.ref b :: argsL).toArray) :
    (∃ (v : Option Value) (vm₁ : Vm) (B : Pt), s.WarmedH vm₁ ∧ Stand p l e R s m args below meth c B.U B.locs B.cells B.slots ∧ Post ⟨T.setVm vm₁, locs, cells, slots⟩ (Value.ref b :: argsL).toArray v B ∧
      ∀ target, Steps p.tables e below (B.U.setTop { g with pc := g.pc + 3, stack := v.toList ++ rest }) target → Steps p.tables e below (T.setTop g) target) ∨
    (∃ (q : Addr) (vm₁ : Vm) (B : Pt), s.WarmedH vm₁ ∧ Stand p l e R s m args below meth c B.U B.locs B.cells B.slots ∧ PostX ⟨T.setVm vm₁, locs, cells, slots⟩ (Value.ref b :: argsL).toArray q B ∧
      Steps p.tables e below (T.setTop g) ((B.U.setTop { g with stack := rest }).pushFrame (.throwing q))) := by
  obtain ⟨mk, methM, hnamed, hmethM, hstM, habM⟩ := Cond.instanceMethod_spec hinst
  obtain ⟨methM', cM, hmethM', -, -, -, -, -, -, hsigM⟩ := Cond.code_spec hnamed hcode
  cases hmethM.symm.trans hmethM'
  obtain ⟨ps, dk, kp, hps, hdk, hkp, hsuper, -, -, hnid⟩ := Cond.superclass_spec hown hsup
  obtain ⟨p2, k2, kp2, hps2, hdk2, hkp2, hsuper2, -, -, -⟩ := Cond.superclass_spec hps hsup2
  have hn : s.methodNamed? ⟨y.cls, y.name, y.desc⟩ = some mk := hnamed
  have hpm : p2 = mk.cls := Option.some.inj (hps2.symm.trans (findClass_of_methodNamed hnamed))
  have hsz : 0 < s.vm.classes.size := Nat.lt_of_le_of_lt (Nat.zero_le _) (Array.getElem?_eq_some_iff.mp hdk2).1
  have hsub : s.vm.isSubclass ps mk.cls = true := by
    rw [← hpm]
    unfold Vm.isSubclass
    rw [show s.vm.classes.size + 1 = (s.vm.classes.size - 1) + 1 + 1 by omega]
    simp [Vm.isSubclassAux, hdk2, hsuper2]
  obtain ⟨vm₁, X₁, hstep₁⟩ := X.invokespecialUp (x := ⟨B9, y.name, y.desc⟩) hexec hown hlink hsame hn hmethM hstM habM hno hdk hnid hps hsuper hsub (a := b) (cell := cellB) hcell
    (fun z h => by rw [h] at hobj; cases hobj) hkB (g := g) hg (argsL := argsL) (rest := rest) (hlen _ hsigM) hstack hdg
  rcases hK m meth c ⟨T.setVm vm₁, locs, cells, slots⟩ { g with stack := rest } (.invokespecial index) mk (Value.ref b :: argsL).toArray X₁ hg hsize hdg hW (X₁.named hnamed) (hpre vm₁ X₁.warmed) with ⟨v, B, X', hpost, hsteps⟩ | ⟨q, B, X', hpost, hsteps⟩
  · exact Or.inl ⟨v, vm₁, B, X₁.warmed, X', hpost, fun target h => hstep₁ _ (by rw [doInvoke_state]; exact hsteps.trans h)⟩
  · exact Or.inr ⟨q, vm₁, B, X₁.warmed, X', hpost, hstep₁ _ (by rw [doInvoke_state]; exact hsteps)⟩
theorem vx_runSU9 {y : MethodName} {bytes cc : ByteArray} {maxL nL mc ms n index : Nat} {ret : Option FieldType} {ws : List Cond} {rm : Room} {Pc : Array Value → State → Prop} {Qc : Array Value → State → Outcome → State → Prop} {XC : String → Addr → State → State → Prop} {free : Addr → Prop} {Ts : List Cond} {own C B9 : String} {cC : ClassId} {b : Addr} {As rest : List Value} {g : JFrame} {cells slots : Nat}
    (hat : ClassAt s C cC) (S : CallFix p m c cc nL s args Ts own) (hM : vx_Met l y ws rm Pc Qc XC mc ms free) (cw : (rm.cells = mc ∧ rm.slots = ms ∧ rm.frames + 1 ≤ R.frames ∧ 8 + (maxL + 11) + rm.locals ≤ R.locals ∧ (∀ w ∈ ws, ∀ (a' : Array Value) (U : State), s.WarmedH U.vm → w.before a' U = true) ∧ Cond.code y bytes maxL ret ∈ ws) ∧
      (Cond.methodLink own index ⟨B9, y.name, y.desc⟩).before args s = true ∧ (Cond.sameMethod B9 y.cls y.name y.desc).before args s = true ∧ (Cond.superclass own B9).before args s = true ∧ (Cond.superclass B9 y.cls).before args s = true ∧ (Cond.instanceMethod y).before args s = true ∧ (Cond.initialized y.cls).before args s = true ∧ (Cond.code y bytes maxL ret).before args s = true ∧ y.name ≠ "<init>" ∧ (∀ sig, parseMethodDescriptor y.desc = some sig → n = sig.parameters.length)) (hp : PreV s H C b Pc As)
    (hg : g.method = m) (hn : As.length = n) (hsize : g.locals.size = nL) (hstack : g.stack = As.reverse ++ .ref b :: rest) (hW : 2 * g.monitorRoom + (rest.map fun v => v.category).sum ≤ 8) (hdg : decode cc g.pc = .ok (.invokespecial index, 3)) (hf : cells + mc ≤ R.cells ∧ slots + ms ≤ R.slots) :
    vx_Run p l e R s m args below meth c H locs cells slots mc ms g rest (Qc (Value.ref b :: As).toArray) XC free := by
  obtain ⟨⟨hrc, hrs, hfr, hlo, hws, hcw⟩, hl1, hl2, hl3, hl3b, hl4, hini, hcode, hno, hlen⟩ := cw
  have hK : vx_Back l R p e below s args y 3 8 (PreOf R mc ms Pc) (PostOf Qc mc ms free) (vx_Post XC mc ms free) := vx_back (bytes := bytes) (maxL := maxL) (ret := ret) hM hp.1 hrc hrs hfr hlo hws hcw (fun a' U hW => word_at hW (Or.inl (by first | rfl | simp [Cond.onTables, Cond.keeps, Cond.steady])) hini)
  obtain ⟨hx, hb, hml, ho, -⟩ := S
  obtain ⟨-, ⟨cellB, hcB, hoB, hclB⟩, hPc⟩ := hp
  obtain ⟨hfc, kB, hkB, -⟩ := hat
  cases hfc.symm.trans hclB
  intro T hT X
  rcases vx_callSU9 X hx (bytes := bytes) (maxL := maxL) (ret := ret) ho hl1 hl2 hl3 hl3b hl4 hcode hno hK (by rw [hT]; exact hcB) hoB hkB hg (hsize.trans hml.symm) (argsL := As) (rest := rest) (fun sig h => hn.trans (hlen sig h)) hstack hW (by rw [hb]; exact hdg)
    (fun vm₁ hW₁ => ⟨hf.1, hf.2, hPc (T.setVm vm₁) hT hW₁⟩) with ⟨v, vm₁, ⟨U', l2, c2, s2⟩, hW₁, X', ⟨g', mk, t, L, e1, e2, hq, h1, hL, h2, h3⟩, st⟩ | ⟨q, vm₁, ⟨U', l2, c2, s2⟩, hW₁, X', ⟨g', mk, t, L, E, ce, e1, e2, hq, hce, hcv, hcl, h1, hL, h2, h3⟩, st⟩
  · dsimp only [Pt.U, Pt.locs, Pt.cells, Pt.slots] at X' e1 e2 h1 h2 h3 st
    subst h1; subst h2; subst h3
    exact Or.inl ⟨v, (T.setVm vm₁).calling g' mk (Value.ref b :: As).toArray, t, U', L, hT, X', hL, e1, e2, hq, st⟩
  · dsimp only [Pt.U, Pt.locs, Pt.cells, Pt.slots] at X' e1 e2 h1 h2 h3 st hcl
    subst h1; subst h2; subst h3
    exact Or.inr ⟨q, (T.setVm vm₁).calling g' mk (Value.ref b :: As).toArray, t, U', L, E, ce, hT, X', hL, e1, e2, hq, hce, hcv, vx_cls hW₁ hcl, st⟩
theorem run_P {d1 t idx a : Nat} (C : Cx_ p l R s m args meth c G w0 zE mi (d1 + 1)) (hW : RW_ D G w0 w s H) (hS : va_S (A_ G) s.heap H locs) (hL : LH_ G L ls (m_l mi)) (hd : decode (m_c mi) pc = .ok (.invokespecial idx, 3)) (hok : P_ok (o_m mi) idx t) (hM : Met_ l D G w0 d1 t (v_R (some a) :: (st.take (m_n t)).reverse) w res) (hdr : st.drop (m_n t) = v_R (some a) :: r) (h20 : 20 ≤ w_t w a) (h8 : s_8 r = true)
    (hf : w_z w - zE + (w_z res.2 - w_z w) ≤ R.cells ∧ w_s w - sE + (w_s res.2 - w_s w) ≤ R.slots) : VR_ p l e R s m args below meth c D G w0 zE sE pc L st r (v_R (some a) :: (st.take (m_n t)).reverse) w res H locs := by
  obtain ⟨hx, hb, hrt, hml, hown, hts, hlk, hini, hht, hN, hI, hst0, hRf, hRl, hE, hE0⟩ := C
  obtain ⟨ws, tys, hX, hsz⟩ := hW.parts
  obtain ⟨q9, ha9, haz9, h41, hq9⟩ := hX.obj hN h20
  obtain ⟨b, htv, hrc⟩ := recv_ hN hI hX hS (Or.inr (Or.inr ⟨h20, h41⟩))
  obtain ⟨hpl, hdd, hl30, how, hk⟩ := m_okp t
  have hlen : m_n t ≤ st.length := by
    rcases Nat.lt_or_ge st.length (m_n t) with z | z
    · rw [List.drop_eq_nil_of_le (by omega)] at hdr; cases hdr
    · exact z
  have hn : (((st.take (m_n t)).reverse).map (tv_ G)).length = m_n t := by simp [hlen]
  have h9 := s8_ (G := G) h8
  have hstk : st.map (tv_ G) = (((st.take (m_n t)).reverse).map (tv_ G)).reverse ++ .ref b :: r.map (tv_ G) := by
    rw [st_split (m_n t) st, hdr, List.map_cons, htv]
  have hpre := pre_ hN hI hW hS (v_R (some a) :: (st.take (m_n t)).reverse)
  rw [List.map_cons, htv] at hpre
  have hpv : PreV s H (c_n (w_t w a)) b (Pc_ D G w0 (v_R (some a) :: (st.take (m_n t)).reverse) w) (((st.take (m_n t)).reverse).map (tv_ G)) := ⟨hpre.1, hrc, hpre.2⟩
  unfold VR_
  rw [List.map_cons (l := (st.take (m_n t)).reverse), htv]
  unfold Met_ ws9 at hM
  obtain ⟨hh, hcd, hin, hinit, hok⟩ := hok
  unfold cd_ at hcd
  rw [hh] at hM hcd
  rcases hok with ⟨hnm, hret, hlnk⟩ | ⟨hnm, X, g1, g2, g3, g4⟩
  · rw [hret] at hM hcd
    rcases hlnk with hlnk | ⟨host, hlnk⟩
    · exact vx_runI (Ts := lw_all) ⟨hx, hb, hml, hown, hts⟩ hM (cwI (m_n t) hts (lw_meth hcd) rfl rfl rfl (hts _ hinit) (hts _ hlnk) (hts _ hin) hnm hdd (room_ hRf hRl _ _)) hpre rfl hn hL.1.1 hstk (by show 2 * 0 + _ ≤ 8; omega) hd hf
    · exact vx_runIN (Ts := lw_all) ⟨hx, hb, hml, hown, hts⟩ hM ⟨va_cnB (m_n t) hts (lw_meth hcd) rfl rfl rfl (hI.2.1 _ hlnk) (hts _ hinit) hdd (room_ hRf hRl _ _), hnm, hts _ hin⟩ hpre rfl hn hL.1.1 hstk (by show 2 * 0 + _ ≤ 8; omega) hd hf
  · have hcl := hX.1.1 _ _ (c_at (show w_t w a - 20 < 22 by omega))
    have hcA : ClassAt s (c_n (w_t w a)) (D.1 (w_t w a - 20)) := by
      have hcn : c_n (w_t w a) = (c_e (w_t w a - 20)).1 := by
        unfold c_n
        rw [if_neg (by omega), if_neg (by omega)]
      rw [hcn]
      exact hcl.2
    have hrm := room_ (t := t) hRf hRl (w_z res.2 - w_z w) (w_s res.2 - w_s w)
    have hG := lw_meth hcd
    rcases g4 with rfl | g4
    · refine vx_runSU (Ts := lw_all) (C := c_n (w_t w a)) (cC := D.1 (w_t w a - 20)) hcA ⟨hx, hb, hml, hown, hts⟩ hM (va_cwSU (m_n t) hts (lw_app ?_ (lw_meth hcd)) rfl rfl rfl ⟨hnm, hdd.2.2⟩ (room_ hRf hRl _ _)) hpv rfl hn hL.1.1 hstk (by show 2 * 0 + _ ≤ 8; omega) hd hf
      intro w9 hw
      simp only [List.mem_cons, List.not_mem_nil, or_false] at hw
      rcases hw with rfl | rfl | rfl | rfl | rfl
      · exact g1
      · exact g2
      · exact g3
      · exact hin
      · exact hinit
    · exact vx_runSU9 (Ts := lw_all) (C := c_n (w_t w a)) (cC := D.1 (w_t w a - 20)) (B9 := X) (y := m_y t) (bytes := m_c t) (maxL := m_l t) (ret := m_r t) (n := m_n t) hcA ⟨hx, hb, hml, hown, hts⟩ hM ⟨⟨rfl, rfl, hrm.1, hrm.2, pay_in hts hG, List.mem_cons_self⟩, hts _ g1, hts _ g2, hts _ g3, hts _ g4, hts _ hin, hts _ hinit, hts _ hcd, hnm, fun sig hsig => by
        have h2 := hdd.2.2
        rw [hsig] at h2
        exact (Option.some.inj h2).symm⟩ hpv rfl hn hL.1.1 hstk (by show 2 * 0 + _ ≤ 8; omega) hd hf
/-- behind a call -/
theorem call_f {res1 : Rs × Wd} (C : Cx_ p l R s m args meth c G w0 zE mi d) (hz : zE ≤ w_z w) (hsl : sE ≤ w_s w) (hm : w_z w ≤ w_z res1.2 ∧ w_s w ≤ w_s res1.2) (hS : va_S (A_ G) s.heap H locs) (hL : LH_ G L ls (m_l mi)) (hv : VR_ p l e R s m args below meth c D G w0 zE sE pc L st r as w res1 H locs)
    (kk : ∀ v : Option Vl, res1.1 = Sum.inl v → WW_ p l e R s m args below meth c D G w0 Q (m_l mi) zE sE res1.2 ls (v.toList ++ r) (pc + 3))
    (kx : ∀ a : Nat, res1.1 = Sum.inr a → 1000 ≤ a → 39 ≤ w_t res1.2 a → w_t res1.2 a ≤ 41 → ∀ (H1 : Heap) (locs1 : List Loc) (ce : Cell), RW_ D G w0 res1.2 s H1 → va_S (A_ G) s.heap H1 locs1 → H1[G.1 + (a - 1000)]? = some ce → ce.vm = .none → s.vm.findClass (c_n (w_t res1.2 a)) = some ce.cls → vx_W p l e R s m args below meth c H1 locs1 (w_z res1.2 - zE) (w_s res1.2 - sE) Q (F0 m pc L (r.map (tv_ G))) (G.1 + (a - 1000))) :
    W p l e R s m args below meth c H locs (w_z w - zE) (w_s w - sE) Q (F0 m pc L (st.map (tv_ G))) := by
  intro T hT X
  have ec : w_z w - zE + (w_z res1.2 - w_z w) = w_z res1.2 - zE := by omega
  have es : w_s w - sE + (w_s res1.2 - w_s w) = w_s res1.2 - sE := by omega
  have hframe : ∀ {st₀ t T' : State} {L' : List Loc}, st₀.heap = H → T'.heap = t.heap → va_F (A_ G) st₀ t → (∀ q ∈ L', A_ G q.base) → va_S (A_ G) s.heap T'.heap (locs ++ L') := fun {st₀ t T' L'} h0 e1 hF hL' => by
    obtain ⟨f1, f2⟩ := hF
    rw [h0] at f1 f2
    refine ⟨Nat.le_trans hS.1 (by rw [e1]; exact f1), fun q h1 h2 => ?_, fun q hq => ?_⟩
    · rw [e1, f2 q (Nat.lt_of_lt_of_le h1 hS.1) h2]
      exact hS.2.1 q h1 h2
    · rcases List.mem_append.mp hq with h | h
      · exact hS.2.2 q h
      · exact hL' q h
  rcases hv T hT X with ⟨v, st₀, t, T', L', h0, X', hL', e1, e2, ⟨⟨v1, hres, ho⟩, hRW, hF⟩, stp⟩ | ⟨q, st₀, t, T', L', E, ce, h0, X', hL', e1, e2, ⟨⟨a, hres, ha, hq, hE, h39, h41⟩, hRW, hF⟩, hce, hcv, hcl, stp⟩
  · cases ho
    have hRW2 : RW_ D G w0 res1.2 s T'.heap := by
      rw [e1]
      exact hRW.moved (by rw [← e2]; exact X'.warmed.alike.symm)
    have h := kk v1 hres T'.heap (locs ++ L') L hRW2 (hframe h0 e1 hF hL') hL
    rw [ec, es] at X'
    obtain ⟨t2, a1, b1⟩ := h T' rfl X'
    refine ⟨t2, stp t2 ?_, b1⟩
    have e9 : (v1.map (tv_ G)).toList ++ r.map (tv_ G) = (v1.toList ++ r).map (tv_ G) := by
      cases v1 <;> rfl
    show Steps p.tables e below (T'.setTop { F0 m pc L (st.map (tv_ G)) with pc := pc + 3, stack := (v1.map (tv_ G)).toList ++ r.map (tv_ G) }) t2
    rw [e9]
    exact a1
  · subst hq
    subst hE
    have hRW2 : RW_ D G w0 res1.2 s T'.heap := by
      rw [e1]
      exact hRW.moved (by rw [← e2]; exact X'.warmed.alike.symm)
    rw [← e1] at hce
    have h := kx a hres ha h39 h41 T'.heap (locs ++ L') ce hRW2 (hframe h0 e1 hF hL') hce hcv hcl
    rw [ec, es] at X'
    obtain ⟨t2, a1, b1⟩ := h T' rfl X'
    exact ⟨t2, stp.trans a1, b1⟩
end
