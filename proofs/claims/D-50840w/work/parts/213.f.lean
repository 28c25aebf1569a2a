/-! STAGE 1c: functions and contracts (printed by gen/mkfuncs.py). -/
set_option maxRecDepth 100000
set_option linter.unusedVariables false
-- X22_init RenamedWords$ScriptReader$4.<init>(LRenamedWords$ScriptReader;I)V
noncomputable def f_X22_init (a0 : Nat) (a1 : Option Nat) (a2 : Int) (h : HP) : Option ((Unit) × HP) :=
  (wrR h (some a0) [17] 2 a1).bind fun h1 =>
  (wrI h1 (some a0) [17] 1 a2).bind fun h2 =>
  (rdR h2 a1 [12] 9).bind fun v3 =>
  hb (f_X18_init a0 v3 h2) fun _ h5 =>
  some ((), h5)
theorem A_X22_init {M : hp_M} {G : va_G} {h0 : HP} (X : hp_X M G h0 "RenamedWords$ScriptReader$4" "<init>" cX22_init 3 none [] 3 85) (a0 : Nat) (a1 : Option Nat) (a2 : Int) (h : HP) : vv M G h0 3 (hp_End M G h0) jV h 0 [(0, LR (some a0)), (1, LR a1), (2, LI a2)] [] (f_X22_init a0 a1 a2 h) := by
  unfold f_X22_init
  refine vv_aload_n (pc := 0) X (kf := 0) (i := 0) rfl 0 rfl dX22_init_0 ?_
  refine vv_aload_n (pc := 1) X (kf := 1) (i := 1) rfl 1 rfl dX22_init_1 ?_
  refine vv_putR (pc := 2) (ty9 := (.object "RenamedWords$ScriptReader")) (fin := true) X (fun _ z => by cases List.mem_singleton.mp z; exact fl_X22_1_17) (fun _ => rfl) (fun _ => (fun _ z => by cases List.mem_singleton.mp z; exact ⟨_, rfl, rfl⟩)) (by decide +kernel) rfl dX22_init_2 (fun h1 => ?_)
  refine vv_aload_n (pc := 5) X (kf := 0) (i := 0) rfl 0 rfl dX22_init_5 ?_
  refine vv_iload_n (pc := 6) X (kf := 2) (i := 2) rfl 2 rfl dX22_init_6 ?_
  refine vv_putI (pc := 7) (fin := true) X (fun _ z => by cases List.mem_singleton.mp z; exact fl_X22_7_17) (fun _ => rfl) (fun _ => (fun _ z => by cases List.mem_singleton.mp z; exact ⟨_, rfl, rfl⟩)) dX22_init_7 (fun h2 => ?_)
  refine vv_aload_n (pc := 10) X (kf := 0) (i := 0) rfl 0 rfl dX22_init_10 ?_
  refine vv_aload_n (pc := 11) X (kf := 1) (i := 1) rfl 1 rfl dX22_init_11 ?_
  refine vv_getR (pc := 12) X (fun _ z => by cases List.mem_singleton.mp z; exact fl_X22_11_12) dX22_init_12 (fun v3 => ?_)
  refine vv_callV (pc := 15) (rest := []) (by rfl) (fun r8 k8 e8 => zz_callIN X (m_X18_init (hlM X) _ _ _ _ _ e8) q2029 q1951 q183 q1952 rfl nh_X18 rfl (by decide) (by decide) (Nat.le_of_ble_eq_true rfl) dX22_init_15) (fun v4 h5 => ?_)
  exact vv_vreturn X rfl rfl dX22_init_18
theorem m_X22_init {l : Launch} (hl : l.stackTraces = false) {G : va_G} (a0 : Nat) (a1 : Option Nat) (a2 : Int) (h : HP) : ∀ r hf, f_X22_init a0 a1 a2 h = some (r, hf) → Ct l yX22_init (ws_ yX22_init cX22_init 3 none) 3 85 G h [.ref a0, va_rf a1, .int (iI a2)] (jV r) hf :=
  zz_ofW hl (by decide +kernel) (lv := [(0, LR (some a0)), (1, LR a1), (2, LI a2)]) (by simp [lv_args, lvL, lvV, zz_rfc, zz_rfs, zz_ci, zz_cr, zz_cj, zz_cf, zz_cd]) (by simp [lg_sl, zz_rfc, zz_ci, zz_cr, zz_cj, zz_cf, zz_cd]) (fun _ X => A_X22_init X a0 a1 a2 h)
-- X15_unmark RenamedWords$ScriptReader.unmark(I)LRenamedWords$Order;
noncomputable def f_X15_unmark (a0 : Nat) (a1 : Int) (h : HP) : Option ((Option Nat) × HP) :=
  hb (nwO h (tgR h (some a0)) 17 [.inr (.inl none), .inl 0, .inr (.inl none)] 3) fun v1 h2 =>
  (v1).bind fun b5 =>
  hb (f_X22_init b5 (some a0) a1 h2) fun _ h4 =>
  some (v1, h4)
theorem A_X15_unmark {M : hp_M} {G : va_G} {h0 : HP} (X : hp_X M G h0 "RenamedWords$ScriptReader" "unmark" cX15_unmark 2 (some (.object "RenamedWords$Order")) [] 4 115) (a0 : Nat) (a1 : Int) (h : HP) : vv M G h0 2 (hp_End M G h0) jR h 0 [(0, LR (some a0)), (1, LI a1)] [] (f_X15_unmark a0 a1 h) := by
  unfold f_X15_unmark
  refine vv_new (pc := 0) X tyX22 rfl in_X22 tyX22_ok q2024 q2025 q187 ndX22 (by decide) dX15_unmark_0 (fun v1 h2 => ?_)
  refine vv_dup (pc := 3) X rfl dX15_unmark_3 ?_
  refine vv_aload_n (pc := 4) X (kf := 0) (i := 0) rfl 0 rfl dX15_unmark_4 ?_
  refine vv_iload_n (pc := 5) X (kf := 1) (i := 1) rfl 1 rfl dX15_unmark_5 ?_
  refine vv_bnd (fun b5 e6 => ?_)
  refine vv_callV (pc := 6) (rest := [LR v1]) (by rw [e6]; rfl) (fun r8 k8 e8 => zz_callI X (m_X22_init (hlM X) _ _ _ _ _ _ e8) q2026 q2027 q187 q2028 rfl nh_X22 rfl (by decide) (by decide) (Nat.le_of_ble_eq_true rfl) dX15_unmark_6) (fun v3 h4 => ?_)
  exact vv_aretO X rfl rfl dX15_unmark_9
theorem m_X15_unmark {l : Launch} (hl : l.stackTraces = false) {G : va_G} (a0 : Nat) (a1 : Int) (h : HP) : ∀ r hf, f_X15_unmark a0 a1 h = some (r, hf) → Ct l yX15_unmark (ws_ yX15_unmark cX15_unmark 2 (some (.object "RenamedWords$Order"))) 4 115 G h [.ref a0, .int (iI a1)] (jR r) hf :=
  zz_ofW hl (by decide +kernel) (lv := [(0, LR (some a0)), (1, LI a1)]) (by simp [lv_args, lvL, lvV, zz_rfc, zz_rfs, zz_ci, zz_cr, zz_cj, zz_cf, zz_cd]) (by simp [lg_sl, zz_rfc, zz_ci, zz_cr, zz_cj, zz_cf, zz_cd]) (fun _ X => A_X15_unmark X a0 a1 h)
-- X23_init RenamedWords$ScriptReader$5.<init>(LRenamedWords$ScriptReader;II[I)V
noncomputable def f_X23_init (a0 : Nat) (a1 : Option Nat) (a2 : Int) (a3 : Int) (a4 : Option Nat) (h : HP) : Option ((Unit) × HP) :=
  (wrR h (some a0) [18] 4 a1).bind fun h1 =>
  (wrI h1 (some a0) [18] 1 a2).bind fun h2 =>
  (wrI h2 (some a0) [18] 2 a3).bind fun h3 =>
  (wrR h3 (some a0) [18] 3 a4).bind fun h4 =>
  (rdR h4 a1 [12] 9).bind fun v5 =>
  hb (f_X18_init a0 v5 h4) fun _ h7 =>
  some ((), h7)
theorem A_X23_init {M : hp_M} {G : va_G} {h0 : HP} (X : hp_X M G h0 "RenamedWords$ScriptReader$5" "<init>" cX23_init 5 none [] 3 85) (a0 : Nat) (a1 : Option Nat) (a2 : Int) (a3 : Int) (a4 : Option Nat) (h : HP) : vv M G h0 5 (hp_End M G h0) jV h 0 [(0, LR (some a0)), (1, LR a1), (2, LI a2), (3, LI a3), (4, LR a4)] [] (f_X23_init a0 a1 a2 a3 a4 h) := by
  unfold f_X23_init
  refine vv_aload_n (pc := 0) X (kf := 0) (i := 0) rfl 0 rfl dX23_init_0 ?_
  refine vv_aload_n (pc := 1) X (kf := 1) (i := 1) rfl 1 rfl dX23_init_1 ?_
  refine vv_putR (pc := 2) (ty9 := (.object "RenamedWords$ScriptReader")) (fin := true) X (fun _ z => by cases List.mem_singleton.mp z; exact fl_X23_1_18) (fun _ => rfl) (fun _ => (fun _ z => by cases List.mem_singleton.mp z; exact ⟨_, rfl, rfl⟩)) (by decide +kernel) rfl dX23_init_2 (fun h1 => ?_)
  refine vv_aload_n (pc := 5) X (kf := 0) (i := 0) rfl 0 rfl dX23_init_5 ?_
  refine vv_iload_n (pc := 6) X (kf := 2) (i := 2) rfl 2 rfl dX23_init_6 ?_
  refine vv_putI (pc := 7) (fin := true) X (fun _ z => by cases List.mem_singleton.mp z; exact fl_X23_7_18) (fun _ => rfl) (fun _ => (fun _ z => by cases List.mem_singleton.mp z; exact ⟨_, rfl, rfl⟩)) dX23_init_7 (fun h2 => ?_)
  refine vv_aload_n (pc := 10) X (kf := 0) (i := 0) rfl 0 rfl dX23_init_10 ?_
  refine vv_iload_n (pc := 11) X (kf := 3) (i := 3) rfl 3 rfl dX23_init_11 ?_
  refine vv_putI (pc := 12) (fin := true) X (fun _ z => by cases List.mem_singleton.mp z; exact fl_X23_11_18) (fun _ => rfl) (fun _ => (fun _ z => by cases List.mem_singleton.mp z; exact ⟨_, rfl, rfl⟩)) dX23_init_12 (fun h3 => ?_)
  refine vv_aload_n (pc := 15) X (kf := 0) (i := 0) rfl 0 rfl dX23_init_15 ?_
  refine vv_aload (pc := 16) X 4 rfl dX23_init_16 ?_
  refine vv_putR (pc := 18) (ty9 := (.array .int)) (fin := true) X (fun _ z => by cases List.mem_singleton.mp z; exact fl_X23_14_18) (fun _ => rfl) (fun _ => (fun _ z => by cases List.mem_singleton.mp z; exact ⟨_, rfl, rfl⟩)) (by decide +kernel) rfl dX23_init_18 (fun h4 => ?_)
  refine vv_aload_n (pc := 21) X (kf := 0) (i := 0) rfl 0 rfl dX23_init_21 ?_
  refine vv_aload_n (pc := 22) X (kf := 1) (i := 1) rfl 1 rfl dX23_init_22 ?_
  refine vv_getR (pc := 23) X (fun _ z => by cases List.mem_singleton.mp z; exact fl_X23_18_12) dX23_init_23 (fun v5 => ?_)
  refine vv_callV (pc := 26) (rest := []) (by rfl) (fun r8 k8 e8 => zz_callIN X (m_X18_init (hlM X) _ _ _ _ _ e8) q2047 q1951 q183 q1952 rfl nh_X18 rfl (by decide) (by decide) (Nat.le_of_ble_eq_true rfl) dX23_init_26) (fun v6 h7 => ?_)
  exact vv_vreturn X rfl rfl dX23_init_29
theorem m_X23_init {l : Launch} (hl : l.stackTraces = false) {G : va_G} (a0 : Nat) (a1 : Option Nat) (a2 : Int) (a3 : Int) (a4 : Option Nat) (h : HP) : ∀ r hf, f_X23_init a0 a1 a2 a3 a4 h = some (r, hf) → Ct l yX23_init (ws_ yX23_init cX23_init 5 none) 3 85 G h [.ref a0, va_rf a1, .int (iI a2), .int (iI a3), va_rf a4] (jV r) hf :=
  zz_ofW hl (by decide +kernel) (lv := [(0, LR (some a0)), (1, LR a1), (2, LI a2), (3, LI a3), (4, LR a4)]) (by simp [lv_args, lvL, lvV, zz_rfc, zz_rfs, zz_ci, zz_cr, zz_cj, zz_cf, zz_cd]) (by simp [lg_sl, zz_rfc, zz_ci, zz_cr, zz_cj, zz_cf, zz_cd]) (fun _ X => A_X23_init X a0 a1 a2 a3 a4 h)
-- X15_swap RenamedWords$ScriptReader.swap(I)LRenamedWords$Order;
noncomputable def b_X15_swap_35 (x0 : Option Nat) (x1 : Int) (x2 : Int) (x3 : Option Nat) (s0 : Int) (s1 : Option Nat) (h : HP) : Option ((Nat ⊕ Option Nat) × HP) :=
  (rcv h s1 [12]).bind fun b16 =>
  hbx (f_X10_must b16 s0 2 h) (fun q18 h19 =>
      some (.inl q18, h19)) fun _ h15 =>
  (rcv h15 x0 [12]).bind fun b22 =>
  hb (f_X10_next b22 h15) fun _ h21 =>
  hb (nwO h21 (tgR h21 x0) 18 [.inr (.inl none), .inl 0, .inl 0, .inr (.inl none), .inr (.inl none)] 5) fun v24 h25 =>
  (v24).bind fun b28 =>
  hb (f_X23_init b28 x0 x1 x2 x3 h25) fun _ h27 =>
  some (.inr v24, h27)
theorem B_X15_swap_35 {M : hp_M} {G : va_G} {h0 : HP} (X : hp_X M G h0 "RenamedWords$ScriptReader" "swap" cX15_swap 4 (some (.object "RenamedWords$Order")) [] 8 312) (x0 : Option Nat) (x1 : Int) (x2 : Int) (x3 : Option Nat) (s0 : Int) (s1 : Option Nat) (h : HP) : vv M G h0 4 (hp_End M G h0) xR h 35 [(0, LR x0), (1, LI x1), (2, LI x2), (3, LR x3)] [LI s0, LR s1] (b_X15_swap_35 x0 x1 x2 x3 s0 s1 h) := by
  unfold b_X15_swap_35
  refine vv_iconst (pc := 35) X dX15_swap_35 ?_
  refine vv_rcv (fun b16 t9 c9 fs9 e17 g9 k9 => ?_)
  cases List.mem_singleton.mp k9
  refine vv_xallV (pc := 36) (rest := []) (by rw [e17]; rfl) (fun r8 k8 e8 => zz_callU X (m_X10_must (hlM X) _ _ _ _ _ _ e8) g9 rfl q1925 q1926 (va_Decl.of (X.1.2.2.2.2 _ q968) (X.1.2.2.2.2 _ q969)) (by decide) q968 q1927 q165 q969 rfl (by decide) (by decide) (Nat.le_of_ble_eq_true rfl) dX15_swap_36) (fun v14 h15 => ?_) (fun q18 h19 => ?_)
  · refine vv_aload_n (pc := 39) X (kf := 0) (i := 0) rfl 0 rfl dX15_swap_39 ?_
    refine vv_rcv (fun b22 t9 c9 fs9 e23 g9 k9 => ?_)
    cases List.mem_singleton.mp k9
    refine vv_callV (pc := 40) (rest := []) (by rw [e23]; rfl) (fun r8 k8 e8 => zz_callU X (m_X10_next (hlM X) _ _ _ _ e8) g9 rfl q1928 q1929 (va_Decl.of (X.1.2.2.2.2 _ q860) (X.1.2.2.2.2 _ q864)) (by decide) q860 q1930 q165 q864 rfl (by decide) (by decide) (Nat.le_of_ble_eq_true rfl) dX15_swap_40) (fun v20 h21 => ?_)
    refine vv_new (pc := 43) X tyX23 rfl in_X23 tyX23_ok q2042 q2043 q188 ndX23 (by decide) dX15_swap_43 (fun v24 h25 => ?_)
    refine vv_dup (pc := 46) X rfl dX15_swap_46 ?_
    refine vv_aload_n (pc := 47) X (kf := 0) (i := 0) rfl 0 rfl dX15_swap_47 ?_
    refine vv_iload_n (pc := 48) X (kf := 1) (i := 1) rfl 1 rfl dX15_swap_48 ?_
    refine vv_iload_n (pc := 49) X (kf := 2) (i := 2) rfl 2 rfl dX15_swap_49 ?_
    refine vv_aload_n (pc := 50) X (kf := 3) (i := 3) rfl 3 rfl dX15_swap_50 ?_
    refine vv_bnd (fun b28 e29 => ?_)
    refine vv_callV (pc := 51) (rest := [LR v24]) (by rw [e29]; rfl) (fun r8 k8 e8 => zz_callI X (m_X23_init (hlM X) _ _ _ _ _ _ _ _ e8) q2044 q2045 q188 q2046 rfl nh_X23 rfl (by decide) (by decide) (Nat.le_of_ble_eq_true rfl) dX15_swap_51) (fun v26 h27 => ?_)
    exact vv_aretO X rfl rfl dX15_swap_54
  · exact vvx_out X (by decide) rfl
noncomputable def b_X15_swap_34 (x0 : Option Nat) (x1 : Int) (x2 : Int) (x3 : Option Nat) (s0 : Option Nat) (h : HP) : Option ((Nat ⊕ Option Nat) × HP) :=
  b_X15_swap_35 x0 x1 x2 x3 0 s0 h
theorem B_X15_swap_34 {M : hp_M} {G : va_G} {h0 : HP} (X : hp_X M G h0 "RenamedWords$ScriptReader" "swap" cX15_swap 4 (some (.object "RenamedWords$Order")) [] 8 312) (x0 : Option Nat) (x1 : Int) (x2 : Int) (x3 : Option Nat) (s0 : Option Nat) (h : HP) : vv M G h0 4 (hp_End M G h0) xR h 34 [(0, LR x0), (1, LI x1), (2, LI x2), (3, LR x3)] [LR s0] (b_X15_swap_34 x0 x1 x2 x3 s0 h) := by
  unfold b_X15_swap_34
  refine vv_iconst (pc := 34) X dX15_swap_34 ?_
  exact B_X15_swap_35 X _ _ _ _ _ _ _
noncomputable def f_X15_swap (a0 : Nat) (a1 : Int) (h : HP) : Option ((Nat ⊕ Option Nat) × HP) :=
  (rcv h (some a0) [12]).bind fun b3 =>
  hbx (f_X10_number b3 1 200 h) (fun q5 h6 =>
      some (.inl q5, h6)) fun v1 h2 =>
  (rcv h2 (some a0) [12]).bind fun b9 =>
  hbx (f_X10_letters b9 h2) (fun q11 h12 =>
      some (.inl q11, h12)) fun v7 h8 =>
  (alen h8 v7).bind fun v13 =>
  iEQ v13 2
    ((aldI h8 .int v7 0).bind fun v30 =>
    (aldI h8 .int v7 1).bind fun v31 =>
    iEQ v30 v31
      (b_X15_swap_34 (some a0) a1 v1 v7 (some a0) h8)
      (b_X15_swap_35 (some a0) a1 v1 v7 1 (some a0) h8))
    (b_X15_swap_34 (some a0) a1 v1 v7 (some a0) h8)
theorem A_X15_swap {M : hp_M} {G : va_G} {h0 : HP} (X : hp_X M G h0 "RenamedWords$ScriptReader" "swap" cX15_swap 4 (some (.object "RenamedWords$Order")) [] 8 312) (a0 : Nat) (a1 : Int) (h : HP) : vv M G h0 4 (hp_End M G h0) xR h 0 [(0, LR (some a0)), (1, LI a1)] [] (f_X15_swap a0 a1 h) := by
  unfold f_X15_swap
  refine vv_aload_n (pc := 0) X (kf := 0) (i := 0) rfl 0 rfl dX15_swap_0 ?_
  refine vv_iconst (pc := 1) X dX15_swap_1 ?_
  refine vv_sipush (pc := 2) X (by decide) dX15_swap_2 ?_
  refine vv_rcv (fun b3 t9 c9 fs9 e4 g9 k9 => ?_)
  cases List.mem_singleton.mp k9
  refine vv_xallI (pc := 5) (rest := []) (by rw [e4]; rfl) (fun r8 k8 e8 => zz_callU X (m_X10_number (hlM X) _ _ _ _ _ _ e8) g9 rfl q1974 q1975 (va_Decl.of (X.1.2.2.2.2 _ q1813) (X.1.2.2.2.2 _ q1814)) (by decide) q1813 q1976 q165 q1814 rfl (by decide) (by decide) (Nat.le_of_ble_eq_true rfl) dX15_swap_5) (fun v1 h2 => ?_) (fun q5 h6 => ?_)
  · refine vv_istore_n (pc := 8) (lv' := [(2, LI v1), (0, LR (some a0)), (1, LI a1)]) X (kf := 2) (i := 2) rfl (by decide) rfl dX15_swap_8 ?_
    refine vv_aload_n (pc := 9) X (kf := 0) (i := 0) rfl 1 rfl dX15_swap_9 ?_
    refine vv_rcv (fun b9 t9 c9 fs9 e10 g9 k9 => ?_)
    cases List.mem_singleton.mp k9
    refine vv_xallR (pc := 10) (rest := []) (by rw [e10]; rfl) (fun r8 k8 e8 => zz_callU X (m_X10_letters (hlM X) _ _ _ _ e8) g9 rfl q1942 q1943 (va_Decl.of (X.1.2.2.2.2 _ q1010) (X.1.2.2.2.2 _ q1011)) (by decide) q1010 q1944 q165 q1011 rfl (by decide) (by decide) (Nat.le_of_ble_eq_true rfl) dX15_swap_10) (fun v7 h8 => ?_) (fun q11 h12 => ?_)
    · refine vv_astore_n (pc := 13) (lv' := [(3, LR v7), (2, LI v1), (0, LR (some a0)), (1, LI a1)]) X (kf := 3) (i := 3) rfl (by decide) rfl dX15_swap_13 ?_
      refine vv_aload_n (pc := 14) X (kf := 0) (i := 0) rfl 2 rfl dX15_swap_14 ?_
      refine vv_aload_n (pc := 15) X (kf := 3) (i := 3) rfl 0 rfl dX15_swap_15 ?_
      refine vv_alen (pc := 16) X dX15_swap_16 (fun v13 => ?_)
      refine vv_iconst (pc := 17) X dX15_swap_17 ?_
      refine vv_icmp_ne (pc := 18) (tgt := 34) X dX15_swap_18 rfl ?_ ?_
      · exact vv_sub [2, 3, 1, 0] (by rfl) (B_X15_swap_34 X _ _ _ _ _ _)
      · refine vv_aload_n (pc := 21) X (kf := 3) (i := 3) rfl 0 rfl dX15_swap_21 ?_
        refine vv_iconst (pc := 22) X dX15_swap_22 ?_
        refine vv_iaload (pc := 23) X dX15_swap_23 (fun v30 => ?_)
        refine vv_aload_n (pc := 24) X (kf := 3) (i := 3) rfl 0 rfl dX15_swap_24 ?_
        refine vv_iconst (pc := 25) X dX15_swap_25 ?_
        refine vv_iaload (pc := 26) X dX15_swap_26 (fun v31 => ?_)
        refine vv_icmp_eq (pc := 27) (tgt := 34) X dX15_swap_27 rfl ?_ ?_
        · exact vv_sub [2, 3, 1, 0] (by rfl) (B_X15_swap_34 X _ _ _ _ _ _)
        · refine vv_iconst (pc := 30) X dX15_swap_30 ?_
          refine vv_goto (pc := 31) (tgt := 35) X dX15_swap_31 rfl ?_
          exact vv_sub [2, 3, 1, 0] (by rfl) (B_X15_swap_35 X _ _ _ _ _ _ _)
    · exact vvx_out X (by decide) rfl
  · exact vvx_out X (by decide) rfl
theorem m_X15_swap {l : Launch} (hl : l.stackTraces = false) {G : va_G} (a0 : Nat) (a1 : Int) (h : HP) : ∀ r hf, f_X15_swap a0 a1 h = some (r, hf) → Ct l yX15_swap (ws_ yX15_swap cX15_swap 4 (some (.object "RenamedWords$Order"))) 8 312 G h [.ref a0, .int (iI a1)] (xR r) hf :=
  zz_ofW hl (by decide +kernel) (lv := [(0, LR (some a0)), (1, LI a1)]) (by simp [lv_args, lvL, lvV, zz_rfc, zz_rfs, zz_ci, zz_cr, zz_cj, zz_cf, zz_cd]) (by simp [lg_sl, zz_rfc, zz_ci, zz_cr, zz_cj, zz_cf, zz_cd]) (fun _ X => A_X15_swap X a0 a1 h)
-- X24_init RenamedWords$ScriptReader$6.<init>(LRenamedWords$ScriptReader;III)V
noncomputable def f_X24_init (a0 : Nat) (a1 : Option Nat) (a2 : Int) (a3 : Int) (a4 : Int) (h : HP) : Option ((Unit) × HP) :=
  (wrR h (some a0) [19] 4 a1).bind fun h1 =>
  (wrI h1 (some a0) [19] 1 a2).bind fun h2 =>
  (wrI h2 (some a0) [19] 2 a3).bind fun h3 =>
  (wrI h3 (some a0) [19] 3 a4).bind fun h4 =>
  (rdR h4 a1 [12] 9).bind fun v5 =>
  hb (f_X18_init a0 v5 h4) fun _ h7 =>
  some ((), h7)
theorem A_X24_init {M : hp_M} {G : va_G} {h0 : HP} (X : hp_X M G h0 "RenamedWords$ScriptReader$6" "<init>" cX24_init 5 none [] 3 85) (a0 : Nat) (a1 : Option Nat) (a2 : Int) (a3 : Int) (a4 : Int) (h : HP) : vv M G h0 5 (hp_End M G h0) jV h 0 [(0, LR (some a0)), (1, LR a1), (2, LI a2), (3, LI a3), (4, LI a4)] [] (f_X24_init a0 a1 a2 a3 a4 h) := by
  unfold f_X24_init
  refine vv_aload_n (pc := 0) X (kf := 0) (i := 0) rfl 0 rfl dX24_init_0 ?_
  refine vv_aload_n (pc := 1) X (kf := 1) (i := 1) rfl 1 rfl dX24_init_1 ?_
  refine vv_putR (pc := 2) (ty9 := (.object "RenamedWords$ScriptReader")) (fin := true) X (fun _ z => by cases List.mem_singleton.mp z; exact fl_X24_1_19) (fun _ => rfl) (fun _ => (fun _ z => by cases List.mem_singleton.mp z; exact ⟨_, rfl, rfl⟩)) (by decide +kernel) rfl dX24_init_2 (fun h1 => ?_)
  refine vv_aload_n (pc := 5) X (kf := 0) (i := 0) rfl 0 rfl dX24_init_5 ?_
  refine vv_iload_n (pc := 6) X (kf := 2) (i := 2) rfl 2 rfl dX24_init_6 ?_
  refine vv_putI (pc := 7) (fin := true) X (fun _ z => by cases List.mem_singleton.mp z; exact fl_X24_7_19) (fun _ => rfl) (fun _ => (fun _ z => by cases List.mem_singleton.mp z; exact ⟨_, rfl, rfl⟩)) dX24_init_7 (fun h2 => ?_)
  refine vv_aload_n (pc := 10) X (kf := 0) (i := 0) rfl 0 rfl dX24_init_10 ?_
  refine vv_iload_n (pc := 11) X (kf := 3) (i := 3) rfl 3 rfl dX24_init_11 ?_
  refine vv_putI (pc := 12) (fin := true) X (fun _ z => by cases List.mem_singleton.mp z; exact fl_X24_11_19) (fun _ => rfl) (fun _ => (fun _ z => by cases List.mem_singleton.mp z; exact ⟨_, rfl, rfl⟩)) dX24_init_12 (fun h3 => ?_)
  refine vv_aload_n (pc := 15) X (kf := 0) (i := 0) rfl 0 rfl dX24_init_15 ?_
  refine vv_iload (pc := 16) X 4 rfl dX24_init_16 ?_
  refine vv_putI (pc := 18) (fin := true) X (fun _ z => by cases List.mem_singleton.mp z; exact fl_X24_14_19) (fun _ => rfl) (fun _ => (fun _ z => by cases List.mem_singleton.mp z; exact ⟨_, rfl, rfl⟩)) dX24_init_18 (fun h4 => ?_)
  refine vv_aload_n (pc := 21) X (kf := 0) (i := 0) rfl 0 rfl dX24_init_21 ?_
  refine vv_aload_n (pc := 22) X (kf := 1) (i := 1) rfl 1 rfl dX24_init_22 ?_
  refine vv_getR (pc := 23) X (fun _ z => by cases List.mem_singleton.mp z; exact fl_X24_17_12) dX24_init_23 (fun v5 => ?_)
  refine vv_callV (pc := 26) (rest := []) (by rfl) (fun r8 k8 e8 => zz_callIN X (m_X18_init (hlM X) _ _ _ _ _ e8) q2071 q1951 q183 q1952 rfl nh_X18 rfl (by decide) (by decide) (Nat.le_of_ble_eq_true rfl) dX24_init_26) (fun v6 h7 => ?_)
  exact vv_vreturn X rfl rfl dX24_init_29
theorem m_X24_init {l : Launch} (hl : l.stackTraces = false) {G : va_G} (a0 : Nat) (a1 : Option Nat) (a2 : Int) (a3 : Int) (a4 : Int) (h : HP) : ∀ r hf, f_X24_init a0 a1 a2 a3 a4 h = some (r, hf) → Ct l yX24_init (ws_ yX24_init cX24_init 5 none) 3 85 G h [.ref a0, va_rf a1, .int (iI a2), .int (iI a3), .int (iI a4)] (jV r) hf :=
  zz_ofW hl (by decide +kernel) (lv := [(0, LR (some a0)), (1, LR a1), (2, LI a2), (3, LI a3), (4, LI a4)]) (by simp [lv_args, lvL, lvV, zz_rfc, zz_rfs, zz_ci, zz_cr, zz_cj, zz_cf, zz_cd]) (by simp [lg_sl, zz_rfc, zz_ci, zz_cr, zz_cj, zz_cf, zz_cd]) (fun _ X => A_X24_init X a0 a1 a2 a3 a4 h)
-- X15_take RenamedWords$ScriptReader.take(I)LRenamedWords$Order;
noncomputable def f_X15_take (a0 : Nat) (a1 : Int) (h : HP) : Option ((Nat ⊕ Option Nat) × HP) :=
  (rcv h (some a0) [12]).bind fun b3 =>
  hbx (f_X10_place b3 h) (fun q5 h6 =>
      some (.inl q5, h6)) fun v1 h2 =>
  (rcv h2 (some a0) [12]).bind fun b9 =>
  hbx (f_X10_number b9 1 20 h2) (fun q11 h12 =>
      some (.inl q11, h12)) fun v7 h8 =>
  hb (nwO h8 (tgR h8 (some a0)) 19 [.inr (.inl none), .inl 0, .inl 0, .inl 0, .inr (.inl none)] 5) fun v13 h14 =>
  (v13).bind fun b17 =>
  hb (f_X24_init b17 (some a0) a1 v1 v7 h14) fun _ h16 =>
  some (.inr v13, h16)
theorem A_X15_take {M : hp_M} {G : va_G} {h0 : HP} (X : hp_X M G h0 "RenamedWords$ScriptReader" "take" cX15_take 4 (some (.object "RenamedWords$Order")) [] 9 340) (a0 : Nat) (a1 : Int) (h : HP) : vv M G h0 4 (hp_End M G h0) xR h 0 [(0, LR (some a0)), (1, LI a1)] [] (f_X15_take a0 a1 h) := by
  unfold f_X15_take
  refine vv_aload_n (pc := 0) X (kf := 0) (i := 0) rfl 0 rfl dX15_take_0 ?_
  refine vv_rcv (fun b3 t9 c9 fs9 e4 g9 k9 => ?_)
  cases List.mem_singleton.mp k9
  refine vv_xallI (pc := 1) (rest := []) (by rw [e4]; rfl) (fun r8 k8 e8 => zz_callU X (m_X10_place (hlM X) _ _ _ _ e8) g9 rfl q1931 q1932 (va_Decl.of (X.1.2.2.2.2 _ q1935) (X.1.2.2.2.2 _ q1936)) (by decide) q1935 q1934 q165 q1936 rfl (by decide) (by decide) (Nat.le_of_ble_eq_true rfl) dX15_take_1) (fun v1 h2 => ?_) (fun q5 h6 => ?_)
  · refine vv_istore_n (pc := 4) (lv' := [(2, LI v1), (0, LR (some a0)), (1, LI a1)]) X (kf := 2) (i := 2) rfl (by decide) rfl dX15_take_4 ?_
    refine vv_aload_n (pc := 5) X (kf := 0) (i := 0) rfl 1 rfl dX15_take_5 ?_
    refine vv_iconst (pc := 6) X dX15_take_6 ?_
    refine vv_bipush (pc := 7) X (by decide) dX15_take_7 ?_
    refine vv_rcv (fun b9 t9 c9 fs9 e10 g9 k9 => ?_)
    cases List.mem_singleton.mp k9
    refine vv_xallI (pc := 9) (rest := []) (by rw [e10]; rfl) (fun r8 k8 e8 => zz_callU X (m_X10_number (hlM X) _ _ _ _ _ _ e8) g9 rfl q1974 q1975 (va_Decl.of (X.1.2.2.2.2 _ q1813) (X.1.2.2.2.2 _ q1814)) (by decide) q1813 q1976 q165 q1814 rfl (by decide) (by decide) (Nat.le_of_ble_eq_true rfl) dX15_take_9) (fun v7 h8 => ?_) (fun q11 h12 => ?_)
    · refine vv_istore_n (pc := 12) (lv' := [(3, LI v7), (2, LI v1), (0, LR (some a0)), (1, LI a1)]) X (kf := 3) (i := 3) rfl (by decide) rfl dX15_take_12 ?_
      refine vv_new (pc := 13) X tyX24 rfl in_X24 tyX24_ok q2066 q2067 q189 ndX24 (by decide) dX15_take_13 (fun v13 h14 => ?_)
      refine vv_dup (pc := 16) X rfl dX15_take_16 ?_
      refine vv_aload_n (pc := 17) X (kf := 0) (i := 0) rfl 2 rfl dX15_take_17 ?_
      refine vv_iload_n (pc := 18) X (kf := 1) (i := 1) rfl 3 rfl dX15_take_18 ?_
      refine vv_iload_n (pc := 19) X (kf := 2) (i := 2) rfl 1 rfl dX15_take_19 ?_
      refine vv_iload_n (pc := 20) X (kf := 3) (i := 3) rfl 0 rfl dX15_take_20 ?_
      refine vv_bnd (fun b17 e18 => ?_)
      refine vv_callV (pc := 21) (rest := [LR v13]) (by rw [e18]; rfl) (fun r8 k8 e8 => zz_callI X (m_X24_init (hlM X) _ _ _ _ _ _ _ _ e8) q2068 q2069 q189 q2070 rfl nh_X24 rfl (by decide) (by decide) (Nat.le_of_ble_eq_true rfl) dX15_take_21) (fun v15 h16 => ?_)
      exact vv_aretO X rfl rfl dX15_take_24
    · exact vvx_out X (by decide) rfl
  · exact vvx_out X (by decide) rfl
theorem m_X15_take {l : Launch} (hl : l.stackTraces = false) {G : va_G} (a0 : Nat) (a1 : Int) (h : HP) : ∀ r hf, f_X15_take a0 a1 h = some (r, hf) → Ct l yX15_take (ws_ yX15_take cX15_take 4 (some (.object "RenamedWords$Order"))) 9 340 G h [.ref a0, .int (iI a1)] (xR r) hf :=
  zz_ofW hl (by decide +kernel) (lv := [(0, LR (some a0)), (1, LI a1)]) (by simp [lv_args, lvL, lvV, zz_rfc, zz_rfs, zz_ci, zz_cr, zz_cj, zz_cf, zz_cd]) (by simp [lg_sl, zz_rfc, zz_ci, zz_cr, zz_cj, zz_cf, zz_cd]) (fun _ X => A_X15_take X a0 a1 h)
-- X25_init RenamedWords$ScriptReader$7.<init>(LRenamedWords$ScriptReader;I)V
noncomputable def f_X25_init (a0 : Nat) (a1 : Option Nat) (a2 : Int) (h : HP) : Option ((Unit) × HP) :=
  (wrR h (some a0) [20] 2 a1).bind fun h1 =>
  (wrI h1 (some a0) [20] 1 a2).bind fun h2 =>
  (rdR h2 a1 [12] 9).bind fun v3 =>
  hb (f_X18_init a0 v3 h2) fun _ h5 =>
  some ((), h5)
theorem A_X25_init {M : hp_M} {G : va_G} {h0 : HP} (X : hp_X M G h0 "RenamedWords$ScriptReader$7" "<init>" cX25_init 3 none [] 3 85) (a0 : Nat) (a1 : Option Nat) (a2 : Int) (h : HP) : vv M G h0 3 (hp_End M G h0) jV h 0 [(0, LR (some a0)), (1, LR a1), (2, LI a2)] [] (f_X25_init a0 a1 a2 h) := by
  unfold f_X25_init
  refine vv_aload_n (pc := 0) X (kf := 0) (i := 0) rfl 0 rfl dX25_init_0 ?_
  refine vv_aload_n (pc := 1) X (kf := 1) (i := 1) rfl 1 rfl dX25_init_1 ?_
  refine vv_putR (pc := 2) (ty9 := (.object "RenamedWords$ScriptReader")) (fin := true) X (fun _ z => by cases List.mem_singleton.mp z; exact fl_X25_1_20) (fun _ => rfl) (fun _ => (fun _ z => by cases List.mem_singleton.mp z; exact ⟨_, rfl, rfl⟩)) (by decide +kernel) rfl dX25_init_2 (fun h1 => ?_)
  refine vv_aload_n (pc := 5) X (kf := 0) (i := 0) rfl 0 rfl dX25_init_5 ?_
  refine vv_iload_n (pc := 6) X (kf := 2) (i := 2) rfl 2 rfl dX25_init_6 ?_
  refine vv_putI (pc := 7) (fin := true) X (fun _ z => by cases List.mem_singleton.mp z; exact fl_X25_7_20) (fun _ => rfl) (fun _ => (fun _ z => by cases List.mem_singleton.mp z; exact ⟨_, rfl, rfl⟩)) dX25_init_7 (fun h2 => ?_)
  refine vv_aload_n (pc := 10) X (kf := 0) (i := 0) rfl 0 rfl dX25_init_10 ?_
  refine vv_aload_n (pc := 11) X (kf := 1) (i := 1) rfl 1 rfl dX25_init_11 ?_
  refine vv_getR (pc := 12) X (fun _ z => by cases List.mem_singleton.mp z; exact fl_X25_11_12) dX25_init_12 (fun v3 => ?_)
  refine vv_callV (pc := 15) (rest := []) (by rfl) (fun r8 k8 e8 => zz_callIN X (m_X18_init (hlM X) _ _ _ _ _ e8) q2095 q1951 q183 q1952 rfl nh_X18 rfl (by decide) (by decide) (Nat.le_of_ble_eq_true rfl) dX25_init_15) (fun v4 h5 => ?_)
  exact vv_vreturn X rfl rfl dX25_init_18
theorem m_X25_init {l : Launch} (hl : l.stackTraces = false) {G : va_G} (a0 : Nat) (a1 : Option Nat) (a2 : Int) (h : HP) : ∀ r hf, f_X25_init a0 a1 a2 h = some (r, hf) → Ct l yX25_init (ws_ yX25_init cX25_init 3 none) 3 85 G h [.ref a0, va_rf a1, .int (iI a2)] (jV r) hf :=
  zz_ofW hl (by decide +kernel) (lv := [(0, LR (some a0)), (1, LR a1), (2, LI a2)]) (by simp [lv_args, lvL, lvV, zz_rfc, zz_rfs, zz_ci, zz_cr, zz_cj, zz_cf, zz_cd]) (by simp [lg_sl, zz_rfc, zz_ci, zz_cr, zz_cj, zz_cf, zz_cd]) (fun _ X => A_X25_init X a0 a1 a2 h)
-- X15_firm RenamedWords$ScriptReader.firm(I)LRenamedWords$Order;
noncomputable def f_X15_firm (a0 : Nat) (a1 : Int) (h : HP) : Option ((Option Nat) × HP) :=
  hb (nwO h (tgR h (some a0)) 20 [.inr (.inl none), .inl 0, .inr (.inl none)] 3) fun v1 h2 =>
  (v1).bind fun b5 =>
  hb (f_X25_init b5 (some a0) a1 h2) fun _ h4 =>
  some (v1, h4)
theorem A_X15_firm {M : hp_M} {G : va_G} {h0 : HP} (X : hp_X M G h0 "RenamedWords$ScriptReader" "firm" cX15_firm 2 (some (.object "RenamedWords$Order")) [] 4 115) (a0 : Nat) (a1 : Int) (h : HP) : vv M G h0 2 (hp_End M G h0) jR h 0 [(0, LR (some a0)), (1, LI a1)] [] (f_X15_firm a0 a1 h) := by
  unfold f_X15_firm
  refine vv_new (pc := 0) X tyX25 rfl in_X25 tyX25_ok q2090 q2091 q190 ndX25 (by decide) dX15_firm_0 (fun v1 h2 => ?_)
  refine vv_dup (pc := 3) X rfl dX15_firm_3 ?_
  refine vv_aload_n (pc := 4) X (kf := 0) (i := 0) rfl 0 rfl dX15_firm_4 ?_
  refine vv_iload_n (pc := 5) X (kf := 1) (i := 1) rfl 1 rfl dX15_firm_5 ?_
  refine vv_bnd (fun b5 e6 => ?_)
  refine vv_callV (pc := 6) (rest := [LR v1]) (by rw [e6]; rfl) (fun r8 k8 e8 => zz_callI X (m_X25_init (hlM X) _ _ _ _ _ _ e8) q2092 q2093 q190 q2094 rfl nh_X25 rfl (by decide) (by decide) (Nat.le_of_ble_eq_true rfl) dX15_firm_6) (fun v3 h4 => ?_)
  exact vv_aretO X rfl rfl dX15_firm_9
theorem m_X15_firm {l : Launch} (hl : l.stackTraces = false) {G : va_G} (a0 : Nat) (a1 : Int) (h : HP) : ∀ r hf, f_X15_firm a0 a1 h = some (r, hf) → Ct l yX15_firm (ws_ yX15_firm cX15_firm 2 (some (.object "RenamedWords$Order"))) 4 115 G h [.ref a0, .int (iI a1)] (jR r) hf :=
  zz_ofW hl (by decide +kernel) (lv := [(0, LR (some a0)), (1, LI a1)]) (by simp [lv_args, lvL, lvV, zz_rfc, zz_rfs, zz_ci, zz_cr, zz_cj, zz_cf, zz_cd]) (by simp [lg_sl, zz_rfc, zz_ci, zz_cr, zz_cj, zz_cf, zz_cd]) (fun _ X => A_X15_firm X a0 a1 h)
-- X10_sign RenamedWords$Reader.sign(I)V
noncomputable def f_X10_sign (a0 : Nat) (a1 : Int) (h : HP) : Option ((Nat ⊕ Unit) × HP) :=
  (rcv h (some a0) [8, 12]).bind fun b3 =>
  hb (f_X10_isSign b3 a1 h) fun v1 h2 =>
  (rcv h2 (some a0) [8, 12]).bind fun b7 =>
  hbx (f_X10_must b7 v1 1 h2) (fun q9 h10 =>
      some (.inl q9, h10)) fun _ h6 =>
  (rcv h6 (some a0) [8, 12]).bind fun b13 =>
  hb (f_X10_next b13 h6) fun _ h12 =>
  some (.inr (), h12)
theorem A_X10_sign {M : hp_M} {G : va_G} {h0 : HP} (X : hp_X M G h0 "RenamedWords$Reader" "sign" cX10_sign 2 none [] 7 281) (a0 : Nat) (a1 : Int) (h : HP) : vv M G h0 2 (hp_End M G h0) xV h 0 [(0, LR (some a0)), (1, LI a1)] [] (f_X10_sign a0 a1 h) := by
  unfold f_X10_sign
  refine vv_aload_n (pc := 0) X (kf := 0) (i := 0) rfl 0 rfl dX10_sign_0 ?_
  refine vv_aload_n (pc := 1) X (kf := 0) (i := 0) rfl 0 rfl dX10_sign_1 ?_
  refine vv_iload_n (pc := 2) X (kf := 1) (i := 1) rfl 1 rfl dX10_sign_2 ?_
  refine vv_rcv (fun b3 t9 c9 fs9 e4 g9 k9 => ?_)
  refine vv_callI (pc := 3) (stv := [.int (iI a1)].reverse ++ .ref b3 :: List.map lvV [LR (some a0)]) (rest := [LR (some a0)]) (by rw [e4]; rfl) (fun r8 k8 e8 => by
      rcases List.mem_cons.mp k9 with rfl | k9
      · exact zz_callW X (m_X10_isSign (hlM X) _ _ _ _ _ e8) g9 rfl q2114 q1044 q4107 q165 q1045 nh_X10 rfl (by decide) (by decide) (Nat.le_of_ble_eq_true rfl) dX10_sign_3
      cases List.mem_singleton.mp k9
      exact zz_callW X (m_X10_isSign (hlM X) _ _ _ _ _ e8) g9 rfl q2114 q1044 q4106 q165 q1045 nh_X10 rfl (by decide) (by decide) (Nat.le_of_ble_eq_true rfl) dX10_sign_3) (fun v1 h2 => ?_)
  refine vv_iconst (pc := 6) X dX10_sign_6 ?_
  refine vv_rcv (fun b7 t9 c9 fs9 e8 g9 k9 => ?_)
  refine vv_xallV (pc := 7) (stv := [.int (iI v1), .int (iI 1)].reverse ++ .ref b7 :: List.map lvV []) (rest := []) (by rw [e8]; rfl) (fun r8 k8 e8 => by
      rcases List.mem_cons.mp k9 with rfl | k9
      · exact zz_callW X (m_X10_must (hlM X) _ _ _ _ _ _ e8) g9 rfl q1018 q968 q4100 q165 q969 nh_X10 rfl (by decide) (by decide) (Nat.le_of_ble_eq_true rfl) dX10_sign_7
      cases List.mem_singleton.mp k9
      exact zz_callW X (m_X10_must (hlM X) _ _ _ _ _ _ e8) g9 rfl q1018 q968 q4099 q165 q969 nh_X10 rfl (by decide) (by decide) (Nat.le_of_ble_eq_true rfl) dX10_sign_7) (fun v5 h6 => ?_) (fun q9 h10 => ?_)
  · refine vv_aload_n (pc := 10) X (kf := 0) (i := 0) rfl 0 rfl dX10_sign_10 ?_
    refine vv_rcv (fun b13 t9 c9 fs9 e14 g9 k9 => ?_)
    refine vv_callV (pc := 11) (stv := [].reverse ++ .ref b13 :: List.map lvV []) (rest := []) (by rw [e14]; rfl) (fun r8 k8 e8 => by
        rcases List.mem_cons.mp k9 with rfl | k9
        · exact zz_callW X (m_X10_next (hlM X) _ _ _ _ e8) g9 rfl q859 q860 q863 q165 q864 nh_X10 rfl (by decide) (by decide) (Nat.le_of_ble_eq_true rfl) dX10_sign_11
        cases List.mem_singleton.mp k9
        exact zz_callW X (m_X10_next (hlM X) _ _ _ _ e8) g9 rfl q859 q860 q862 q165 q864 nh_X10 rfl (by decide) (by decide) (Nat.le_of_ble_eq_true rfl) dX10_sign_11) (fun v11 h12 => ?_)
    exact vv_vreturn X rfl rfl dX10_sign_14
  · exact vvx_out X (by decide) rfl
theorem m_X10_sign {l : Launch} (hl : l.stackTraces = false) {G : va_G} (a0 : Nat) (a1 : Int) (h : HP) : ∀ r hf, f_X10_sign a0 a1 h = some (r, hf) → Ct l yX10_sign (ws_ yX10_sign cX10_sign 2 none) 7 281 G h [.ref a0, .int (iI a1)] (xV r) hf :=
  zz_ofW hl (by decide +kernel) (lv := [(0, LR (some a0)), (1, LI a1)]) (by simp [lv_args, lvL, lvV, zz_rfc, zz_rfs, zz_ci, zz_cr, zz_cj, zz_cf, zz_cd]) (by simp [lg_sl, zz_rfc, zz_ci, zz_cr, zz_cj, zz_cf, zz_cd]) (fun _ X => A_X10_sign X a0 a1 h)
-- X15_again_1 RenamedWords$ScriptReader.again(I)LRenamedWords$Order;
noncomputable def b_X15_again_1_23 (x0 : Option Nat) (x1 : Int) (s0 : Int) (s1 : Option Nat) (h : HP) : Option ((Nat ⊕ Option Nat) × HP) :=
  (rcv h s1 [12]).bind fun b7 =>
  hbx (f_X10_must b7 s0 5 h) (fun q9 h10 =>
      some (.inl q9, h10)) fun _ h6 =>
  (rcv h6 x0 [12]).bind fun b13 =>
  hbx (f_X10_sign b13 40 h6) (fun q15 h16 =>
      some (.inl q15, h16)) fun _ h12 =>
  (rdI h12 x0 [12] 8).bind fun v17 =>
  (wrI h12 x0 [12] 8 (v17 + 1)).bind fun h18 =>
  none
theorem B_X15_again_1_23 {M : hp_M} {G : va_G} {h0 : HP} (X : hp_X M G h0 "RenamedWords$ScriptReader" "again" cX15_again 3 (some (.object "RenamedWords$Order")) [] 8 310) (x0 : Option Nat) (x1 : Int) (s0 : Int) (s1 : Option Nat) (h : HP) : vv M G h0 3 (hp_End M G h0) xR h 23 [(0, LR x0), (1, LI x1)] [LI s0, LR s1] (b_X15_again_1_23 x0 x1 s0 s1 h) := by
  unfold b_X15_again_1_23
  refine vv_iconst (pc := 23) X dX15_again_23 ?_
  refine vv_rcv (fun b7 t9 c9 fs9 e8 g9 k9 => ?_)
  cases List.mem_singleton.mp k9
  refine vv_xallV (pc := 24) (rest := []) (by rw [e8]; rfl) (fun r8 k8 e8 => zz_callU X (m_X10_must (hlM X) _ _ _ _ _ _ e8) g9 rfl q1925 q1926 (va_Decl.of (X.1.2.2.2.2 _ q968) (X.1.2.2.2.2 _ q969)) (by decide) q968 q1927 q165 q969 rfl (by decide) (by decide) (Nat.le_of_ble_eq_true rfl) dX15_again_24) (fun v5 h6 => ?_) (fun q9 h10 => ?_)
  · refine vv_aload_n (pc := 27) X (kf := 0) (i := 0) rfl 0 rfl dX15_again_27 ?_
    refine vv_bipush (pc := 28) X (by decide) dX15_again_28 ?_
    refine vv_rcv (fun b13 t9 c9 fs9 e14 g9 k9 => ?_)
    cases List.mem_singleton.mp k9
    refine vv_xallV (pc := 30) (rest := []) (by rw [e14]; rfl) (fun r8 k8 e8 => zz_callU X (m_X10_sign (hlM X) _ _ _ _ _ e8) g9 rfl q2108 q2109 (va_Decl.of (X.1.2.2.2.2 _ q2112) (X.1.2.2.2.2 _ q2113)) (by decide) q2112 q2111 q165 q2113 rfl (by decide) (by decide) (Nat.le_of_ble_eq_true rfl) dX15_again_30) (fun v11 h12 => ?_) (fun q15 h16 => ?_)
    · refine vv_aload_n (pc := 33) X (kf := 0) (i := 0) rfl 0 rfl dX15_again_33 ?_
      refine vv_dup (pc := 34) X rfl dX15_again_34 ?_
      refine vv_getI (pc := 35) X (fun _ z => by cases List.mem_singleton.mp z; exact fl_X15_179_12) dX15_again_35 (fun v17 => ?_)
      refine vv_iconst (pc := 38) X dX15_again_38 ?_
      refine vv_iadd (pc := 39) X dX15_again_39 ?_
      refine vv_putI (pc := 40) (fin := false) X (fun _ z => by cases List.mem_singleton.mp z; exact fl_X15_179_12) (fun z => nomatch z) (fun z => nomatch z) dX15_again_40 (fun h18 => ?_)
      refine vv_aload_n (pc := 43) X (kf := 0) (i := 0) rfl 0 rfl dX15_again_43 ?_
      refine vv_iload_n (pc := 44) X (kf := 1) (i := 1) rfl 1 rfl dX15_again_44 ?_
      exact vv_none
    · exact vvx_out X (by decide) rfl
  · exact vvx_out X (by decide) rfl
noncomputable def b_X15_again_1_18 (x0 : Option Nat) (x1 : Int) (s0 : Option Nat) (h : HP) : Option ((Nat ⊕ Option Nat) × HP) :=
  b_X15_again_1_23 x0 x1 1 s0 h
theorem B_X15_again_1_18 {M : hp_M} {G : va_G} {h0 : HP} (X : hp_X M G h0 "RenamedWords$ScriptReader" "again" cX15_again 3 (some (.object "RenamedWords$Order")) [] 8 310) (x0 : Option Nat) (x1 : Int) (s0 : Option Nat) (h : HP) : vv M G h0 3 (hp_End M G h0) xR h 18 [(0, LR x0), (1, LI x1)] [LR s0] (b_X15_again_1_18 x0 x1 s0 h) := by
  unfold b_X15_again_1_18
  refine vv_iconst (pc := 18) X dX15_again_18 ?_
  refine vv_goto (pc := 19) (tgt := 23) X dX15_again_19 rfl ?_
  exact B_X15_again_1_23 X _ _ _ _ _
noncomputable def f_X15_again_1 (a0 : Nat) (a1 : Int) (h : HP) : Option ((Nat ⊕ Option Nat) × HP) :=
  (rcv h (some a0) [12]).bind fun b3 =>
  hb (f_X10_isSign b3 40 h) fun v1 h2 =>
  iEQ v1 0
    (b_X15_again_1_18 (some a0) a1 (some a0) h2)
    ((rdI h2 (some a0) [12] 8).bind fun v19 =>
    iLE 2 v19
      (b_X15_again_1_23 (some a0) a1 0 (some a0) h2)
      (b_X15_again_1_18 (some a0) a1 (some a0) h2))
theorem A_X15_again_1 {M : hp_M} {G : va_G} {h0 : HP} (X : hp_X M G h0 "RenamedWords$ScriptReader" "again" cX15_again 3 (some (.object "RenamedWords$Order")) [] 8 310) (a0 : Nat) (a1 : Int) (h : HP) : vv M G h0 3 (hp_End M G h0) xR h 0 [(0, LR (some a0)), (1, LI a1)] [] (f_X15_again_1 a0 a1 h) := by
  unfold f_X15_again_1
  refine vv_aload_n (pc := 0) X (kf := 0) (i := 0) rfl 0 rfl dX15_again_0 ?_
  refine vv_aload_n (pc := 1) X (kf := 0) (i := 0) rfl 0 rfl dX15_again_1 ?_
  refine vv_bipush (pc := 2) X (by decide) dX15_again_2 ?_
  refine vv_rcv (fun b3 t9 c9 fs9 e4 g9 k9 => ?_)
  cases List.mem_singleton.mp k9
  refine vv_callI (pc := 4) (rest := [LR (some a0)]) (by rw [e4]; rfl) (fun r8 k8 e8 => zz_callU X (m_X10_isSign (hlM X) _ _ _ _ _ e8) g9 rfl q1900 q1901 (va_Decl.of (X.1.2.2.2.2 _ q1044) (X.1.2.2.2.2 _ q1045)) (by decide) q1044 q1902 q165 q1045 rfl (by decide) (by decide) (Nat.le_of_ble_eq_true rfl) dX15_again_4) (fun v1 h2 => ?_)
  refine vv_if_eq (pc := 7) (tgt := 18) X dX15_again_7 rfl ?_ ?_
  · exact B_X15_again_1_18 X _ _ _ _
  · refine vv_aload_n (pc := 10) X (kf := 0) (i := 0) rfl 0 rfl dX15_again_10 ?_
    refine vv_getI (pc := 11) X (fun _ z => by cases List.mem_singleton.mp z; exact fl_X15_179_12) dX15_again_11 (fun v19 => ?_)
    refine vv_iconst (pc := 14) X dX15_again_14 ?_
    refine vv_icmp_ge (pc := 15) (tgt := 22) X dX15_again_15 rfl ?_ ?_
    · refine vv_iconst (pc := 22) X dX15_again_22 ?_
      exact B_X15_again_1_23 X _ _ _ _ _
    · exact B_X15_again_1_18 X _ _ _ _
theorem m_X15_again_1 {l : Launch} (hl : l.stackTraces = false) {G : va_G} (a0 : Nat) (a1 : Int) (h : HP) : ∀ r hf, f_X15_again_1 a0 a1 h = some (r, hf) → Ct l yX15_again (ws_ yX15_again cX15_again 3 (some (.object "RenamedWords$Order"))) 8 310 G h [.ref a0, .int (iI a1)] (xR r) hf :=
  zz_ofW hl (by decide +kernel) (lv := [(0, LR (some a0)), (1, LI a1)]) (by simp [lv_args, lvL, lvV, zz_rfc, zz_rfs, zz_ci, zz_cr, zz_cj, zz_cf, zz_cd]) (by simp [lg_sl, zz_rfc, zz_ci, zz_cr, zz_cj, zz_cf, zz_cd]) (fun _ X => A_X15_again_1 X a0 a1 h)
