/-! STAGE 1c: functions and contracts (printed by gen/mkfuncs.py). -/
set_option maxRecDepth 100000
set_option linter.unusedVariables false
-- X26_next_2 RenamedWords$Marks$1.next()LRenamedWords$Mark;
noncomputable def b_X26_next_2_30 (x0 : Option Nat) (h : HP) : Option ((Option Nat) × HP) :=
  (rdR h x0 [21] 2).bind fun v3 =>
  (wrR h x0 [21] 1 v3).bind fun h4 =>
  (rdR h4 x0 [21] 1).bind fun v5 =>
  (rdR h4 v5 [22] 2).bind fun v6 =>
  (wrR h4 x0 [21] 2 v6).bind fun h7 =>
  (rdR h7 x0 [21] 1).bind fun v8 =>
  some (v8, h7)
theorem B_X26_next_2_30 {M : hp_M} {G : va_G} {h0 : HP} (X : hp_X M G h0 "RenamedWords$Marks$1" "next" cX26_next_2 1 (some (.object "RenamedWords$Mark")) [] 0 0) (x0 : Option Nat) (h : HP) : vv M G h0 1 (hp_End M G h0) jR h 30 [(0, LR x0)] [] (b_X26_next_2_30 x0 h) := by
  unfold b_X26_next_2_30
  refine vv_aload_n (pc := 30) X (kf := 0) (i := 0) rfl 0 rfl dX26_next_2_30 ?_
  refine vv_aload_n (pc := 31) X (kf := 0) (i := 0) rfl 0 rfl dX26_next_2_31 ?_
  refine vv_getR (pc := 32) X (fun _ z => by cases List.mem_singleton.mp z; exact fl_X26_19_21) dX26_next_2_32 (fun v3 => ?_)
  refine vv_putR (pc := 35) (ty9 := (.object "RenamedWords$Mark")) (fin := false) X (fun _ z => by cases List.mem_singleton.mp z; exact fl_X26_25_21) (fun z => nomatch z) (fun z => nomatch z) (by decide +kernel) rfl dX26_next_2_35 (fun h4 => ?_)
  refine vv_aload_n (pc := 38) X (kf := 0) (i := 0) rfl 0 rfl dX26_next_2_38 ?_
  refine vv_aload_n (pc := 39) X (kf := 0) (i := 0) rfl 0 rfl dX26_next_2_39 ?_
  refine vv_getR (pc := 40) X (fun _ z => by cases List.mem_singleton.mp z; exact fl_X26_25_21) dX26_next_2_40 (fun v5 => ?_)
  refine vv_getR (pc := 43) X (fun _ z => by cases List.mem_singleton.mp z; exact fl_X26_31_22) dX26_next_2_43 (fun v6 => ?_)
  refine vv_putR (pc := 46) (ty9 := (.object "RenamedWords$Mark")) (fin := false) X (fun _ z => by cases List.mem_singleton.mp z; exact fl_X26_19_21) (fun z => nomatch z) (fun z => nomatch z) (by decide +kernel) rfl dX26_next_2_46 (fun h7 => ?_)
  refine vv_aload_n (pc := 49) X (kf := 0) (i := 0) rfl 0 rfl dX26_next_2_49 ?_
  refine vv_getR (pc := 50) X (fun _ z => by cases List.mem_singleton.mp z; exact fl_X26_25_21) dX26_next_2_50 (fun v8 => ?_)
  exact vv_aretO X rfl rfl dX26_next_2_53
noncomputable def f_X26_next_2 (a0 : Nat) (h : HP) : Option ((Option Nat) × HP) :=
  (rdR h (some a0) [21] 2).bind fun v1 =>
  rNU v1
    (none)
    ((rdR h (some a0) [21] 1).bind fun v2 =>
    rNU v2
      (b_X26_next_2_30 (some a0) h)
      ((rdR h (some a0) [21] 1).bind fun v9 =>
      (wrR h (some a0) [21] 0 v9).bind fun h10 =>
      b_X26_next_2_30 (some a0) h10))
theorem A_X26_next_2 {M : hp_M} {G : va_G} {h0 : HP} (X : hp_X M G h0 "RenamedWords$Marks$1" "next" cX26_next_2 1 (some (.object "RenamedWords$Mark")) [] 0 0) (a0 : Nat) (h : HP) : vv M G h0 1 (hp_End M G h0) jR h 0 [(0, LR (some a0))] [] (f_X26_next_2 a0 h) := by
  unfold f_X26_next_2
  refine vv_aload_n (pc := 0) X (kf := 0) (i := 0) rfl 0 rfl dX26_next_2_0 ?_
  refine vv_getR (pc := 1) X (fun _ z => by cases List.mem_singleton.mp z; exact fl_X26_19_21) dX26_next_2_1 (fun v1 => ?_)
  refine vv_ifnonnull (pc := 4) (tgt := 15) X dX26_next_2_4 rfl ?_ ?_
  · refine vv_aload_n (pc := 15) X (kf := 0) (i := 0) rfl 0 rfl dX26_next_2_15 ?_
    refine vv_getR (pc := 16) X (fun _ z => by cases List.mem_singleton.mp z; exact fl_X26_25_21) dX26_next_2_16 (fun v2 => ?_)
    refine vv_ifnull (pc := 19) (tgt := 30) X dX26_next_2_19 rfl ?_ ?_
    · exact B_X26_next_2_30 X _ _
    · refine vv_aload_n (pc := 22) X (kf := 0) (i := 0) rfl 0 rfl dX26_next_2_22 ?_
      refine vv_aload_n (pc := 23) X (kf := 0) (i := 0) rfl 0 rfl dX26_next_2_23 ?_
      refine vv_getR (pc := 24) X (fun _ z => by cases List.mem_singleton.mp z; exact fl_X26_25_21) dX26_next_2_24 (fun v9 => ?_)
      refine vv_putR (pc := 27) (ty9 := (.object "RenamedWords$Mark")) (fin := false) X (fun _ z => by cases List.mem_singleton.mp z; exact fl_X26_28_21) (fun z => nomatch z) (fun z => nomatch z) (by decide +kernel) rfl dX26_next_2_27 (fun h10 => ?_)
      exact B_X26_next_2_30 X _ _
  · exact vv_none
theorem m_X26_next_2 {l : Launch} (hl : l.stackTraces = false) {G : va_G} (a0 : Nat) (h : HP) : ∀ r hf, f_X26_next_2 a0 h = some (r, hf) → Ct l yX26_next_2 (ws_ yX26_next_2 cX26_next_2 1 (some (.object "RenamedWords$Mark"))) 0 0 G h [.ref a0] (jR r) hf :=
  zz_ofW hl (by decide +kernel) (lv := [(0, LR (some a0))]) (by simp [lv_args, lvL, lvV, zz_rfc, zz_rfs, zz_ci, zz_cr, zz_cj, zz_cf, zz_cd]) (by simp [lg_sl, zz_rfc, zz_ci, zz_cr, zz_cj, zz_cf, zz_cd]) (fun _ X => A_X26_next_2 X a0 h)
-- X26_next RenamedWords$Marks$1.next()Ljava/lang/Object;
noncomputable def f_X26_next (a0 : Nat) (h : HP) : Option ((Option Nat) × HP) :=
  (rcv h (some a0) [21]).bind fun b3 =>
  hb (f_X26_next_2 b3 h) fun v1 h2 =>
  some (v1, h2)
theorem A_X26_next {M : hp_M} {G : va_G} {h0 : HP} (X : hp_X M G h0 "RenamedWords$Marks$1" "next" cX26_next 1 (some (.object "java/lang/Object")) [] 1 28) (a0 : Nat) (h : HP) : vv M G h0 1 (hp_End M G h0) jR h 0 [(0, LR (some a0))] [] (f_X26_next a0 h) := by
  unfold f_X26_next
  refine vv_aload_n (pc := 0) X (kf := 0) (i := 0) rfl 0 rfl dX26_next_0 ?_
  refine vv_rcv (fun b3 t9 c9 fs9 e4 g9 k9 => ?_)
  cases List.mem_singleton.mp k9
  refine vv_callR (pc := 1) (rest := []) (by rw [e4]; rfl) (fun r8 k8 e8 => zz_callV X (m_X26_next_2 (hlM X) _ _ _ _ e8) g9 rfl rfl q2212 q2213 q2214 q191 q2215 nh_X26 rfl (by decide) (by decide) (Nat.le_of_ble_eq_true rfl) dX26_next_1) (fun v1 h2 => ?_)
  exact vv_aretO X rfl rfl dX26_next_4
theorem m_X26_next {l : Launch} (hl : l.stackTraces = false) {G : va_G} (a0 : Nat) (h : HP) : ∀ r hf, f_X26_next a0 h = some (r, hf) → Ct l yX26_next (ws_ yX26_next cX26_next 1 (some (.object "java/lang/Object"))) 1 28 G h [.ref a0] (jR r) hf :=
  zz_ofW hl (by decide +kernel) (lv := [(0, LR (some a0))]) (by simp [lv_args, lvL, lvV, zz_rfc, zz_rfs, zz_ci, zz_cr, zz_cj, zz_cf, zz_cd]) (by simp [lg_sl, zz_rfc, zz_ci, zz_cr, zz_cj, zz_cf, zz_cd]) (fun _ X => A_X26_next X a0 h)
-- X27_init RenamedWords$Mark.<init>(II)V
noncomputable def f_X27_init (a0 : Nat) (a1 : Int) (a2 : Int) (h : HP) : Option ((Unit) × HP) :=
  (wrI h (some a0) [22] 0 a1).bind fun h1 =>
  (wrI h1 (some a0) [22] 1 a2).bind fun h2 =>
  some ((), h2)
theorem A_X27_init {M : hp_M} {G : va_G} {h0 : HP} (X : hp_X M G h0 "RenamedWords$Mark" "<init>" cX27_init 3 none [] 1 28) (a0 : Nat) (a1 : Int) (a2 : Int) (h : HP) : vv M G h0 3 (hp_End M G h0) jV h 0 [(0, LR (some a0)), (1, LI a1), (2, LI a2)] [] (f_X27_init a0 a1 a2 h) := by
  unfold f_X27_init
  refine vv_aload_n (pc := 0) X (kf := 0) (i := 0) rfl 0 rfl dX27_init_0 ?_
  refine vv_objInit (pc := 1) X rfl q2383 q212 q213 (by decide) (by decide) (Nat.le_of_ble_eq_true rfl) dX27_init_1 ?_
  refine vv_aload_n (pc := 4) X (kf := 0) (i := 0) rfl 0 rfl dX27_init_4 ?_
  refine vv_iload_n (pc := 5) X (kf := 1) (i := 1) rfl 1 rfl dX27_init_5 ?_
  refine vv_putI (pc := 6) (fin := true) X (fun _ z => by cases List.mem_singleton.mp z; exact fl_X27_7_22) (fun _ => rfl) (fun _ => (fun _ z => by cases List.mem_singleton.mp z; exact ⟨_, rfl, rfl⟩)) dX27_init_6 (fun h1 => ?_)
  refine vv_aload_n (pc := 9) X (kf := 0) (i := 0) rfl 0 rfl dX27_init_9 ?_
  refine vv_iload_n (pc := 10) X (kf := 2) (i := 2) rfl 2 rfl dX27_init_10 ?_
  refine vv_putI (pc := 11) (fin := false) X (fun _ z => by cases List.mem_singleton.mp z; exact fl_X27_13_22) (fun z => nomatch z) (fun z => nomatch z) dX27_init_11 (fun h2 => ?_)
  exact vv_vreturn X rfl rfl dX27_init_14
theorem m_X27_init {l : Launch} (hl : l.stackTraces = false) {G : va_G} (a0 : Nat) (a1 : Int) (a2 : Int) (h : HP) : ∀ r hf, f_X27_init a0 a1 a2 h = some (r, hf) → Ct l yX27_init (ws_ yX27_init cX27_init 3 none) 1 28 G h [.ref a0, .int (iI a1), .int (iI a2)] (jV r) hf :=
  zz_ofW hl (by decide +kernel) (lv := [(0, LR (some a0)), (1, LI a1), (2, LI a2)]) (by simp [lv_args, lvL, lvV, zz_rfc, zz_rfs, zz_ci, zz_cr, zz_cj, zz_cf, zz_cd]) (by simp [lg_sl, zz_rfc, zz_ci, zz_cr, zz_cj, zz_cf, zz_cd]) (fun _ X => A_X27_init X a0 a1 a2 h)
-- X6_adds RenamedWords$Marks.adds(LRenamedWords$Mark;)V
noncomputable def b_X6_adds_23 (x0 : Option Nat) (x1 : Option Nat) (h : HP) : Option ((Unit) × HP) :=
  (wrR h x0 [4] 1 x1).bind fun h4 =>
  (rdI h4 x0 [4] 2).bind fun v5 =>
  (wrI h4 x0 [4] 2 (v5 + 1)).bind fun h6 =>
  some ((), h6)
theorem B_X6_adds_23 {M : hp_M} {G : va_G} {h0 : HP} (X : hp_X M G h0 "RenamedWords$Marks" "adds" cX6_adds 2 none [] 0 0) (x0 : Option Nat) (x1 : Option Nat) (h : HP) : vv M G h0 2 (hp_End M G h0) jV h 23 [(0, LR x0), (1, LR x1)] [] (b_X6_adds_23 x0 x1 h) := by
  unfold b_X6_adds_23
  refine vv_aload_n (pc := 23) X (kf := 0) (i := 0) rfl 0 rfl dX6_adds_23 ?_
  refine vv_aload_n (pc := 24) X (kf := 1) (i := 1) rfl 1 rfl dX6_adds_24 ?_
  refine vv_putR (pc := 25) (ty9 := (.object "RenamedWords$Mark")) (fin := false) X (fun _ z => by cases List.mem_singleton.mp z; exact fl_X6_13_4) (fun z => nomatch z) (fun z => nomatch z) (by decide +kernel) rfl dX6_adds_25 (fun h4 => ?_)
  refine vv_aload_n (pc := 28) X (kf := 0) (i := 0) rfl 0 rfl dX6_adds_28 ?_
  refine vv_dup (pc := 29) X rfl dX6_adds_29 ?_
  refine vv_getI (pc := 30) X (fun _ z => by cases List.mem_singleton.mp z; exact fl_X6_21_4) dX6_adds_30 (fun v5 => ?_)
  refine vv_iconst (pc := 33) X dX6_adds_33 ?_
  refine vv_iadd (pc := 34) X dX6_adds_34 ?_
  refine vv_putI (pc := 35) (fin := false) X (fun _ z => by cases List.mem_singleton.mp z; exact fl_X6_21_4) (fun z => nomatch z) (fun z => nomatch z) dX6_adds_35 (fun h6 => ?_)
  exact vv_vreturn X rfl rfl dX6_adds_38
noncomputable def f_X6_adds (a0 : Nat) (a1 : Option Nat) (h : HP) : Option ((Unit) × HP) :=
  (rdR h (some a0) [4] 0).bind fun v1 =>
  rNU v1
    ((wrR h (some a0) [4] 0 a1).bind fun h7 =>
    b_X6_adds_23 (some a0) a1 h7)
    ((rdR h (some a0) [4] 1).bind fun v2 =>
    (wrR h v2 [22] 2 a1).bind fun h3 =>
    b_X6_adds_23 (some a0) a1 h3)
theorem A_X6_adds {M : hp_M} {G : va_G} {h0 : HP} (X : hp_X M G h0 "RenamedWords$Marks" "adds" cX6_adds 2 none [] 0 0) (a0 : Nat) (a1 : Option Nat) (h : HP) : vv M G h0 2 (hp_End M G h0) jV h 0 [(0, LR (some a0)), (1, LR a1)] [] (f_X6_adds a0 a1 h) := by
  unfold f_X6_adds
  refine vv_aload_n (pc := 0) X (kf := 0) (i := 0) rfl 0 rfl dX6_adds_0 ?_
  refine vv_getR (pc := 1) X (fun _ z => by cases List.mem_singleton.mp z; exact fl_X6_7_4) dX6_adds_1 (fun v1 => ?_)
  refine vv_ifnonnull (pc := 4) (tgt := 15) X dX6_adds_4 rfl ?_ ?_
  · refine vv_aload_n (pc := 15) X (kf := 0) (i := 0) rfl 0 rfl dX6_adds_15 ?_
    refine vv_getR (pc := 16) X (fun _ z => by cases List.mem_singleton.mp z; exact fl_X6_13_4) dX6_adds_16 (fun v2 => ?_)
    refine vv_aload_n (pc := 19) X (kf := 1) (i := 1) rfl 1 rfl dX6_adds_19 ?_
    refine vv_putR (pc := 20) (ty9 := (.object "RenamedWords$Mark")) (fin := false) X (fun _ z => by cases List.mem_singleton.mp z; exact fl_X6_16_22) (fun z => nomatch z) (fun z => nomatch z) (by decide +kernel) rfl dX6_adds_20 (fun h3 => ?_)
    exact B_X6_adds_23 X _ _ _
  · refine vv_aload_n (pc := 7) X (kf := 0) (i := 0) rfl 0 rfl dX6_adds_7 ?_
    refine vv_aload_n (pc := 8) X (kf := 1) (i := 1) rfl 1 rfl dX6_adds_8 ?_
    refine vv_putR (pc := 9) (ty9 := (.object "RenamedWords$Mark")) (fin := false) X (fun _ z => by cases List.mem_singleton.mp z; exact fl_X6_7_4) (fun z => nomatch z) (fun z => nomatch z) (by decide +kernel) rfl dX6_adds_9 (fun h7 => ?_)
    refine vv_goto (pc := 12) (tgt := 23) X dX6_adds_12 rfl ?_
    exact B_X6_adds_23 X _ _ _
theorem m_X6_adds {l : Launch} (hl : l.stackTraces = false) {G : va_G} (a0 : Nat) (a1 : Option Nat) (h : HP) : ∀ r hf, f_X6_adds a0 a1 h = some (r, hf) → Ct l yX6_adds (ws_ yX6_adds cX6_adds 2 none) 0 0 G h [.ref a0, va_rf a1] (jV r) hf :=
  zz_ofW hl (by decide +kernel) (lv := [(0, LR (some a0)), (1, LR a1)]) (by simp [lv_args, lvL, lvV, zz_rfc, zz_rfs, zz_ci, zz_cr, zz_cj, zz_cf, zz_cd]) (by simp [lg_sl, zz_rfc, zz_ci, zz_cr, zz_cj, zz_cf, zz_cd]) (fun _ X => A_X6_adds X a0 a1 h)
-- X2_be RenamedWords$Desk.be(LRenamedWords$Desk;)LRenamedWords$Desk;
noncomputable def c_X2_be_67 (r67 : Option Nat → Option Nat → Option Nat → HP → Option ((Option Nat) × HP)) (x0 : Option Nat) (x1 : Option Nat) (x2 : Option Nat) (h : HP) : Option ((Option Nat) × HP) :=
  (rcv h x2 [21]).bind fun b22 =>
  hb (f_X26_hasNext b22 h) fun v20 h21 =>
  iEQ v20 0
    ((rdI h21 x1 [1] 7).bind fun v24 =>
    (wrI h21 x0 [1] 7 v24).bind fun h25 =>
    some (x0, h25))
    ((rcv h21 x2 [21]).bind fun b28 =>
    hb (f_X26_next b28 h21) fun v26 h27 =>
    (chk h27 v26 [22]).bind fun _ =>
    (rdR h27 x0 [1] 3).bind fun v30 =>
    hb (nwO h27 (tgR h27 x0) 22 [.inl 0, .inl 0, .inr (.inl none)] 3) fun v31 h32 =>
    (rdI h32 v26 [22] 0).bind fun v33 =>
    (rdI h32 v26 [22] 1).bind fun v34 =>
    (v31).bind fun b37 =>
    hb (f_X27_init b37 v33 v34 h32) fun _ h36 =>
    (rcv h36 v30 [4]).bind fun b41 =>
    hb (f_X6_adds b41 v31 h36) fun _ h40 =>
    r67 x0 x1 x2 h40)
noncomputable def b_X2_be_67 : Option Nat → Option Nat → Option Nat → HP → Option ((Option Nat) × HP) := fx (fun _ _ _ _ => none) (c_X2_be_67) FU
theorem C_X2_be_67 {M : hp_M} {G : va_G} {h0 : HP} (X : hp_X M G h0 "RenamedWords$Desk" "be" cX2_be 4 (some (.object "RenamedWords$Desk")) [] 3 129) (r67 : Option Nat → Option Nat → Option Nat → HP → Option ((Option Nat) × HP)) (hr67 : ∀ (y0 : Option Nat) (y1 : Option Nat) (y2 : Option Nat) (h : HP), vv M G h0 4 (hp_End M G h0) jR h 67 [(0, LR y0), (1, LR y1), (2, LR y2)] [] (r67 y0 y1 y2 h)) (x0 : Option Nat) (x1 : Option Nat) (x2 : Option Nat) (h : HP) : vv M G h0 4 (hp_End M G h0) jR h 67 [(0, LR x0), (1, LR x1), (2, LR x2)] [] (c_X2_be_67 r67 x0 x1 x2 h) := by
  unfold c_X2_be_67
  refine vv_aload_n (pc := 67) X (kf := 2) (i := 2) rfl 2 rfl dX2_be_67 ?_
  refine vv_rcv (fun b22 t9 c9 fs9 e23 g9 k9 => ?_)
  cases List.mem_singleton.mp k9
  refine vv_callI (pc := 68) (rest := []) (by rw [e23]; rfl) (fun r8 k8 e8 => zz_callF X (m_X26_hasNext (hlM X) _ _ _ _ e8) g9 rfl q2171 (List.mem_of_getElem? (i := 5) rfl) q2177 q2175 q191 q2179 nh_xjava_util_Iterator rfl (by decide) (by decide) (Nat.le_of_ble_eq_true rfl) dX2_be_68) (fun v20 h21 => ?_)
  refine vv_if_eq (pc := 73) (tgt := 111) X dX2_be_73 rfl ?_ ?_
  · refine vv_aload_n (pc := 111) X (kf := 0) (i := 0) rfl 0 rfl dX2_be_111 ?_
    refine vv_aload_n (pc := 112) X (kf := 1) (i := 1) rfl 1 rfl dX2_be_112 ?_
    refine vv_getI (pc := 113) X (fun _ z => by cases List.mem_singleton.mp z; exact fl_X2_108_1) dX2_be_113 (fun v24 => ?_)
    refine vv_putI (pc := 116) (fin := false) X (fun _ z => by cases List.mem_singleton.mp z; exact fl_X2_108_1) (fun z => nomatch z) (fun z => nomatch z) dX2_be_116 (fun h25 => ?_)
    refine vv_aload_n (pc := 119) X (kf := 0) (i := 0) rfl 0 rfl dX2_be_119 ?_
    exact vv_aretO X rfl rfl dX2_be_120
  · refine vv_aload_n (pc := 76) X (kf := 2) (i := 2) rfl 2 rfl dX2_be_76 ?_
    refine vv_rcv (fun b28 t9 c9 fs9 e29 g9 k9 => ?_)
    cases List.mem_singleton.mp k9
    refine vv_callR (pc := 77) (rest := []) (by rw [e29]; rfl) (fun r8 k8 e8 => zz_callF X (m_X26_next (hlM X) _ _ _ _ e8) g9 rfl q2204 (List.mem_of_getElem? (i := 6) rfl) q2209 q2207 q191 q2211 nh_xjava_util_Iterator rfl (by decide) (by decide) (Nat.le_of_ble_eq_true rfl) dX2_be_77) (fun v26 h27 => ?_)
    refine vv_checkcast (pc := 82) X ⟨q2378, (fun _ z => by cases List.mem_singleton.mp z; exact ⟨_, rfl, Or.inl rfl⟩)⟩ dX2_be_82 ?_
    refine vv_astore_n (pc := 85) (lv' := [(3, LR v26), (0, LR x0), (1, LR x1), (2, LR x2)]) X (kf := 3) (i := 3) rfl (by decide) rfl dX2_be_85 ?_
    refine vv_aload_n (pc := 86) X (kf := 0) (i := 0) rfl 1 rfl dX2_be_86 ?_
    refine vv_getR (pc := 87) X (fun _ z => by cases List.mem_singleton.mp z; exact fl_X2_27_1) dX2_be_87 (fun v30 => ?_)
    refine vv_new (pc := 90) X tyX27 rfl in_X27 tyX27_ok q2378 q2379 q195 ndX27 (by decide) dX2_be_90 (fun v31 h32 => ?_)
    refine vv_dup (pc := 93) X rfl dX2_be_93 ?_
    refine vv_aload_n (pc := 94) X (kf := 3) (i := 3) rfl 0 rfl dX2_be_94 ?_
    refine vv_getI (pc := 95) X (fun _ z => by cases List.mem_singleton.mp z; exact fl_X2_94_22) dX2_be_95 (fun v33 => ?_)
    refine vv_aload_n (pc := 98) X (kf := 3) (i := 3) rfl 0 rfl dX2_be_98 ?_
    refine vv_getI (pc := 99) X (fun _ z => by cases List.mem_singleton.mp z; exact fl_X2_98_22) dX2_be_99 (fun v34 => ?_)
    refine vv_bnd (fun b37 e38 => ?_)
    refine vv_callV (pc := 102) (rest := [LR v31, LR v30]) (by rw [e38]; rfl) (fun r8 k8 e8 => zz_callI X (m_X27_init (hlM X) _ _ _ _ _ _ e8) q2380 q2381 q195 q2382 rfl nh_X27 rfl (by decide) (by decide) (Nat.le_of_ble_eq_true rfl) dX2_be_102) (fun v35 h36 => ?_)
    refine vv_rcv (fun b41 t9 c9 fs9 e42 g9 k9 => ?_)
    cases List.mem_singleton.mp k9
    refine vv_callV (pc := 105) (rest := []) (by rw [e42]; rfl) (fun r8 k8 e8 => zz_callV X (m_X6_adds (hlM X) _ _ _ _ _ e8) g9 rfl rfl q2401 q2402 q2403 q158 q2404 nh_X6 rfl (by decide) (by decide) (Nat.le_of_ble_eq_true rfl) dX2_be_105) (fun v39 h40 => ?_)
    refine vv_goto (pc := 108) (tgt := 67) X dX2_be_108 rfl ?_
    exact vv_sub [1, 2, 3] (by rfl) (hr67 _ _ _ _)
theorem B_X2_be_67 {M : hp_M} {G : va_G} {h0 : HP} (X : hp_X M G h0 "RenamedWords$Desk" "be" cX2_be 4 (some (.object "RenamedWords$Desk")) [] 3 129) : ∀ (x0 : Option Nat) (x1 : Option Nat) (x2 : Option Nat) (h : HP), vv M G h0 4 (hp_End M G h0) jR h 67 [(0, LR x0), (1, LR x1), (2, LR x2)] [] (b_X2_be_67 x0 x1 x2 h) := by
  unfold b_X2_be_67
  generalize FU = n
  induction n with
  | zero => intro x0 x1 x2 h; exact vv_none
  | succ n ih => exact C_X2_be_67 X _ ih
noncomputable def c_X2_be_28 (r28 : Option Nat → Option Nat → Int → HP → Option ((Option Nat) × HP)) (x0 : Option Nat) (x1 : Option Nat) (x2 : Int) (h : HP) : Option ((Option Nat) × HP) :=
  iLE 8 x2
    ((rdR h x0 [1] 3).bind fun v10 =>
    (rcv h v10 [4]).bind fun b13 =>
    hb (f_X6_clear b13 h) fun _ h12 =>
    (rdR h12 x1 [1] 3).bind fun v15 =>
    (rcv h12 v15 [4]).bind fun b18 =>
    hb (f_X6_iterator b18 h12) fun v16 h17 =>
    b_X2_be_67 x0 x1 v16 h17)
    ((rdR h x0 [1] 2).bind fun v43 =>
    (rdR h x1 [1] 2).bind fun v44 =>
    (aldR h "RenamedWords$Word" v44 x2).bind fun v45 =>
    (astR h "RenamedWords$Word" [11] v43 x2 v45).bind fun h46 =>
    r28 x0 x1 (x2 + 1) h46)
noncomputable def b_X2_be_28 : Option Nat → Option Nat → Int → HP → Option ((Option Nat) × HP) := fx (fun _ _ _ _ => none) (c_X2_be_28) FU
theorem C_X2_be_28 {M : hp_M} {G : va_G} {h0 : HP} (X : hp_X M G h0 "RenamedWords$Desk" "be" cX2_be 4 (some (.object "RenamedWords$Desk")) [] 3 129) (r28 : Option Nat → Option Nat → Int → HP → Option ((Option Nat) × HP)) (hr28 : ∀ (y0 : Option Nat) (y1 : Option Nat) (y2 : Int) (h : HP), vv M G h0 4 (hp_End M G h0) jR h 28 [(0, LR y0), (1, LR y1), (2, LI y2)] [] (r28 y0 y1 y2 h)) (x0 : Option Nat) (x1 : Option Nat) (x2 : Int) (h : HP) : vv M G h0 4 (hp_End M G h0) jR h 28 [(0, LR x0), (1, LR x1), (2, LI x2)] [] (c_X2_be_28 r28 x0 x1 x2 h) := by
  unfold c_X2_be_28
  refine vv_iload_n (pc := 28) X (kf := 2) (i := 2) rfl 2 rfl dX2_be_28 ?_
  refine vv_bipush (pc := 29) X (by decide) dX2_be_29 ?_
  refine vv_icmp_ge (pc := 31) (tgt := 52) X dX2_be_31 rfl ?_ ?_
  · refine vv_aload_n (pc := 52) X (kf := 0) (i := 0) rfl 0 rfl dX2_be_52 ?_
    refine vv_getR (pc := 53) X (fun _ z => by cases List.mem_singleton.mp z; exact fl_X2_27_1) dX2_be_53 (fun v10 => ?_)
    refine vv_rcv (fun b13 t9 c9 fs9 e14 g9 k9 => ?_)
    cases List.mem_singleton.mp k9
    refine vv_callV (pc := 56) (rest := []) (by rw [e14]; rfl) (fun r8 k8 e8 => zz_callV X (m_X6_clear (hlM X) _ _ _ _ e8) g9 rfl rfl q2143 q2144 q2145 q158 q2146 nh_X6 rfl (by decide) (by decide) (Nat.le_of_ble_eq_true rfl) dX2_be_56) (fun v11 h12 => ?_)
    refine vv_aload_n (pc := 59) X (kf := 1) (i := 1) rfl 1 rfl dX2_be_59 ?_
    refine vv_getR (pc := 60) X (fun _ z => by cases List.mem_singleton.mp z; exact fl_X2_27_1) dX2_be_60 (fun v15 => ?_)
    refine vv_rcv (fun b18 t9 c9 fs9 e19 g9 k9 => ?_)
    cases List.mem_singleton.mp k9
    refine vv_callR (pc := 63) (rest := []) (by rw [e19]; rfl) (fun r8 k8 e8 => zz_callV X (m_X6_iterator (hlM X) _ _ _ _ e8) g9 rfl rfl q2147 q2148 q2149 q158 q2150 nh_X6 rfl (by decide) (by decide) (Nat.le_of_ble_eq_true rfl) dX2_be_63) (fun v16 h17 => ?_)
    refine vv_astore_n (pc := 66) (lv' := [(2, LR v16), (0, LR x0), (1, LR x1)]) X (kf := 2) (i := 2) rfl (by decide) rfl dX2_be_66 ?_
    exact vv_sub [1, 2, 0] (by rfl) (B_X2_be_67 X _ _ _ _)
  · refine vv_aload_n (pc := 34) X (kf := 0) (i := 0) rfl 0 rfl dX2_be_34 ?_
    refine vv_getR (pc := 35) X (fun _ z => by cases List.mem_singleton.mp z; exact fl_X2_20_1) dX2_be_35 (fun v43 => ?_)
    refine vv_iload_n (pc := 38) X (kf := 2) (i := 2) rfl 2 rfl dX2_be_38 ?_
    refine vv_aload_n (pc := 39) X (kf := 1) (i := 1) rfl 1 rfl dX2_be_39 ?_
    refine vv_getR (pc := 40) X (fun _ z => by cases List.mem_singleton.mp z; exact fl_X2_20_1) dX2_be_40 (fun v44 => ?_)
    refine vv_iload_n (pc := 43) X (kf := 2) (i := 2) rfl 2 rfl dX2_be_43 ?_
    refine vv_aaload (pc := 44) X dX2_be_44 (fun v45 => ?_)
    refine vv_aastore (pc := 45) X (fun _ z => by cases List.mem_singleton.mp z; exact ca_RenamedWords_Word_11) dX2_be_45 (fun h46 => ?_)
    refine vv_iinc (pc := 46) (lv' := [(2, LI (x2 + 1)), (0, LR x0), (1, LR x1)]) X 2 rfl (by decide) rfl dX2_be_46 ?_
    refine vv_goto (pc := 49) (tgt := 28) X dX2_be_49 rfl ?_
    exact vv_sub [1, 2, 0] (by rfl) (hr28 _ _ _ _)
theorem B_X2_be_28 {M : hp_M} {G : va_G} {h0 : HP} (X : hp_X M G h0 "RenamedWords$Desk" "be" cX2_be 4 (some (.object "RenamedWords$Desk")) [] 3 129) : ∀ (x0 : Option Nat) (x1 : Option Nat) (x2 : Int) (h : HP), vv M G h0 4 (hp_End M G h0) jR h 28 [(0, LR x0), (1, LR x1), (2, LI x2)] [] (b_X2_be_28 x0 x1 x2 h) := by
  unfold b_X2_be_28
  generalize FU = n
  induction n with
  | zero => intro x0 x1 x2 h; exact vv_none
  | succ n ih => exact C_X2_be_28 X _ ih
noncomputable def f_X2_be (a0 : Nat) (a1 : Option Nat) (h : HP) : Option ((Option Nat) × HP) :=
  (rdR h (some a0) [1] 0).bind fun v1 =>
  (rdR h a1 [1] 0).bind fun v2 =>
  (rcv h v1 [3]).bind fun b5 =>
  hb (f_X5_be b5 v2 h) fun _ h4 =>
  (rdR h4 a1 [1] 4).bind fun v7 =>
  (rdR h4 (some a0) [1] 4).bind fun v8 =>
  (acpI h4 .int v7 0 v8 0 8).bind fun h9 =>
  b_X2_be_28 (some a0) a1 0 h9
theorem A_X2_be {M : hp_M} {G : va_G} {h0 : HP} (X : hp_X M G h0 "RenamedWords$Desk" "be" cX2_be 4 (some (.object "RenamedWords$Desk")) [] 3 129) (a0 : Nat) (a1 : Option Nat) (h : HP) : vv M G h0 4 (hp_End M G h0) jR h 0 [(0, LR (some a0)), (1, LR a1)] [] (f_X2_be a0 a1 h) := by
  unfold f_X2_be
  refine vv_aload_n (pc := 0) X (kf := 0) (i := 0) rfl 0 rfl dX2_be_0 ?_
  refine vv_getR (pc := 1) X (fun _ z => by cases List.mem_singleton.mp z; exact fl_X2_12_1) dX2_be_1 (fun v1 => ?_)
  refine vv_aload_n (pc := 4) X (kf := 1) (i := 1) rfl 1 rfl dX2_be_4 ?_
  refine vv_getR (pc := 5) X (fun _ z => by cases List.mem_singleton.mp z; exact fl_X2_12_1) dX2_be_5 (fun v2 => ?_)
  refine vv_rcv (fun b5 t9 c9 fs9 e6 g9 k9 => ?_)
  cases List.mem_singleton.mp k9
  refine vv_callV (pc := 8) (rest := []) (by rw [e6]; rfl) (fun r8 k8 e8 => zz_callV X (m_X5_be (hlM X) _ _ _ _ _ e8) g9 rfl rfl q2137 q2138 q2139 q157 q2140 nh_X5 rfl (by decide) (by decide) (Nat.le_of_ble_eq_true rfl) dX2_be_8) (fun v3 h4 => ?_)
  refine vv_aload_n (pc := 11) X (kf := 1) (i := 1) rfl 1 rfl dX2_be_11 ?_
  refine vv_getR (pc := 12) X (fun _ z => by cases List.mem_singleton.mp z; exact fl_X2_31_1) dX2_be_12 (fun v7 => ?_)
  refine vv_iconst (pc := 15) X dX2_be_15 ?_
  refine vv_aload_n (pc := 16) X (kf := 0) (i := 0) rfl 0 rfl dX2_be_16 ?_
  refine vv_getR (pc := 17) X (fun _ z => by cases List.mem_singleton.mp z; exact fl_X2_31_1) dX2_be_17 (fun v8 => ?_)
  refine vv_iconst (pc := 20) X dX2_be_20 ?_
  refine vv_bipush (pc := 21) X (by decide) dX2_be_21 ?_
  refine vv_arraycopy (pc := 23) X q2142 q396 q395 q151 (by decide) (by decide) (Nat.le_of_ble_eq_true rfl) dX2_be_23 (fun h9 => ?_)
  refine vv_iconst (pc := 26) X dX2_be_26 ?_
  refine vv_istore_n (pc := 27) (lv' := [(2, LI 0), (0, LR (some a0)), (1, LR a1)]) X (kf := 2) (i := 2) rfl (by decide) rfl dX2_be_27 ?_
  exact vv_sub [1, 2, 0] (by rfl) (B_X2_be_28 X _ _ _ _)
theorem m_X2_be {l : Launch} (hl : l.stackTraces = false) {G : va_G} (a0 : Nat) (a1 : Option Nat) (h : HP) : ∀ r hf, f_X2_be a0 a1 h = some (r, hf) → Ct l yX2_be (ws_ yX2_be cX2_be 4 (some (.object "RenamedWords$Desk"))) 3 129 G h [.ref a0, va_rf a1] (jR r) hf :=
  zz_ofW hl (by decide +kernel) (lv := [(0, LR (some a0)), (1, LR a1)]) (by simp [lv_args, lvL, lvV, zz_rfc, zz_rfs, zz_ci, zz_cr, zz_cj, zz_cf, zz_cd]) (by simp [lg_sl, zz_rfc, zz_ci, zz_cr, zz_cj, zz_cf, zz_cd]) (fun _ X => A_X2_be X a0 a1 h)
-- X2_copy RenamedWords$Desk.copy()LRenamedWords$Desk;
noncomputable def f_X2_copy (a0 : Nat) (h : HP) : Option ((Option Nat) × HP) :=
  hb (nwO h (hp_n h + 2) 1 [.inr (.inl none), .inr (.inl none), .inr (.inl none), .inr (.inl none), .inr (.inl none), .inr (.inl none), .inr (.inl none), .inl 0, .inr (.inl none), .inr (.inl none)] 10) fun v1 h2 =>
  (rdR h2 (some a0) [1] 1).bind fun v3 =>
  (v1).bind fun b6 =>
  hb (f_X2_init b6 v3 h2) fun _ h5 =>
  (rcv h5 v1 [1]).bind fun b10 =>
  hb (f_X2_be b10 (some a0) h5) fun v8 h9 =>
  some (v8, h9)
theorem A_X2_copy {M : hp_M} {G : va_G} {h0 : HP} (X : hp_X M G h0 "RenamedWords$Desk" "copy" cX2_copy 1 (some (.object "RenamedWords$Desk")) [] 4 160) (a0 : Nat) (h : HP) : vv M G h0 1 (hp_End M G h0) jR h 0 [(0, LR (some a0))] [] (f_X2_copy a0 h) := by
  unfold f_X2_copy
  refine vv_new (pc := 0) X tyX2 rfl in_X2 tyX2_ok q2131 q218 q133 ndX2 (by decide) dX2_copy_0 (fun v1 h2 => ?_)
  refine vv_dup (pc := 3) X rfl dX2_copy_3 ?_
  refine vv_aload_n (pc := 4) X (kf := 0) (i := 0) rfl 0 rfl dX2_copy_4 ?_
  refine vv_getR (pc := 5) X (fun _ z => by cases List.mem_singleton.mp z; exact fl_X2_55_1) dX2_copy_5 (fun v3 => ?_)
  refine vv_bnd (fun b6 e7 => ?_)
  refine vv_callV (pc := 8) (rest := [LR v1]) (by rw [e7]; rfl) (fun r8 k8 e8 => zz_callI X (m_X2_init (hlM X) _ _ _ _ _ e8) q2132 q620 q133 q621 rfl nh_X2 rfl (by decide) (by decide) (Nat.le_of_ble_eq_true rfl) dX2_copy_8) (fun v4 h5 => ?_)
  refine vv_aload_n (pc := 11) X (kf := 0) (i := 0) rfl 0 rfl dX2_copy_11 ?_
  refine vv_rcv (fun b10 t9 c9 fs9 e11 g9 k9 => ?_)
  cases List.mem_singleton.mp k9
  refine vv_callR (pc := 12) (rest := []) (by rw [e11]; rfl) (fun r8 k8 e8 => zz_callV X (m_X2_be (hlM X) _ _ _ _ _ e8) g9 rfl rfl q2133 q2134 q2135 q133 q2136 nh_X2 rfl (by decide) (by decide) (Nat.le_of_ble_eq_true rfl) dX2_copy_12) (fun v8 h9 => ?_)
  exact vv_aretO X rfl rfl dX2_copy_15
theorem m_X2_copy {l : Launch} (hl : l.stackTraces = false) {G : va_G} (a0 : Nat) (h : HP) : ∀ r hf, f_X2_copy a0 h = some (r, hf) → Ct l yX2_copy (ws_ yX2_copy cX2_copy 1 (some (.object "RenamedWords$Desk"))) 4 160 G h [.ref a0] (jR r) hf :=
  zz_ofW hl (by decide +kernel) (lv := [(0, LR (some a0))]) (by simp [lv_args, lvL, lvV, zz_rfc, zz_rfs, zz_ci, zz_cr, zz_cj, zz_cf, zz_cd]) (by simp [lg_sl, zz_rfc, zz_ci, zz_cr, zz_cj, zz_cf, zz_cd]) (fun _ X => A_X2_copy X a0 h)
-- J22_elementAt java/util/ArrayDeque.elementAt([Ljava/lang/Object;I)Ljava/lang/Object;
noncomputable def f_J22_elementAt (a1 : Option Nat) (a2 : Int) (h : HP) : Option ((Option Nat) × HP) :=
  (aldR h "java/lang/Object" a1 a2).bind fun v1 =>
  some (v1, h)
theorem A_J22_elementAt {M : hp_M} {G : va_G} {h0 : HP} (X : hp_X M G h0 "java/util/ArrayDeque" "elementAt" cJ22_elementAt 2 (some (.object "java/lang/Object")) [] 0 0) (a1 : Option Nat) (a2 : Int) (h : HP) : vv M G h0 2 (hp_End M G h0) jR h 0 [(0, LR a1), (1, LI a2)] [] (f_J22_elementAt a1 a2 h) := by
  unfold f_J22_elementAt
  refine vv_aload_n (pc := 0) X (kf := 0) (i := 0) rfl 0 rfl dJ22_elementAt_0 ?_
  refine vv_iload_n (pc := 1) X (kf := 1) (i := 1) rfl 1 rfl dJ22_elementAt_1 ?_
  refine vv_aaload (pc := 2) X dJ22_elementAt_2 (fun v1 => ?_)
  exact vv_aretO X rfl rfl dJ22_elementAt_3
theorem m_J22_elementAt {l : Launch} (hl : l.stackTraces = false) {G : va_G} (a1 : Option Nat) (a2 : Int) (h : HP) : ∀ r hf, f_J22_elementAt a1 a2 h = some (r, hf) → Ct l yJ22_elementAt (ws_ yJ22_elementAt cJ22_elementAt 2 (some (.object "java/lang/Object"))) 0 0 G h [va_rf a1, .int (iI a2)] (jR r) hf :=
  zz_ofW hl (by decide +kernel) (lv := [(0, LR a1), (1, LI a2)]) (by simp [lv_args, lvL, lvV, zz_rfc, zz_rfs, zz_ci, zz_cr, zz_cj, zz_cf, zz_cd]) (by simp [lg_sl, zz_rfc, zz_ci, zz_cr, zz_cj, zz_cf, zz_cd]) (fun _ X => A_J22_elementAt X a1 a2 h)
-- J22_inc java/util/ArrayDeque.inc(II)I
noncomputable def b_J22_inc_10 (x0 : Int) (h : HP) : Option ((Int) × HP) :=
  some (x0, h)
theorem B_J22_inc_10 {M : hp_M} {G : va_G} {h0 : HP} (X : hp_X M G h0 "java/util/ArrayDeque" "inc" cJ22_inc 2 (some .int) [] 0 0) (x0 : Int) (h : HP) : vv M G h0 2 (hp_End M G h0) jI h 10 [(0, LI x0)] [] (b_J22_inc_10 x0 h) := by
  unfold b_J22_inc_10
  refine vv_iload_n (pc := 10) X (kf := 0) (i := 0) rfl 0 rfl dJ22_inc_10 ?_
  exact vv_iretI X rfl rfl dJ22_inc_11
noncomputable def f_J22_inc (a1 : Int) (a2 : Int) (h : HP) : Option ((Int) × HP) :=
  iLT (a1 + 1) a2
    (b_J22_inc_10 (a1 + 1) h)
    (b_J22_inc_10 0 h)
theorem A_J22_inc {M : hp_M} {G : va_G} {h0 : HP} (X : hp_X M G h0 "java/util/ArrayDeque" "inc" cJ22_inc 2 (some .int) [] 0 0) (a1 : Int) (a2 : Int) (h : HP) : vv M G h0 2 (hp_End M G h0) jI h 0 [(0, LI a1), (1, LI a2)] [] (f_J22_inc a1 a2 h) := by
  unfold f_J22_inc
  refine vv_iinc (pc := 0) (lv' := [(0, LI (a1 + 1)), (1, LI a2)]) X 0 rfl (by decide) rfl dJ22_inc_0 ?_
  refine vv_iload_n (pc := 3) X (kf := 0) (i := 0) rfl 0 rfl dJ22_inc_3 ?_
  refine vv_iload_n (pc := 4) X (kf := 1) (i := 1) rfl 1 rfl dJ22_inc_4 ?_
  refine vv_icmp_lt (pc := 5) (tgt := 10) X dJ22_inc_5 rfl ?_ ?_
  · exact vv_sub [0] (by rfl) (B_J22_inc_10 X _ _)
  · refine vv_iconst (pc := 8) X dJ22_inc_8 ?_
    refine vv_istore_n (pc := 9) (lv' := [(0, LI 0), (1, LI a2)]) X (kf := 0) (i := 0) rfl (by decide) rfl dJ22_inc_9 ?_
    exact vv_sub [0] (by rfl) (B_J22_inc_10 X _ _)
theorem m_J22_inc {l : Launch} (hl : l.stackTraces = false) {G : va_G} (a1 : Int) (a2 : Int) (h : HP) : ∀ r hf, f_J22_inc a1 a2 h = some (r, hf) → Ct l yJ22_inc (ws_ yJ22_inc cJ22_inc 2 (some .int)) 0 0 G h [.int (iI a1), .int (iI a2)] (jI r) hf :=
  zz_ofW hl (by decide +kernel) (lv := [(0, LI a1), (1, LI a2)]) (by simp [lv_args, lvL, lvV, zz_rfc, zz_rfs, zz_ci, zz_cr, zz_cj, zz_cf, zz_cd]) (by simp [lg_sl, zz_rfc, zz_ci, zz_cr, zz_cj, zz_cf, zz_cd]) (fun _ X => A_J22_inc X a1 a2 h)
-- J22_pollFirst java/util/ArrayDeque.pollFirst()Ljava/lang/Object;
noncomputable def b_J22_pollFirst_34 (x3 : Option Nat) (h : HP) : Option ((Option Nat) × HP) :=
  some (x3, h)
theorem B_J22_pollFirst_34 {M : hp_M} {G : va_G} {h0 : HP} (X : hp_X M G h0 "java/util/ArrayDeque" "pollFirst" cJ22_pollFirst 4 (some (.object "java/lang/Object")) [] 1 29) (x3 : Option Nat) (h : HP) : vv M G h0 4 (hp_End M G h0) jR h 34 [(3, LR x3)] [] (b_J22_pollFirst_34 x3 h) := by
  unfold b_J22_pollFirst_34
  refine vv_aload_n (pc := 34) X (kf := 3) (i := 3) rfl 0 rfl dJ22_pollFirst_34 ?_
  exact vv_aretO X rfl rfl dJ22_pollFirst_35
noncomputable def f_J22_pollFirst (a0 : Nat) (h : HP) : Option ((Option Nat) × HP) :=
  (rdR h (some a0) [29] 0).bind fun v1 =>
  (rdI h (some a0) [29] 1).bind fun v2 =>
  hb (f_J22_elementAt v1 v2 h) fun v3 h4 =>
  rNU v3
    (b_J22_pollFirst_34 v3 h4)
    ((astR h4 "java/lang/Object" [1, 26] v1 v2 none).bind fun h5 =>
    (alen h5 v1).bind fun v6 =>
    hb (f_J22_inc v2 v6 h5) fun v7 h8 =>
    (wrI h8 (some a0) [29] 1 v7).bind fun h9 =>
    b_J22_pollFirst_34 v3 h9)
theorem A_J22_pollFirst {M : hp_M} {G : va_G} {h0 : HP} (X : hp_X M G h0 "java/util/ArrayDeque" "pollFirst" cJ22_pollFirst 4 (some (.object "java/lang/Object")) [] 1 29) (a0 : Nat) (h : HP) : vv M G h0 4 (hp_End M G h0) jR h 0 [(0, LR (some a0))] [] (f_J22_pollFirst a0 h) := by
  unfold f_J22_pollFirst
  refine vv_aload_n (pc := 0) X (kf := 0) (i := 0) rfl 0 rfl dJ22_pollFirst_0 ?_
  refine vv_getR (pc := 1) X (fun _ z => by cases List.mem_singleton.mp z; exact fl_J22_3_29) dJ22_pollFirst_1 (fun v1 => ?_)
  refine vv_dup (pc := 4) X rfl dJ22_pollFirst_4 ?_
  refine vv_astore_n (pc := 5) (lv' := [(1, LR v1), (0, LR (some a0))]) X (kf := 1) (i := 1) rfl (by decide) rfl dJ22_pollFirst_5 ?_
  refine vv_aload_n (pc := 6) X (kf := 0) (i := 0) rfl 1 rfl dJ22_pollFirst_6 ?_
  refine vv_getI (pc := 7) X (fun _ z => by cases List.mem_singleton.mp z; exact fl_J22_24_29) dJ22_pollFirst_7 (fun v2 => ?_)
  refine vv_dup (pc := 10) X rfl dJ22_pollFirst_10 ?_
  refine vv_istore_n (pc := 11) (lv' := [(2, LI v2), (1, LR v1), (0, LR (some a0))]) X (kf := 2) (i := 2) rfl (by decide) rfl dJ22_pollFirst_11 ?_
  refine vv_callR (pc := 12) (rest := []) (by rfl) (fun r8 k8 e8 => zz_callS X (m_J22_elementAt (hlM X) _ _ _ _ _ e8) q2417 q2418 q163 q2419 nh_J22 rfl (by decide) (by decide) (Nat.le_of_ble_eq_true rfl) dJ22_pollFirst_12) (fun v3 h4 => ?_)
  refine vv_astore_n (pc := 15) (lv' := [(3, LR v3), (2, LI v2), (1, LR v1), (0, LR (some a0))]) X (kf := 3) (i := 3) rfl (by decide) rfl dJ22_pollFirst_15 ?_
  refine vv_aload_n (pc := 16) X (kf := 3) (i := 3) rfl 0 rfl dJ22_pollFirst_16 ?_
  refine vv_ifnull (pc := 17) (tgt := 34) X dJ22_pollFirst_17 rfl ?_ ?_
  · exact vv_sub [0] (by rfl) (B_J22_pollFirst_34 X _ _)
  · refine vv_aload_n (pc := 20) X (kf := 1) (i := 1) rfl 2 rfl dJ22_pollFirst_20 ?_
    refine vv_iload_n (pc := 21) X (kf := 2) (i := 2) rfl 1 rfl dJ22_pollFirst_21 ?_
    refine vv_null (pc := 22) X dJ22_pollFirst_22 ?_
    refine vv_aastore (pc := 23) X (fun _ z => by rcases List.mem_cons.mp z with rfl | z; exact ca_java_lang_Object_1; cases List.mem_singleton.mp z; exact ca_java_lang_Object_26) dJ22_pollFirst_23 (fun h5 => ?_)
    refine vv_aload_n (pc := 24) X (kf := 0) (i := 0) rfl 3 rfl dJ22_pollFirst_24 ?_
    refine vv_iload_n (pc := 25) X (kf := 2) (i := 2) rfl 1 rfl dJ22_pollFirst_25 ?_
    refine vv_aload_n (pc := 26) X (kf := 1) (i := 1) rfl 2 rfl dJ22_pollFirst_26 ?_
    refine vv_alen (pc := 27) X dJ22_pollFirst_27 (fun v6 => ?_)
    refine vv_callI (pc := 28) (rest := [LR (some a0)]) (by rfl) (fun r8 k8 e8 => zz_callS X (m_J22_inc (hlM X) _ _ _ _ _ e8) q2420 q2421 q163 q2422 nh_J22 rfl (by decide) (by decide) (Nat.le_of_ble_eq_true rfl) dJ22_pollFirst_28) (fun v7 h8 => ?_)
    refine vv_putI (pc := 31) (fin := false) X (fun _ z => by cases List.mem_singleton.mp z; exact fl_J22_24_29) (fun z => nomatch z) (fun z => nomatch z) dJ22_pollFirst_31 (fun h9 => ?_)
    exact vv_sub [0] (by rfl) (B_J22_pollFirst_34 X _ _)
theorem m_J22_pollFirst {l : Launch} (hl : l.stackTraces = false) {G : va_G} (a0 : Nat) (h : HP) : ∀ r hf, f_J22_pollFirst a0 h = some (r, hf) → Ct l yJ22_pollFirst (ws_ yJ22_pollFirst cJ22_pollFirst 4 (some (.object "java/lang/Object"))) 1 29 G h [.ref a0] (jR r) hf :=
  zz_ofW hl (by decide +kernel) (lv := [(0, LR (some a0))]) (by simp [lv_args, lvL, lvV, zz_rfc, zz_rfs, zz_ci, zz_cr, zz_cj, zz_cf, zz_cd]) (by simp [lg_sl, zz_rfc, zz_ci, zz_cr, zz_cj, zz_cf, zz_cd]) (fun _ X => A_J22_pollFirst X a0 h)
-- J22_removeFirst java/util/ArrayDeque.removeFirst()Ljava/lang/Object;
noncomputable def f_J22_removeFirst (a0 : Nat) (h : HP) : Option ((Option Nat) × HP) :=
  (rcv h (some a0) [29]).bind fun b3 =>
  hb (f_J22_pollFirst b3 h) fun v1 h2 =>
  rNU v1
    (none)
    (some (v1, h2))
theorem A_J22_removeFirst {M : hp_M} {G : va_G} {h0 : HP} (X : hp_X M G h0 "java/util/ArrayDeque" "removeFirst" cJ22_removeFirst 2 (some (.object "java/lang/Object")) [] 2 60) (a0 : Nat) (h : HP) : vv M G h0 2 (hp_End M G h0) jR h 0 [(0, LR (some a0))] [] (f_J22_removeFirst a0 h) := by
  unfold f_J22_removeFirst
  refine vv_aload_n (pc := 0) X (kf := 0) (i := 0) rfl 0 rfl dJ22_removeFirst_0 ?_
  refine vv_rcv (fun b3 t9 c9 fs9 e4 g9 k9 => ?_)
  cases List.mem_singleton.mp k9
  refine vv_callR (pc := 1) (rest := []) (by rw [e4]; rfl) (fun r8 k8 e8 => zz_callV X (m_J22_pollFirst (hlM X) _ _ _ _ e8) g9 rfl rfl q2413 q2414 q2415 q163 q2416 nh_J22 rfl (by decide) (by decide) (Nat.le_of_ble_eq_true rfl) dJ22_removeFirst_1) (fun v1 h2 => ?_)
  refine vv_astore_n (pc := 4) (lv' := [(1, LR v1), (0, LR (some a0))]) X (kf := 1) (i := 1) rfl (by decide) rfl dJ22_removeFirst_4 ?_
  refine vv_aload_n (pc := 5) X (kf := 1) (i := 1) rfl 0 rfl dJ22_removeFirst_5 ?_
  refine vv_ifnonnull (pc := 6) (tgt := 17) X dJ22_removeFirst_6 rfl ?_ ?_
  · refine vv_aload_n (pc := 17) X (kf := 1) (i := 1) rfl 0 rfl dJ22_removeFirst_17 ?_
    exact vv_aretO X rfl rfl dJ22_removeFirst_18
  · exact vv_none
theorem m_J22_removeFirst {l : Launch} (hl : l.stackTraces = false) {G : va_G} (a0 : Nat) (h : HP) : ∀ r hf, f_J22_removeFirst a0 h = some (r, hf) → Ct l yJ22_removeFirst (ws_ yJ22_removeFirst cJ22_removeFirst 2 (some (.object "java/lang/Object"))) 2 60 G h [.ref a0] (jR r) hf :=
  zz_ofW hl (by decide +kernel) (lv := [(0, LR (some a0))]) (by simp [lv_args, lvL, lvV, zz_rfc, zz_rfs, zz_ci, zz_cr, zz_cj, zz_cf, zz_cd]) (by simp [lg_sl, zz_rfc, zz_ci, zz_cr, zz_cj, zz_cf, zz_cd]) (fun _ X => A_J22_removeFirst X a0 h)
-- J22_pop java/util/ArrayDeque.pop()Ljava/lang/Object;
noncomputable def f_J22_pop (a0 : Nat) (h : HP) : Option ((Option Nat) × HP) :=
  (rcv h (some a0) [29]).bind fun b3 =>
  hb (f_J22_removeFirst b3 h) fun v1 h2 =>
  some (v1, h2)
theorem A_J22_pop {M : hp_M} {G : va_G} {h0 : HP} (X : hp_X M G h0 "java/util/ArrayDeque" "pop" cJ22_pop 1 (some (.object "java/lang/Object")) [] 3 89) (a0 : Nat) (h : HP) : vv M G h0 1 (hp_End M G h0) jR h 0 [(0, LR (some a0))] [] (f_J22_pop a0 h) := by
  unfold f_J22_pop
  refine vv_aload_n (pc := 0) X (kf := 0) (i := 0) rfl 0 rfl dJ22_pop_0 ?_
  refine vv_rcv (fun b3 t9 c9 fs9 e4 g9 k9 => ?_)
  cases List.mem_singleton.mp k9
  refine vv_callR (pc := 1) (rest := []) (by rw [e4]; rfl) (fun r8 k8 e8 => zz_callV X (m_J22_removeFirst (hlM X) _ _ _ _ e8) g9 rfl rfl q2409 q2410 q2411 q163 q2412 nh_J22 rfl (by decide) (by decide) (Nat.le_of_ble_eq_true rfl) dJ22_pop_1) (fun v1 h2 => ?_)
  exact vv_aretO X rfl rfl dJ22_pop_4
theorem m_J22_pop {l : Launch} (hl : l.stackTraces = false) {G : va_G} (a0 : Nat) (h : HP) : ∀ r hf, f_J22_pop a0 h = some (r, hf) → Ct l yJ22_pop (ws_ yJ22_pop cJ22_pop 1 (some (.object "java/lang/Object"))) 3 89 G h [.ref a0] (jR r) hf :=
  zz_ofW hl (by decide +kernel) (lv := [(0, LR (some a0))]) (by simp [lv_args, lvL, lvV, zz_rfc, zz_rfs, zz_ci, zz_cr, zz_cj, zz_cf, zz_cd]) (by simp [lg_sl, zz_rfc, zz_ci, zz_cr, zz_cj, zz_cf, zz_cd]) (fun _ X => A_J22_pop X a0 h)
-- X1_copied RenamedWords.copied()LRenamedWords$Desk;
noncomputable def b_X1_copied_37 (s0 : Option Nat) (h : HP) : Option ((Option Nat) × HP) :=
  some (s0, h)
theorem B_X1_copied_37 {M : hp_M} {G : va_G} {h0 : HP} (X : hp_X M G h0 "RenamedWords" "copied" cX1_copied 1 (some (.object "RenamedWords$Desk")) [] 5 188) (s0 : Option Nat) (h : HP) : vv M G h0 1 (hp_End M G h0) jR h 37 [] [LR s0] (b_X1_copied_37 s0 h) := by
  unfold b_X1_copied_37
  exact vv_aretO X rfl rfl dX1_copied_37
noncomputable def f_X1_copied (a0 : Nat) (h : HP) : Option ((Option Nat) × HP) :=
  (rdR h (some a0) [0] 2).bind fun v1 =>
  (rcv h v1 [29]).bind fun b4 =>
  hb (f_J22_isEmpty b4 h) fun v2 h3 =>
  iEQ v2 0
    ((rdR h3 (some a0) [0] 2).bind fun v6 =>
    (rcv h3 v6 [29]).bind fun b9 =>
    hb (f_J22_pop b9 h3) fun v7 h8 =>
    (chk h8 v7 [1]).bind fun _ =>
    (rdR h8 (some a0) [0] 0).bind fun v11 =>
    (rcv h8 v7 [1]).bind fun b14 =>
    hb (f_X2_be b14 v11 h8) fun v12 h13 =>
    b_X1_copied_37 v12 h13)
    ((rdR h3 (some a0) [0] 0).bind fun v16 =>
    (rcv h3 v16 [1]).bind fun b19 =>
    hb (f_X2_copy b19 h3) fun v17 h18 =>
    b_X1_copied_37 v17 h18)
theorem A_X1_copied {M : hp_M} {G : va_G} {h0 : HP} (X : hp_X M G h0 "RenamedWords" "copied" cX1_copied 1 (some (.object "RenamedWords$Desk")) [] 5 188) (a0 : Nat) (h : HP) : vv M G h0 1 (hp_End M G h0) jR h 0 [(0, LR (some a0))] [] (f_X1_copied a0 h) := by
  unfold f_X1_copied
  refine vv_aload_n (pc := 0) X (kf := 0) (i := 0) rfl 0 rfl dX1_copied_0 ?_
  refine vv_getR (pc := 1) X (fun _ z => by cases List.mem_singleton.mp z; exact fl_X1_49_0) dX1_copied_1 (fun v1 => ?_)
  refine vv_rcv (fun b4 t9 c9 fs9 e5 g9 k9 => ?_)
  cases List.mem_singleton.mp k9
  refine vv_callI (pc := 4) (rest := []) (by rw [e5]; rfl) (fun r8 k8 e8 => zz_callV X (m_J22_isEmpty (hlM X) _ _ _ _ e8) g9 rfl rfl q2123 q2124 q2125 q163 q2126 nh_J22 rfl (by decide) (by decide) (Nat.le_of_ble_eq_true rfl) dX1_copied_4) (fun v2 h3 => ?_)
  refine vv_if_eq (pc := 7) (tgt := 20) X dX1_copied_7 rfl ?_ ?_
  · refine vv_aload_n (pc := 20) X (kf := 0) (i := 0) rfl 0 rfl dX1_copied_20 ?_
    refine vv_getR (pc := 21) X (fun _ z => by cases List.mem_singleton.mp z; exact fl_X1_49_0) dX1_copied_21 (fun v6 => ?_)
    refine vv_rcv (fun b9 t9 c9 fs9 e10 g9 k9 => ?_)
    cases List.mem_singleton.mp k9
    refine vv_callR (pc := 24) (rest := []) (by rw [e10]; rfl) (fun r8 k8 e8 => zz_callV X (m_J22_pop (hlM X) _ _ _ _ e8) g9 rfl rfl q2405 q2406 q2407 q163 q2408 nh_J22 rfl (by decide) (by decide) (Nat.le_of_ble_eq_true rfl) dX1_copied_24) (fun v7 h8 => ?_)
    refine vv_checkcast (pc := 27) X ⟨q217, (fun _ z => by cases List.mem_singleton.mp z; exact ⟨_, rfl, Or.inl rfl⟩)⟩ dX1_copied_27 ?_
    refine vv_aload_n (pc := 30) X (kf := 0) (i := 0) rfl 0 rfl dX1_copied_30 ?_
    refine vv_getR (pc := 31) X (fun _ z => by cases List.mem_singleton.mp z; exact fl_X1_35_0) dX1_copied_31 (fun v11 => ?_)
    refine vv_rcv (fun b14 t9 c9 fs9 e15 g9 k9 => ?_)
    cases List.mem_singleton.mp k9
    refine vv_callR (pc := 34) (rest := []) (by rw [e15]; rfl) (fun r8 k8 e8 => zz_callV X (m_X2_be (hlM X) _ _ _ _ _ e8) g9 rfl rfl q2425 q2134 q2135 q133 q2136 nh_X2 rfl (by decide) (by decide) (Nat.le_of_ble_eq_true rfl) dX1_copied_34) (fun v12 h13 => ?_)
    exact vv_sub [] (by rfl) (B_X1_copied_37 X _ _)
  · refine vv_aload_n (pc := 10) X (kf := 0) (i := 0) rfl 0 rfl dX1_copied_10 ?_
    refine vv_getR (pc := 11) X (fun _ z => by cases List.mem_singleton.mp z; exact fl_X1_35_0) dX1_copied_11 (fun v16 => ?_)
    refine vv_rcv (fun b19 t9 c9 fs9 e20 g9 k9 => ?_)
    cases List.mem_singleton.mp k9
    refine vv_callR (pc := 14) (rest := []) (by rw [e20]; rfl) (fun r8 k8 e8 => zz_callV X (m_X2_copy (hlM X) _ _ _ _ e8) g9 rfl rfl q2127 q2128 q2129 q133 q2130 nh_X2 rfl (by decide) (by decide) (Nat.le_of_ble_eq_true rfl) dX1_copied_14) (fun v17 h18 => ?_)
    refine vv_goto (pc := 17) (tgt := 37) X dX1_copied_17 rfl ?_
    exact vv_sub [] (by rfl) (B_X1_copied_37 X _ _)
theorem m_X1_copied {l : Launch} (hl : l.stackTraces = false) {G : va_G} (a0 : Nat) (h : HP) : ∀ r hf, f_X1_copied a0 h = some (r, hf) → Ct l yX1_copied (ws_ yX1_copied cX1_copied 1 (some (.object "RenamedWords$Desk"))) 5 188 G h [.ref a0] (jR r) hf :=
  zz_ofW hl (by decide +kernel) (lv := [(0, LR (some a0))]) (by simp [lv_args, lvL, lvV, zz_rfc, zz_rfs, zz_ci, zz_cr, zz_cj, zz_cf, zz_cd]) (by simp [lg_sl, zz_rfc, zz_ci, zz_cr, zz_cj, zz_cf, zz_cd]) (fun _ X => A_X1_copied X a0 h)
-- J21_size java/util/LinkedList.size()I
noncomputable def f_J21_size (a0 : Nat) (h : HP) : Option ((Int) × HP) :=
  (rdI h (some a0) [28] 1).bind fun v1 =>
  some (v1, h)
theorem A_J21_size {M : hp_M} {G : va_G} {h0 : HP} (X : hp_X M G h0 "java/util/LinkedList" "size" cJ21_size 1 (some .int) [] 0 0) (a0 : Nat) (h : HP) : vv M G h0 1 (hp_End M G h0) jI h 0 [(0, LR (some a0))] [] (f_J21_size a0 h) := by
  unfold f_J21_size
  refine vv_aload_n (pc := 0) X (kf := 0) (i := 0) rfl 0 rfl dJ21_size_0 ?_
  refine vv_getI (pc := 1) X (fun _ z => by cases List.mem_singleton.mp z; exact fl_J21_7_28) dJ21_size_1 (fun v1 => ?_)
  exact vv_iretI X rfl rfl dJ21_size_4
theorem m_J21_size {l : Launch} (hl : l.stackTraces = false) {G : va_G} (a0 : Nat) (h : HP) : ∀ r hf, f_J21_size a0 h = some (r, hf) → Ct l yJ21_size (ws_ yJ21_size cJ21_size 1 (some .int)) 0 0 G h [.ref a0] (jI r) hf :=
  zz_ofW hl (by decide +kernel) (lv := [(0, LR (some a0))]) (by simp [lv_args, lvL, lvV, zz_rfc, zz_rfs, zz_ci, zz_cr, zz_cj, zz_cf, zz_cd]) (by simp [lg_sl, zz_rfc, zz_ci, zz_cr, zz_cj, zz_cf, zz_cd]) (fun _ X => A_J21_size X a0 h)
-- J21_unlinkFirst java/util/LinkedList.unlinkFirst(Ljava/util/LinkedList$Node;)Ljava/lang/Object;
noncomputable def b_J21_unlinkFirst_42 (x0 : Option Nat) (x2 : Option Nat) (h : HP) : Option ((Option Nat) × HP) :=
  (rdI h x0 [28] 1).bind fun v7 =>
  (wrI h x0 [28] 1 (v7 - 1)).bind fun h8 =>
  (rdI h8 x0 [24, 28] 0).bind fun v9 =>
  (wrI h8 x0 [24, 28] 0 (v9 + 1)).bind fun h10 =>
  some (x2, h10)
theorem B_J21_unlinkFirst_42 {M : hp_M} {G : va_G} {h0 : HP} (X : hp_X M G h0 "java/util/LinkedList" "unlinkFirst" cJ21_unlinkFirst 4 (some (.object "java/lang/Object")) [] 0 0) (x0 : Option Nat) (x2 : Option Nat) (h : HP) : vv M G h0 4 (hp_End M G h0) jR h 42 [(0, LR x0), (2, LR x2)] [] (b_J21_unlinkFirst_42 x0 x2 h) := by
  unfold b_J21_unlinkFirst_42
  refine vv_aload_n (pc := 42) X (kf := 0) (i := 0) rfl 0 rfl dJ21_unlinkFirst_42 ?_
  refine vv_dup (pc := 43) X rfl dJ21_unlinkFirst_43 ?_
  refine vv_getI (pc := 44) X (fun _ z => by cases List.mem_singleton.mp z; exact fl_J21_7_28) dJ21_unlinkFirst_44 (fun v7 => ?_)
  refine vv_iconst (pc := 47) X dJ21_unlinkFirst_47 ?_
  refine vv_isub (pc := 48) X dJ21_unlinkFirst_48 ?_
  refine vv_putI (pc := 49) (fin := false) X (fun _ z => by cases List.mem_singleton.mp z; exact fl_J21_7_28) (fun z => nomatch z) (fun z => nomatch z) dJ21_unlinkFirst_49 (fun h8 => ?_)
  refine vv_aload_n (pc := 52) X (kf := 0) (i := 0) rfl 0 rfl dJ21_unlinkFirst_52 ?_
  refine vv_dup (pc := 53) X rfl dJ21_unlinkFirst_53 ?_
  refine vv_getI (pc := 54) X (fun _ z => by rcases List.mem_cons.mp z with rfl | z; exact fl_J21_33_24; cases List.mem_singleton.mp z; exact fl_J21_33_28) dJ21_unlinkFirst_54 (fun v9 => ?_)
  refine vv_iconst (pc := 57) X dJ21_unlinkFirst_57 ?_
  refine vv_iadd (pc := 58) X dJ21_unlinkFirst_58 ?_
  refine vv_putI (pc := 59) (fin := false) X (fun _ z => by rcases List.mem_cons.mp z with rfl | z; exact fl_J21_33_24; cases List.mem_singleton.mp z; exact fl_J21_33_28) (fun z => nomatch z) (fun z => nomatch z) dJ21_unlinkFirst_59 (fun h10 => ?_)
  refine vv_aload_n (pc := 62) X (kf := 2) (i := 2) rfl 1 rfl dJ21_unlinkFirst_62 ?_
  exact vv_aretO X rfl rfl dJ21_unlinkFirst_63
noncomputable def f_J21_unlinkFirst (a0 : Nat) (a1 : Option Nat) (h : HP) : Option ((Option Nat) × HP) :=
  (rdR h a1 [31] 0).bind fun v1 =>
  (rdR h a1 [31] 1).bind fun v2 =>
  (wrR h a1 [31] 0 none).bind fun h3 =>
  (wrR h3 a1 [31] 1 none).bind fun h4 =>
  (wrR h4 (some a0) [28] 2 v2).bind fun h5 =>
  rNU v2
    ((wrR h5 (some a0) [28] 3 none).bind fun h11 =>
    b_J21_unlinkFirst_42 (some a0) v1 h11)
    ((wrR h5 v2 [31] 2 none).bind fun h6 =>
    b_J21_unlinkFirst_42 (some a0) v1 h6)
theorem A_J21_unlinkFirst {M : hp_M} {G : va_G} {h0 : HP} (X : hp_X M G h0 "java/util/LinkedList" "unlinkFirst" cJ21_unlinkFirst 4 (some (.object "java/lang/Object")) [] 0 0) (a0 : Nat) (a1 : Option Nat) (h : HP) : vv M G h0 4 (hp_End M G h0) jR h 0 [(0, LR (some a0)), (1, LR a1)] [] (f_J21_unlinkFirst a0 a1 h) := by
  unfold f_J21_unlinkFirst
  refine vv_aload_n (pc := 0) X (kf := 1) (i := 1) rfl 1 rfl dJ21_unlinkFirst_0 ?_
  refine vv_getR (pc := 1) X (fun _ z => by cases List.mem_singleton.mp z; exact fl_J21_39_31) dJ21_unlinkFirst_1 (fun v1 => ?_)
  refine vv_astore_n (pc := 4) (lv' := [(2, LR v1), (0, LR (some a0)), (1, LR a1)]) X (kf := 2) (i := 2) rfl (by decide) rfl dJ21_unlinkFirst_4 ?_
  refine vv_aload_n (pc := 5) X (kf := 1) (i := 1) rfl 2 rfl dJ21_unlinkFirst_5 ?_
  refine vv_getR (pc := 6) X (fun _ z => by cases List.mem_singleton.mp z; exact fl_J21_36_31) dJ21_unlinkFirst_6 (fun v2 => ?_)
  refine vv_astore_n (pc := 9) (lv' := [(3, LR v2), (2, LR v1), (0, LR (some a0)), (1, LR a1)]) X (kf := 3) (i := 3) rfl (by decide) rfl dJ21_unlinkFirst_9 ?_
  refine vv_aload_n (pc := 10) X (kf := 1) (i := 1) rfl 3 rfl dJ21_unlinkFirst_10 ?_
  refine vv_null (pc := 11) X dJ21_unlinkFirst_11 ?_
  refine vv_putR (pc := 12) (ty9 := (.object "java/lang/Object")) (fin := false) X (fun _ z => by cases List.mem_singleton.mp z; exact fl_J21_39_31) (fun z => nomatch z) (fun z => nomatch z) (by decide +kernel) rfl dJ21_unlinkFirst_12 (fun h3 => ?_)
  refine vv_aload_n (pc := 15) X (kf := 1) (i := 1) rfl 3 rfl dJ21_unlinkFirst_15 ?_
  refine vv_null (pc := 16) X dJ21_unlinkFirst_16 ?_
  refine vv_putR (pc := 17) (ty9 := (.object "java/util/LinkedList$Node")) (fin := false) X (fun _ z => by cases List.mem_singleton.mp z; exact fl_J21_36_31) (fun z => nomatch z) (fun z => nomatch z) (by decide +kernel) rfl dJ21_unlinkFirst_17 (fun h4 => ?_)
  refine vv_aload_n (pc := 20) X (kf := 0) (i := 0) rfl 2 rfl dJ21_unlinkFirst_20 ?_
  refine vv_aload_n (pc := 21) X (kf := 3) (i := 3) rfl 0 rfl dJ21_unlinkFirst_21 ?_
  refine vv_putR (pc := 22) (ty9 := (.object "java/util/LinkedList$Node")) (fin := false) X (fun _ z => by cases List.mem_singleton.mp z; exact fl_J21_18_28) (fun z => nomatch z) (fun z => nomatch z) (by decide +kernel) rfl dJ21_unlinkFirst_22 (fun h5 => ?_)
  refine vv_aload_n (pc := 25) X (kf := 3) (i := 3) rfl 0 rfl dJ21_unlinkFirst_25 ?_
  refine vv_ifnonnull (pc := 26) (tgt := 37) X dJ21_unlinkFirst_26 rfl ?_ ?_
  · refine vv_aload_n (pc := 37) X (kf := 3) (i := 3) rfl 0 rfl dJ21_unlinkFirst_37 ?_
    refine vv_null (pc := 38) X dJ21_unlinkFirst_38 ?_
    refine vv_putR (pc := 39) (ty9 := (.object "java/util/LinkedList$Node")) (fin := false) X (fun _ z => by cases List.mem_singleton.mp z; exact fl_J21_30_31) (fun z => nomatch z) (fun z => nomatch z) (by decide +kernel) rfl dJ21_unlinkFirst_39 (fun h6 => ?_)
    exact vv_sub [2, 1] (by rfl) (B_J21_unlinkFirst_42 X _ _ _)
  · refine vv_aload_n (pc := 29) X (kf := 0) (i := 0) rfl 2 rfl dJ21_unlinkFirst_29 ?_
    refine vv_null (pc := 30) X dJ21_unlinkFirst_30 ?_
    refine vv_putR (pc := 31) (ty9 := (.object "java/util/LinkedList$Node")) (fin := false) X (fun _ z => by cases List.mem_singleton.mp z; exact fl_J21_27_28) (fun z => nomatch z) (fun z => nomatch z) (by decide +kernel) rfl dJ21_unlinkFirst_31 (fun h11 => ?_)
    refine vv_goto (pc := 34) (tgt := 42) X dJ21_unlinkFirst_34 rfl ?_
    exact vv_sub [2, 1] (by rfl) (B_J21_unlinkFirst_42 X _ _ _)
theorem m_J21_unlinkFirst {l : Launch} (hl : l.stackTraces = false) {G : va_G} (a0 : Nat) (a1 : Option Nat) (h : HP) : ∀ r hf, f_J21_unlinkFirst a0 a1 h = some (r, hf) → Ct l yJ21_unlinkFirst (ws_ yJ21_unlinkFirst cJ21_unlinkFirst 4 (some (.object "java/lang/Object"))) 0 0 G h [.ref a0, va_rf a1] (jR r) hf :=
  zz_ofW hl (by decide +kernel) (lv := [(0, LR (some a0)), (1, LR a1)]) (by simp [lv_args, lvL, lvV, zz_rfc, zz_rfs, zz_ci, zz_cr, zz_cj, zz_cf, zz_cd]) (by simp [lg_sl, zz_rfc, zz_ci, zz_cr, zz_cj, zz_cf, zz_cd]) (fun _ X => A_J21_unlinkFirst X a0 a1 h)
-- J21_removeFirst java/util/LinkedList.removeFirst()Ljava/lang/Object;
noncomputable def f_J21_removeFirst (a0 : Nat) (h : HP) : Option ((Option Nat) × HP) :=
  (rdR h (some a0) [28] 2).bind fun v1 =>
  rNU v1
    (none)
    ((rcv h (some a0) [28]).bind fun b4 =>
    hb (f_J21_unlinkFirst b4 v1 h) fun v2 h3 =>
    some (v2, h3))
theorem A_J21_removeFirst {M : hp_M} {G : va_G} {h0 : HP} (X : hp_X M G h0 "java/util/LinkedList" "removeFirst" cJ21_removeFirst 2 (some (.object "java/lang/Object")) [] 1 31) (a0 : Nat) (h : HP) : vv M G h0 2 (hp_End M G h0) jR h 0 [(0, LR (some a0))] [] (f_J21_removeFirst a0 h) := by
  unfold f_J21_removeFirst
  refine vv_aload_n (pc := 0) X (kf := 0) (i := 0) rfl 0 rfl dJ21_removeFirst_0 ?_
  refine vv_getR (pc := 1) X (fun _ z => by cases List.mem_singleton.mp z; exact fl_J21_18_28) dJ21_removeFirst_1 (fun v1 => ?_)
  refine vv_astore_n (pc := 4) (lv' := [(1, LR v1), (0, LR (some a0))]) X (kf := 1) (i := 1) rfl (by decide) rfl dJ21_removeFirst_4 ?_
  refine vv_aload_n (pc := 5) X (kf := 1) (i := 1) rfl 0 rfl dJ21_removeFirst_5 ?_
  refine vv_ifnonnull (pc := 6) (tgt := 17) X dJ21_removeFirst_6 rfl ?_ ?_
  · refine vv_aload_n (pc := 17) X (kf := 0) (i := 0) rfl 1 rfl dJ21_removeFirst_17 ?_
    refine vv_aload_n (pc := 18) X (kf := 1) (i := 1) rfl 0 rfl dJ21_removeFirst_18 ?_
    refine vv_rcv (fun b4 t9 c9 fs9 e5 g9 k9 => ?_)
    cases List.mem_singleton.mp k9
    refine vv_callR (pc := 19) (rest := []) (by rw [e5]; rfl) (fun r8 k8 e8 => zz_callV X (m_J21_unlinkFirst (hlM X) _ _ _ _ _ e8) g9 rfl rfl q2438 q2440 qs28 q162 q2441 nh_J21 rfl (by decide) (by decide) (Nat.le_of_ble_eq_true rfl) dJ21_removeFirst_19) (fun v2 h3 => ?_)
    exact vv_aretO X rfl rfl dJ21_removeFirst_22
  · exact vv_none
theorem m_J21_removeFirst {l : Launch} (hl : l.stackTraces = false) {G : va_G} (a0 : Nat) (h : HP) : ∀ r hf, f_J21_removeFirst a0 h = some (r, hf) → Ct l yJ21_removeFirst (ws_ yJ21_removeFirst cJ21_removeFirst 2 (some (.object "java/lang/Object"))) 1 31 G h [.ref a0] (jR r) hf :=
  zz_ofW hl (by decide +kernel) (lv := [(0, LR (some a0))]) (by simp [lv_args, lvL, lvV, zz_rfc, zz_rfs, zz_ci, zz_cr, zz_cj, zz_cf, zz_cd]) (by simp [lg_sl, zz_rfc, zz_ci, zz_cr, zz_cj, zz_cf, zz_cd]) (fun _ X => A_J21_removeFirst X a0 h)
-- J22_dec java/util/ArrayDeque.dec(II)I
noncomputable def b_J22_dec_11 (x0 : Int) (h : HP) : Option ((Int) × HP) :=
  some (x0, h)
theorem B_J22_dec_11 {M : hp_M} {G : va_G} {h0 : HP} (X : hp_X M G h0 "java/util/ArrayDeque" "dec" cJ22_dec 2 (some .int) [] 0 0) (x0 : Int) (h : HP) : vv M G h0 2 (hp_End M G h0) jI h 11 [(0, LI x0)] [] (b_J22_dec_11 x0 h) := by
  unfold b_J22_dec_11
  refine vv_iload_n (pc := 11) X (kf := 0) (i := 0) rfl 0 rfl dJ22_dec_11 ?_
  exact vv_iretI X rfl rfl dJ22_dec_12
noncomputable def f_J22_dec (a1 : Int) (a2 : Int) (h : HP) : Option ((Int) × HP) :=
  iLE 0 (a1 + (-1))
    (b_J22_dec_11 (a1 + (-1)) h)
    (b_J22_dec_11 (a2 - 1) h)
theorem A_J22_dec {M : hp_M} {G : va_G} {h0 : HP} (X : hp_X M G h0 "java/util/ArrayDeque" "dec" cJ22_dec 2 (some .int) [] 0 0) (a1 : Int) (a2 : Int) (h : HP) : vv M G h0 2 (hp_End M G h0) jI h 0 [(0, LI a1), (1, LI a2)] [] (f_J22_dec a1 a2 h) := by
  unfold f_J22_dec
  refine vv_iinc (pc := 0) (lv' := [(0, LI (a1 + (-1))), (1, LI a2)]) X 0 rfl (by decide) rfl dJ22_dec_0 ?_
  refine vv_iload_n (pc := 3) X (kf := 0) (i := 0) rfl 0 rfl dJ22_dec_3 ?_
  refine vv_if_ge (pc := 4) (tgt := 11) X dJ22_dec_4 rfl ?_ ?_
  · exact vv_sub [0] (by rfl) (B_J22_dec_11 X _ _)
  · refine vv_iload_n (pc := 7) X (kf := 1) (i := 1) rfl 1 rfl dJ22_dec_7 ?_
    refine vv_iconst (pc := 8) X dJ22_dec_8 ?_
    refine vv_isub (pc := 9) X dJ22_dec_9 ?_
    refine vv_istore_n (pc := 10) (lv' := [(0, LI (a2 - 1)), (1, LI a2)]) X (kf := 0) (i := 0) rfl (by decide) rfl dJ22_dec_10 ?_
    exact vv_sub [0] (by rfl) (B_J22_dec_11 X _ _)
theorem m_J22_dec {l : Launch} (hl : l.stackTraces = false) {G : va_G} (a1 : Int) (a2 : Int) (h : HP) : ∀ r hf, f_J22_dec a1 a2 h = some (r, hf) → Ct l yJ22_dec (ws_ yJ22_dec cJ22_dec 2 (some .int)) 0 0 G h [.int (iI a1), .int (iI a2)] (jI r) hf :=
  zz_ofW hl (by decide +kernel) (lv := [(0, LI a1), (1, LI a2)]) (by simp [lv_args, lvL, lvV, zz_rfc, zz_rfs, zz_ci, zz_cr, zz_cj, zz_cf, zz_cd]) (by simp [lg_sl, zz_rfc, zz_ci, zz_cr, zz_cj, zz_cf, zz_cd]) (fun _ X => A_J22_dec X a1 a2 h)
-- J22_addFirst java/util/ArrayDeque.addFirst(Ljava/lang/Object;)V
noncomputable def f_J22_addFirst (a0 : Nat) (a1 : Option Nat) (h : HP) : Option ((Unit) × HP) :=
  rNU a1
    (none)
    ((rdR h (some a0) [29] 0).bind fun v1 =>
    (rdI h (some a0) [29] 1).bind fun v2 =>
    (alen h v1).bind fun v3 =>
    hb (f_J22_dec v2 v3 h) fun v4 h5 =>
    (wrI h5 (some a0) [29] 1 v4).bind fun h6 =>
    (astR h6 "java/lang/Object" [1, 26] v1 v4 a1).bind fun h7 =>
    (rdI h7 (some a0) [29] 1).bind fun v8 =>
    (rdI h7 (some a0) [29] 2).bind fun v9 =>
    iEQ v8 v9
      (none)
      (some ((), h7)))
theorem A_J22_addFirst {M : hp_M} {G : va_G} {h0 : HP} (X : hp_X M G h0 "java/util/ArrayDeque" "addFirst" cJ22_addFirst 3 none [] 1 29) (a0 : Nat) (a1 : Option Nat) (h : HP) : vv M G h0 3 (hp_End M G h0) jV h 0 [(0, LR (some a0)), (1, LR a1)] [] (f_J22_addFirst a0 a1 h) := by
  unfold f_J22_addFirst
  refine vv_aload_n (pc := 0) X (kf := 1) (i := 1) rfl 1 rfl dJ22_addFirst_0 ?_
  refine vv_ifnonnull (pc := 1) (tgt := 12) X dJ22_addFirst_1 rfl ?_ ?_
  · refine vv_aload_n (pc := 12) X (kf := 0) (i := 0) rfl 0 rfl dJ22_addFirst_12 ?_
    refine vv_getR (pc := 13) X (fun _ z => by cases List.mem_singleton.mp z; exact fl_J22_3_29) dJ22_addFirst_13 (fun v1 => ?_)
    refine vv_astore_n (pc := 16) (lv' := [(2, LR v1), (0, LR (some a0)), (1, LR a1)]) X (kf := 2) (i := 2) rfl (by decide) rfl dJ22_addFirst_16 ?_
    refine vv_aload_n (pc := 17) X (kf := 2) (i := 2) rfl 0 rfl dJ22_addFirst_17 ?_
    refine vv_aload_n (pc := 18) X (kf := 0) (i := 0) rfl 1 rfl dJ22_addFirst_18 ?_
    refine vv_aload_n (pc := 19) X (kf := 0) (i := 0) rfl 1 rfl dJ22_addFirst_19 ?_
    refine vv_getI (pc := 20) X (fun _ z => by cases List.mem_singleton.mp z; exact fl_J22_24_29) dJ22_addFirst_20 (fun v2 => ?_)
    refine vv_aload_n (pc := 23) X (kf := 2) (i := 2) rfl 0 rfl dJ22_addFirst_23 ?_
    refine vv_alen (pc := 24) X dJ22_addFirst_24 (fun v3 => ?_)
    refine vv_callI (pc := 25) (rest := [LR (some a0), LR v1]) (by rfl) (fun r8 k8 e8 => zz_callS X (m_J22_dec (hlM X) _ _ _ _ _ e8) q2450 q2451 q163 q2452 nh_J22 rfl (by decide) (by decide) (Nat.le_of_ble_eq_true rfl) dJ22_addFirst_25) (fun v4 h5 => ?_)
    refine vv_dup_x1 (pc := 28) X rfl rfl dJ22_addFirst_28 ?_
    refine vv_putI (pc := 29) (fin := false) X (fun _ z => by cases List.mem_singleton.mp z; exact fl_J22_24_29) (fun z => nomatch z) (fun z => nomatch z) dJ22_addFirst_29 (fun h6 => ?_)
    refine vv_aload_n (pc := 32) X (kf := 1) (i := 1) rfl 2 rfl dJ22_addFirst_32 ?_
    refine vv_aastore (pc := 33) X (fun _ z => by rcases List.mem_cons.mp z with rfl | z; exact ca_java_lang_Object_1; cases List.mem_singleton.mp z; exact ca_java_lang_Object_26) dJ22_addFirst_33 (fun h7 => ?_)
    refine vv_aload_n (pc := 34) X (kf := 0) (i := 0) rfl 1 rfl dJ22_addFirst_34 ?_
    refine vv_getI (pc := 35) X (fun _ z => by cases List.mem_singleton.mp z; exact fl_J22_24_29) dJ22_addFirst_35 (fun v8 => ?_)
    refine vv_aload_n (pc := 38) X (kf := 0) (i := 0) rfl 1 rfl dJ22_addFirst_38 ?_
    refine vv_getI (pc := 39) X (fun _ z => by cases List.mem_singleton.mp z; exact fl_J22_20_29) dJ22_addFirst_39 (fun v9 => ?_)
    refine vv_icmp_ne (pc := 42) (tgt := 50) X dJ22_addFirst_42 rfl ?_ ?_
    · exact vv_vreturn X rfl rfl dJ22_addFirst_50
    · refine vv_aload_n (pc := 45) X (kf := 0) (i := 0) rfl 1 rfl dJ22_addFirst_45 ?_
      refine vv_iconst (pc := 46) X dJ22_addFirst_46 ?_
      exact vv_none
  · exact vv_none
theorem m_J22_addFirst {l : Launch} (hl : l.stackTraces = false) {G : va_G} (a0 : Nat) (a1 : Option Nat) (h : HP) : ∀ r hf, f_J22_addFirst a0 a1 h = some (r, hf) → Ct l yJ22_addFirst (ws_ yJ22_addFirst cJ22_addFirst 3 none) 1 29 G h [.ref a0, va_rf a1] (jV r) hf :=
  zz_ofW hl (by decide +kernel) (lv := [(0, LR (some a0)), (1, LR a1)]) (by simp [lv_args, lvL, lvV, zz_rfc, zz_rfs, zz_ci, zz_cr, zz_cj, zz_cf, zz_cd]) (by simp [lg_sl, zz_rfc, zz_ci, zz_cr, zz_cj, zz_cf, zz_cd]) (fun _ X => A_J22_addFirst X a0 a1 h)
