/-! STAGE 1c: functions and contracts (printed by gen/mkfuncs.py). -/
set_option maxRecDepth 100000
set_option linter.unusedVariables false
-- X9_back0 RenamedWordsModel.back0(I)I
noncomputable def f_X9_back0 (a0 : Nat) (a1 : Int) (h : HP) : Option ((Int) × HP) :=
  (rdR h (some a0) [7] 1).bind fun v1 =>
  (rdR h (some a0) [7] 0).bind fun v2 =>
  hb (f_X9_lays v1 0 v2 0 h) fun _ h4 =>
  some (a1, h4)
theorem A_X9_back0 {M : hp_M} {G : va_G} {h0 : HP} (X : hp_X M G h0 "RenamedWordsModel" "back0" cX9_back0 2 (some .int) [] 1 32) (a0 : Nat) (a1 : Int) (h : HP) : vv M G h0 2 (hp_End M G h0) jI h 0 [(0, LR (some a0)), (1, LI a1)] [] (f_X9_back0 a0 a1 h) := by
  unfold f_X9_back0
  refine vv_aload_n (pc := 0) X (kf := 0) (i := 0) rfl 0 rfl dX9_back0_0 ?_
  refine vv_getR (pc := 1) X (fun _ z => by cases List.mem_singleton.mp z; exact fl_X9_13_7) dX9_back0_1 (fun v1 => ?_)
  refine vv_iconst (pc := 4) X dX9_back0_4 ?_
  refine vv_aload_n (pc := 5) X (kf := 0) (i := 0) rfl 0 rfl dX9_back0_5 ?_
  refine vv_getR (pc := 6) X (fun _ z => by cases List.mem_singleton.mp z; exact fl_X9_9_7) dX9_back0_6 (fun v2 => ?_)
  refine vv_iconst (pc := 9) X dX9_back0_9 ?_
  refine vv_callV (pc := 10) (rest := []) (by rfl) (fun r8 k8 e8 => zz_callS X (m_X9_lays (hlM X) _ _ _ _ _ _ _ e8) q3574 q3575 q164 q3576 nh_X9 rfl (by decide) (by decide) (Nat.le_of_ble_eq_true rfl) dX9_back0_10) (fun v3 h4 => ?_)
  refine vv_iload_n (pc := 13) X (kf := 1) (i := 1) rfl 1 rfl dX9_back0_13 ?_
  exact vv_iretI X rfl rfl dX9_back0_14
theorem m_X9_back0 {l : Launch} (hl : l.stackTraces = false) {G : va_G} (a0 : Nat) (a1 : Int) (h : HP) : ∀ r hf, f_X9_back0 a0 a1 h = some (r, hf) → Ct l yX9_back0 (ws_ yX9_back0 cX9_back0 2 (some .int)) 1 32 G h [.ref a0, .int (iI a1)] (jI r) hf :=
  zz_ofW hl (by decide +kernel) (lv := [(0, LR (some a0)), (1, LI a1)]) (by simp [lv_args, lvL, lvV, zz_rfc, zz_rfs, zz_ci, zz_cr, zz_cj, zz_cf, zz_cd]) (by simp [lg_sl, zz_rfc, zz_ci, zz_cr, zz_cj, zz_cf, zz_cd]) (fun _ X => A_X9_back0 X a0 a1 h)
-- X9_load RenamedWordsModel.load()I
noncomputable def f_X9_load (a0 : Nat) (h : HP) : Option ((Int) × HP) :=
  (wrI h (some a0) [7] 7 0).bind fun h1 =>
  (rcv h1 (some a0) [7]).bind fun b4 =>
  hb (f_X9_aside b4 h1) fun _ h3 =>
  (rcv h3 (some a0) [7]).bind fun b8 =>
  hb (f_X9_setup b8 h3) fun _ h7 =>
  (rcv h7 (some a0) [7]).bind fun b12 =>
  hb (f_X9_ended b12 h7) fun v10 h11 =>
  iLE 0 v10
    ((wrI h11 (some a0) [7] 6 0).bind fun h14 =>
    (rdR h14 (some a0) [7] 5).bind fun v15 =>
    (astZ h14 v15 0 0).bind fun h16 =>
    (rdR h16 (some a0) [7] 5).bind fun v17 =>
    (astZ h16 v17 1 0).bind fun h18 =>
    (rdR h18 (some a0) [7] 0).bind fun v19 =>
    (aldI h18 .int v19 1).bind fun v20 =>
    some (v20, h18))
    ((rcv h11 (some a0) [7]).bind fun b23 =>
    hb (f_X9_back0 b23 v10 h11) fun v21 h22 =>
    some (v21, h22))
theorem A_X9_load {M : hp_M} {G : va_G} {h0 : HP} (X : hp_X M G h0 "RenamedWordsModel" "load" cX9_load 2 (some .int) [] 6 176) (a0 : Nat) (h : HP) : vv M G h0 2 (hp_End M G h0) jI h 0 [(0, LR (some a0))] [] (f_X9_load a0 h) := by
  unfold f_X9_load
  refine vv_aload_n (pc := 0) X (kf := 0) (i := 0) rfl 0 rfl dX9_load_0 ?_
  refine vv_iconst (pc := 1) X dX9_load_1 ?_
  refine vv_putI (pc := 2) (fin := false) X (fun _ z => by cases List.mem_singleton.mp z; exact fl_X9_69_7) (fun z => nomatch z) (fun z => nomatch z) dX9_load_2 (fun h1 => ?_)
  refine vv_aload_n (pc := 5) X (kf := 0) (i := 0) rfl 0 rfl dX9_load_5 ?_
  refine vv_rcv (fun b4 t9 c9 fs9 e5 g9 k9 => ?_)
  cases List.mem_singleton.mp k9
  refine vv_callV (pc := 6) (rest := []) (by rw [e5]; rfl) (fun r8 k8 e8 => zz_callV X (m_X9_aside (hlM X) _ _ _ _ e8) g9 rfl rfl q3570 q3572 qs51 q164 q3573 nh_X9 rfl (by decide) (by decide) (Nat.le_of_ble_eq_true rfl) dX9_load_6) (fun v2 h3 => ?_)
  refine vv_aload_n (pc := 9) X (kf := 0) (i := 0) rfl 0 rfl dX9_load_9 ?_
  refine vv_rcv (fun b8 t9 c9 fs9 e9 g9 k9 => ?_)
  cases List.mem_singleton.mp k9
  refine vv_callV (pc := 10) (rest := []) (by rw [e9]; rfl) (fun r8 k8 e8 => zz_callV X (m_X9_setup (hlM X) _ _ _ _ e8) g9 rfl rfl q3577 q3579 qs52 q164 q3580 nh_X9 rfl (by decide) (by decide) (Nat.le_of_ble_eq_true rfl) dX9_load_10) (fun v6 h7 => ?_)
  refine vv_aload_n (pc := 13) X (kf := 0) (i := 0) rfl 0 rfl dX9_load_13 ?_
  refine vv_rcv (fun b12 t9 c9 fs9 e13 g9 k9 => ?_)
  cases List.mem_singleton.mp k9
  refine vv_callI (pc := 14) (rest := []) (by rw [e13]; rfl) (fun r8 k8 e8 => zz_callV X (m_X9_ended (hlM X) _ _ _ _ e8) g9 rfl rfl q3654 q3656 qs69 q164 q3657 nh_X9 rfl (by decide) (by decide) (Nat.le_of_ble_eq_true rfl) dX9_load_14) (fun v10 h11 => ?_)
  refine vv_istore_n (pc := 17) (lv' := [(1, LI v10), (0, LR (some a0))]) X (kf := 1) (i := 1) rfl (by decide) rfl dX9_load_17 ?_
  refine vv_iload_n (pc := 18) X (kf := 1) (i := 1) rfl 0 rfl dX9_load_18 ?_
  refine vv_if_ge (pc := 19) (tgt := 28) X dX9_load_19 rfl ?_ ?_
  · refine vv_aload_n (pc := 28) X (kf := 0) (i := 0) rfl 1 rfl dX9_load_28 ?_
    refine vv_iconst (pc := 29) X dX9_load_29 ?_
    refine vv_putI (pc := 30) (fin := false) X (fun _ z => by cases List.mem_singleton.mp z; exact fl_X9_264_7) (fun z => nomatch z) (fun z => nomatch z) dX9_load_30 (fun h14 => ?_)
    refine vv_aload_n (pc := 33) X (kf := 0) (i := 0) rfl 1 rfl dX9_load_33 ?_
    refine vv_getR (pc := 34) X (fun _ z => by cases List.mem_singleton.mp z; exact fl_X9_25_7) dX9_load_34 (fun v15 => ?_)
    refine vv_iconst (pc := 37) X dX9_load_37 ?_
    refine vv_iconst (pc := 38) X dX9_load_38 ?_
    refine vv_zastore (pc := 39) X dX9_load_39 (fun h16 => ?_)
    refine vv_aload_n (pc := 40) X (kf := 0) (i := 0) rfl 1 rfl dX9_load_40 ?_
    refine vv_getR (pc := 41) X (fun _ z => by cases List.mem_singleton.mp z; exact fl_X9_25_7) dX9_load_41 (fun v17 => ?_)
    refine vv_iconst (pc := 44) X dX9_load_44 ?_
    refine vv_iconst (pc := 45) X dX9_load_45 ?_
    refine vv_zastore (pc := 46) X dX9_load_46 (fun h18 => ?_)
    refine vv_aload_n (pc := 47) X (kf := 0) (i := 0) rfl 1 rfl dX9_load_47 ?_
    refine vv_getR (pc := 48) X (fun _ z => by cases List.mem_singleton.mp z; exact fl_X9_9_7) dX9_load_48 (fun v19 => ?_)
    refine vv_iconst (pc := 51) X dX9_load_51 ?_
    refine vv_iaload (pc := 52) X dX9_load_52 (fun v20 => ?_)
    exact vv_iretI X rfl rfl dX9_load_53
  · refine vv_aload_n (pc := 22) X (kf := 0) (i := 0) rfl 1 rfl dX9_load_22 ?_
    refine vv_iload_n (pc := 23) X (kf := 1) (i := 1) rfl 0 rfl dX9_load_23 ?_
    refine vv_rcv (fun b23 t9 c9 fs9 e24 g9 k9 => ?_)
    cases List.mem_singleton.mp k9
    refine vv_callI (pc := 24) (rest := []) (by rw [e24]; rfl) (fun r8 k8 e8 => zz_callV X (m_X9_back0 (hlM X) _ _ _ _ _ e8) g9 rfl rfl q3658 q3660 qs70 q164 q3661 nh_X9 rfl (by decide) (by decide) (Nat.le_of_ble_eq_true rfl) dX9_load_24) (fun v21 h22 => ?_)
    exact vv_iretI X rfl rfl dX9_load_27
theorem m_X9_load {l : Launch} (hl : l.stackTraces = false) {G : va_G} (a0 : Nat) (h : HP) : ∀ r hf, f_X9_load a0 h = some (r, hf) → Ct l yX9_load (ws_ yX9_load cX9_load 2 (some .int)) 6 176 G h [.ref a0] (jI r) hf :=
  zz_ofW hl (by decide +kernel) (lv := [(0, LR (some a0))]) (by simp [lv_args, lvL, lvV, zz_rfc, zz_rfs, zz_ci, zz_cr, zz_cj, zz_cf, zz_cd]) (by simp [lg_sl, zz_rfc, zz_ci, zz_cr, zz_cj, zz_cf, zz_cd]) (fun _ X => A_X9_load X a0 h)
-- X15_init RenamedWords$ScriptReader.<init>(LRenamedWords;)V
noncomputable def f_X15_init (a0 : Nat) (a1 : Option Nat) (h : HP) : Option ((Unit) × HP) :=
  (wrR h (some a0) [12] 9 a1).bind fun h1 =>
  hb (f_X10_init a0 a1 h1) fun _ h3 =>
  some ((), h3)
theorem A_X15_init {M : hp_M} {G : va_G} {h0 : HP} (X : hp_X M G h0 "RenamedWords$ScriptReader" "<init>" cX15_init 2 none [] 8 310) (a0 : Nat) (a1 : Option Nat) (h : HP) : vv M G h0 2 (hp_End M G h0) jV h 0 [(0, LR (some a0)), (1, LR a1)] [] (f_X15_init a0 a1 h) := by
  unfold f_X15_init
  refine vv_aload_n (pc := 0) X (kf := 0) (i := 0) rfl 0 rfl dX15_init_0 ?_
  refine vv_aload_n (pc := 1) X (kf := 1) (i := 1) rfl 1 rfl dX15_init_1 ?_
  refine vv_putR (pc := 2) (ty9 := (.object "RenamedWords")) (fin := true) X (fun _ z => by cases List.mem_singleton.mp z; exact fl_X15_3_12) (fun _ => rfl) (fun _ => (fun _ z => by cases List.mem_singleton.mp z; exact ⟨_, rfl, rfl⟩)) (by decide +kernel) rfl dX15_init_2 (fun h1 => ?_)
  refine vv_aload_n (pc := 5) X (kf := 0) (i := 0) rfl 0 rfl dX15_init_5 ?_
  refine vv_aload_n (pc := 6) X (kf := 1) (i := 1) rfl 1 rfl dX15_init_6 ?_
  refine vv_callV (pc := 7) (rest := []) (by rfl) (fun r8 k8 e8 => zz_callI X (m_X10_init (hlM X) _ _ _ _ _ e8) q1845 q853 q165 q854 rfl nh_X10 rfl (by decide) (by decide) (Nat.le_of_ble_eq_true rfl) dX15_init_7) (fun v2 h3 => ?_)
  exact vv_vreturn X rfl rfl dX15_init_10
theorem m_X15_init {l : Launch} (hl : l.stackTraces = false) {G : va_G} (a0 : Nat) (a1 : Option Nat) (h : HP) : ∀ r hf, f_X15_init a0 a1 h = some (r, hf) → Ct l yX15_init (ws_ yX15_init cX15_init 2 none) 8 310 G h [.ref a0, va_rf a1] (jV r) hf :=
  zz_ofW hl (by decide +kernel) (lv := [(0, LR (some a0)), (1, LR a1)]) (by simp [lv_args, lvL, lvV, zz_rfc, zz_rfs, zz_ci, zz_cr, zz_cj, zz_cf, zz_cd]) (by simp [lg_sl, zz_rfc, zz_ci, zz_cr, zz_cj, zz_cf, zz_cd]) (fun _ X => A_X15_init X a0 a1 h)
-- X16_init RenamedWords$Order.<init>()V
noncomputable def f_X16_init (a0 : Nat) (h : HP) : Option ((Unit) × HP) :=
  some ((), h)
theorem A_X16_init {M : hp_M} {G : va_G} {h0 : HP} (X : hp_X M G h0 "RenamedWords$Order" "<init>" cX16_init 1 none [] 1 28) (a0 : Nat) (h : HP) : vv M G h0 1 (hp_End M G h0) jV h 0 [(0, LR (some a0))] [] (f_X16_init a0 h) := by
  unfold f_X16_init
  refine vv_aload_n (pc := 0) X (kf := 0) (i := 0) rfl 0 rfl dX16_init_0 ?_
  refine vv_objInit (pc := 1) X rfl q1886 q212 q213 (by decide) (by decide) (Nat.le_of_ble_eq_true rfl) dX16_init_1 ?_
  exact vv_vreturn X rfl rfl dX16_init_4
theorem m_X16_init {l : Launch} (hl : l.stackTraces = false) {G : va_G} (a0 : Nat) (h : HP) : ∀ r hf, f_X16_init a0 h = some (r, hf) → Ct l yX16_init (ws_ yX16_init cX16_init 1 none) 1 28 G h [.ref a0] (jV r) hf :=
  zz_ofW hl (by decide +kernel) (lv := [(0, LR (some a0))]) (by simp [lv_args, lvL, lvV, zz_rfc, zz_rfs, zz_ci, zz_cr, zz_cj, zz_cf, zz_cd]) (by simp [lg_sl, zz_rfc, zz_ci, zz_cr, zz_cj, zz_cf, zz_cd]) (fun _ X => A_X16_init X a0 h)
-- X17_init RenamedWords$Script.<init>(I)V
noncomputable def f_X17_init (a0 : Nat) (a1 : Int) (h : HP) : Option ((Unit) × HP) :=
  hb (f_X16_init a0 h) fun _ h2 =>
  hb (nwO h2 (tgR h2 (some a0)) 28 [.inl 0, .inl 0, .inr (.inl none), .inr (.inl none)] 4) fun v3 h4 =>
  (v3).bind fun b7 =>
  hb (f_J21_init b7 h4) fun _ h6 =>
  (wrR h6 (some a0) [13] 0 v3).bind fun h9 =>
  (wrI h9 (some a0) [13] 1 a1).bind fun h10 =>
  some ((), h10)
theorem A_X17_init {M : hp_M} {G : va_G} {h0 : HP} (X : hp_X M G h0 "RenamedWords$Script" "<init>" cX17_init 2 none [] 5 140) (a0 : Nat) (a1 : Int) (h : HP) : vv M G h0 2 (hp_End M G h0) jV h 0 [(0, LR (some a0)), (1, LI a1)] [] (f_X17_init a0 a1 h) := by
  unfold f_X17_init
  refine vv_aload_n (pc := 0) X (kf := 0) (i := 0) rfl 0 rfl dX17_init_0 ?_
  refine vv_callV (pc := 1) (rest := []) (by rfl) (fun r8 k8 e8 => zz_callIN X (m_X16_init (hlM X) _ _ _ _ e8) q1883 q1884 q181 q1885 rfl nh_X16 rfl (by decide) (by decide) (Nat.le_of_ble_eq_true rfl) dX17_init_1) (fun v1 h2 => ?_)
  refine vv_aload_n (pc := 4) X (kf := 0) (i := 0) rfl 0 rfl dX17_init_4 ?_
  refine vv_new (pc := 5) X tyJ21 rfl in_J21 tyJ21_ok q1887 q750 q162 ndJ21 (by decide) dX17_init_5 (fun v3 h4 => ?_)
  refine vv_dup (pc := 8) X rfl dX17_init_8 ?_
  refine vv_bnd (fun b7 e8 => ?_)
  refine vv_callV (pc := 9) (rest := [LR v3, LR (some a0)]) (by rw [e8]; rfl) (fun r8 k8 e8 => zz_callI X (m_J21_init (hlM X) _ _ _ _ e8) q1888 q752 q162 q753 rfl nh_J21 rfl (by decide) (by decide) (Nat.le_of_ble_eq_true rfl) dX17_init_9) (fun v5 h6 => ?_)
  refine vv_putR (pc := 12) (ty9 := (.object "java/util/LinkedList")) (fin := true) X (fun _ z => by cases List.mem_singleton.mp z; exact fl_X17_10_13) (fun _ => rfl) (fun _ => (fun _ z => by cases List.mem_singleton.mp z; exact ⟨_, rfl, rfl⟩)) (by decide +kernel) rfl dX17_init_12 (fun h9 => ?_)
  refine vv_aload_n (pc := 15) X (kf := 0) (i := 0) rfl 0 rfl dX17_init_15 ?_
  refine vv_iload_n (pc := 16) X (kf := 1) (i := 1) rfl 1 rfl dX17_init_16 ?_
  refine vv_putI (pc := 17) (fin := true) X (fun _ z => by cases List.mem_singleton.mp z; exact fl_X17_16_13) (fun _ => rfl) (fun _ => (fun _ z => by cases List.mem_singleton.mp z; exact ⟨_, rfl, rfl⟩)) dX17_init_17 (fun h10 => ?_)
  exact vv_vreturn X rfl rfl dX17_init_20
theorem m_X17_init {l : Launch} (hl : l.stackTraces = false) {G : va_G} (a0 : Nat) (a1 : Int) (h : HP) : ∀ r hf, f_X17_init a0 a1 h = some (r, hf) → Ct l yX17_init (ws_ yX17_init cX17_init 2 none) 5 140 G h [.ref a0, .int (iI a1)] (jV r) hf :=
  zz_ofW hl (by decide +kernel) (lv := [(0, LR (some a0)), (1, LI a1)]) (by simp [lv_args, lvL, lvV, zz_rfc, zz_rfs, zz_ci, zz_cr, zz_cj, zz_cf, zz_cd]) (by simp [lg_sl, zz_rfc, zz_ci, zz_cr, zz_cj, zz_cf, zz_cd]) (fun _ X => A_X17_init X a0 a1 h)
-- X15_isOrder RenamedWords$ScriptReader.isOrder(Ljava/lang/String;)Z
noncomputable def b_X15_isOrder_273 (s0 : Int) (h : HP) : Option ((Int) × HP) :=
  rtZ s0 (some (s0, h))
theorem B_X15_isOrder_273 {M : hp_M} {G : va_G} {h0 : HP} (X : hp_X M G h0 "RenamedWords$ScriptReader" "isOrder" cX15_isOrder 4 (some .boolean) [] 4 122) (s0 : Int) (h : HP) : vv M G h0 4 (hp_End M G h0) jI h 273 [] [LI s0] (b_X15_isOrder_273 s0 h) := by
  unfold b_X15_isOrder_273
  exact vv_iretZ X rfl rfl dX15_isOrder_273
noncomputable def b_X15_isOrder_218 (x3 : Int) (h : HP) : Option ((Int) × HP) :=
  iIN x3
    (if x3 = 0 then
      b_X15_isOrder_273 1 h
    else
    if x3 = 1 then
      b_X15_isOrder_273 1 h
    else
    if x3 = 2 then
      b_X15_isOrder_273 1 h
    else
    if x3 = 3 then
      b_X15_isOrder_273 1 h
    else
    if x3 = 4 then
      b_X15_isOrder_273 1 h
    else
    if x3 = 5 then
      b_X15_isOrder_273 1 h
    else
    if x3 = 6 then
      b_X15_isOrder_273 1 h
    else
    if x3 = 7 then
      b_X15_isOrder_273 1 h
    else
    if x3 = 8 then
      b_X15_isOrder_273 1 h
    else
    b_X15_isOrder_273 0 h)
theorem B_X15_isOrder_218 {M : hp_M} {G : va_G} {h0 : HP} (X : hp_X M G h0 "RenamedWords$ScriptReader" "isOrder" cX15_isOrder 4 (some .boolean) [] 4 122) (x3 : Int) (h : HP) : vv M G h0 4 (hp_End M G h0) jI h 218 [(3, LI x3)] [] (b_X15_isOrder_218 x3 h) := by
  unfold b_X15_isOrder_218
  refine vv_iload_n (pc := 218) X (kf := 3) (i := 3) rfl 0 rfl dX15_isOrder_218 ?_
  refine vv_iIN (fun hr => ?_)
  refine vv_if (fun e0 => ?_) (fun e0 => ?_)
  · refine vv_tsw (pc := 219) (off := 49) (tgt := 268) X dX15_isOrder_219 hr (by omega) (by omega) (by rw [e0]; rfl) rfl ?_
    refine vv_iconst (pc := 268) X dX15_isOrder_268 ?_
    refine vv_goto (pc := 269) (tgt := 273) X dX15_isOrder_269 rfl ?_
    exact vv_sub [] (by rfl) (B_X15_isOrder_273 X _ _)
  refine vv_if (fun e1 => ?_) (fun e1 => ?_)
  · refine vv_tsw (pc := 219) (off := 49) (tgt := 268) X dX15_isOrder_219 hr (by omega) (by omega) (by rw [e1]; rfl) rfl ?_
    refine vv_iconst (pc := 268) X dX15_isOrder_268 ?_
    refine vv_goto (pc := 269) (tgt := 273) X dX15_isOrder_269 rfl ?_
    exact vv_sub [] (by rfl) (B_X15_isOrder_273 X _ _)
  refine vv_if (fun e2 => ?_) (fun e2 => ?_)
  · refine vv_tsw (pc := 219) (off := 49) (tgt := 268) X dX15_isOrder_219 hr (by omega) (by omega) (by rw [e2]; rfl) rfl ?_
    refine vv_iconst (pc := 268) X dX15_isOrder_268 ?_
    refine vv_goto (pc := 269) (tgt := 273) X dX15_isOrder_269 rfl ?_
    exact vv_sub [] (by rfl) (B_X15_isOrder_273 X _ _)
  refine vv_if (fun e3 => ?_) (fun e3 => ?_)
  · refine vv_tsw (pc := 219) (off := 49) (tgt := 268) X dX15_isOrder_219 hr (by omega) (by omega) (by rw [e3]; rfl) rfl ?_
    refine vv_iconst (pc := 268) X dX15_isOrder_268 ?_
    refine vv_goto (pc := 269) (tgt := 273) X dX15_isOrder_269 rfl ?_
    exact vv_sub [] (by rfl) (B_X15_isOrder_273 X _ _)
  refine vv_if (fun e4 => ?_) (fun e4 => ?_)
  · refine vv_tsw (pc := 219) (off := 49) (tgt := 268) X dX15_isOrder_219 hr (by omega) (by omega) (by rw [e4]; rfl) rfl ?_
    refine vv_iconst (pc := 268) X dX15_isOrder_268 ?_
    refine vv_goto (pc := 269) (tgt := 273) X dX15_isOrder_269 rfl ?_
    exact vv_sub [] (by rfl) (B_X15_isOrder_273 X _ _)
  refine vv_if (fun e5 => ?_) (fun e5 => ?_)
  · refine vv_tsw (pc := 219) (off := 49) (tgt := 268) X dX15_isOrder_219 hr (by omega) (by omega) (by rw [e5]; rfl) rfl ?_
    refine vv_iconst (pc := 268) X dX15_isOrder_268 ?_
    refine vv_goto (pc := 269) (tgt := 273) X dX15_isOrder_269 rfl ?_
    exact vv_sub [] (by rfl) (B_X15_isOrder_273 X _ _)
  refine vv_if (fun e6 => ?_) (fun e6 => ?_)
  · refine vv_tsw (pc := 219) (off := 49) (tgt := 268) X dX15_isOrder_219 hr (by omega) (by omega) (by rw [e6]; rfl) rfl ?_
    refine vv_iconst (pc := 268) X dX15_isOrder_268 ?_
    refine vv_goto (pc := 269) (tgt := 273) X dX15_isOrder_269 rfl ?_
    exact vv_sub [] (by rfl) (B_X15_isOrder_273 X _ _)
  refine vv_if (fun e7 => ?_) (fun e7 => ?_)
  · refine vv_tsw (pc := 219) (off := 49) (tgt := 268) X dX15_isOrder_219 hr (by omega) (by omega) (by rw [e7]; rfl) rfl ?_
    refine vv_iconst (pc := 268) X dX15_isOrder_268 ?_
    refine vv_goto (pc := 269) (tgt := 273) X dX15_isOrder_269 rfl ?_
    exact vv_sub [] (by rfl) (B_X15_isOrder_273 X _ _)
  refine vv_if (fun e8 => ?_) (fun e8 => ?_)
  · refine vv_tsw (pc := 219) (off := 49) (tgt := 268) X dX15_isOrder_219 hr (by omega) (by omega) (by rw [e8]; rfl) rfl ?_
    refine vv_iconst (pc := 268) X dX15_isOrder_268 ?_
    refine vv_goto (pc := 269) (tgt := 273) X dX15_isOrder_269 rfl ?_
    exact vv_sub [] (by rfl) (B_X15_isOrder_273 X _ _)
  refine vv_tswD (pc := 219) (tgt := 272) X dX15_isOrder_219 hr (by omega) rfl ?_
  refine vv_iconst (pc := 272) X dX15_isOrder_272 ?_
  exact vv_sub [] (by rfl) (B_X15_isOrder_273 X _ _)
noncomputable def f_X15_isOrder (a0 : Nat) (a1 : Option Nat) (h : HP) : Option ((Int) × HP) :=
  (rcv h a1 [26]).bind fun b3 =>
  hb (f_J11_hashCode b3 h) fun v1 h2 =>
  iIN v1
    (if v1 = (-1183792455) then
      (rcv h2 a1 [26]).bind fun b7 =>
      hb (f_J11_equals b7 (hp_c h2 9) h2) fun v5 h6 =>
      iEQ v5 0
        (b_X15_isOrder_218 (-1) h6)
        (b_X15_isOrder_218 1 h6)
    else
    if v1 = (-840425242) then
      (rcv h2 a1 [26]).bind fun b11 =>
      hb (f_J11_equals b11 (hp_c h2 12) h2) fun v9 h10 =>
      iEQ v9 0
        (b_X15_isOrder_218 (-1) h10)
        (b_X15_isOrder_218 4 h10)
    else
    if v1 = 111375 then
      (rcv h2 a1 [26]).bind fun b15 =>
      hb (f_J11_equals b15 (hp_c h2 8) h2) fun v13 h14 =>
      iEQ v13 0
        (b_X15_isOrder_218 (-1) h14)
        (b_X15_isOrder_218 0 h14)
    else
    if v1 = 3143230 then
      (rcv h2 a1 [26]).bind fun b19 =>
      hb (f_J11_equals b19 (hp_c h2 15) h2) fun v17 h18 =>
      iEQ v17 0
        (b_X15_isOrder_218 (-1) h18)
        (b_X15_isOrder_218 7 h18)
    else
    if v1 = 3344077 then
      (rcv h2 a1 [26]).bind fun b23 =>
      hb (f_J11_equals b23 (hp_c h2 11) h2) fun v21 h22 =>
      iEQ v21 0
        (b_X15_isOrder_218 (-1) h22)
        (b_X15_isOrder_218 3 h22)
    else
    if v1 = 3543443 then
      (rcv h2 a1 [26]).bind fun b27 =>
      hb (f_J11_equals b27 (hp_c h2 13) h2) fun v25 h26 =>
      iEQ v25 0
        (b_X15_isOrder_218 (-1) h26)
        (b_X15_isOrder_218 5 h26)
    else
    if v1 = 3552391 then
      (rcv h2 a1 [26]).bind fun b31 =>
      hb (f_J11_equals b31 (hp_c h2 14) h2) fun v29 h30 =>
      iEQ v29 0
        (b_X15_isOrder_218 (-1) h30)
        (b_X15_isOrder_218 6 h30)
    else
    if v1 = 92746592 then
      (rcv h2 a1 [26]).bind fun b35 =>
      hb (f_J11_equals b35 (hp_c h2 16) h2) fun v33 h34 =>
      iEQ v33 0
        (b_X15_isOrder_218 (-1) h34)
        (b_X15_isOrder_218 8 h34)
    else
    if v1 = 96768678 then
      (rcv h2 a1 [26]).bind fun b39 =>
      hb (f_J11_equals b39 (hp_c h2 10) h2) fun v37 h38 =>
      iEQ v37 0
        (b_X15_isOrder_218 (-1) h38)
        (b_X15_isOrder_218 2 h38)
    else
    b_X15_isOrder_218 (-1) h2)
theorem A_X15_isOrder {M : hp_M} {G : va_G} {h0 : HP} (X : hp_X M G h0 "RenamedWords$ScriptReader" "isOrder" cX15_isOrder 4 (some .boolean) [] 4 122) (a0 : Nat) (a1 : Option Nat) (h : HP) : vv M G h0 4 (hp_End M G h0) jI h 0 [(0, LR (some a0)), (1, LR a1)] [] (f_X15_isOrder a0 a1 h) := by
  unfold f_X15_isOrder
  refine vv_aload_n (pc := 0) X (kf := 1) (i := 1) rfl 1 rfl dX15_isOrder_0 ?_
  refine vv_astore_n (pc := 1) (lv' := [(2, LR a1), (0, LR (some a0)), (1, LR a1)]) X (kf := 2) (i := 2) rfl (by decide) rfl dX15_isOrder_1 ?_
  refine vv_iconst (pc := 2) X dX15_isOrder_2 ?_
  refine vv_istore_n (pc := 3) (lv' := [(3, LI (-1)), (2, LR a1), (0, LR (some a0)), (1, LR a1)]) X (kf := 3) (i := 3) rfl (by decide) rfl dX15_isOrder_3 ?_
  refine vv_aload_n (pc := 4) X (kf := 2) (i := 2) rfl 1 rfl dX15_isOrder_4 ?_
  refine vv_rcv (fun b3 t9 c9 fs9 e4 g9 k9 => ?_)
  cases List.mem_singleton.mp k9
  refine vv_callI (pc := 5) (rest := []) (by rw [e4]; rfl) (fun r8 k8 e8 => zz_callV X (m_J11_hashCode (hlM X) _ _ _ _ e8) g9 rfl rfl q1914 q1051 q1052 q146 q1053 nh_J11 rfl (by decide) (by decide) (Nat.le_of_ble_eq_true rfl) dX15_isOrder_5) (fun v1 h2 => ?_)
  refine vv_iIN (fun hr => ?_)
  refine vv_if (fun e0 => ?_) (fun e0 => ?_)
  · refine vv_lsw (pc := 8) (off := 98) (tgt := 106) X dX15_isOrder_8 hr (by decide +kernel) (by rw [e0]; rfl) rfl ?_
    refine vv_aload_n (pc := 106) X (kf := 2) (i := 2) rfl 1 rfl dX15_isOrder_106 ?_
    refine vv_ldcS (pc := 107) (i := 9) X (List.mem_of_getElem? (i := 9) rfl) dX15_isOrder_107 ?_
    refine vv_rcv (fun b7 t9 c9 fs9 e8 g9 k9 => ?_)
    cases List.mem_singleton.mp k9
    refine vv_callI (pc := 109) (rest := []) (by rw [e8]; rfl) (fun r8 k8 e8 => zz_callV X (m_J11_equals (hlM X) _ _ _ _ _ e8) g9 rfl rfl q1916 q957 q958 q146 q959 nh_J11 rfl (by decide) (by decide) (Nat.le_of_ble_eq_true rfl) dX15_isOrder_109) (fun v5 h6 => ?_)
    refine vv_if_eq (pc := 112) (tgt := 218) X dX15_isOrder_112 rfl ?_ ?_
    · exact vv_sub [0] (by rfl) (B_X15_isOrder_218 X _ _)
    · refine vv_iconst (pc := 115) X dX15_isOrder_115 ?_
      refine vv_istore_n (pc := 116) (lv' := [(3, LI 1), (2, LR a1), (0, LR (some a0)), (1, LR a1)]) X (kf := 3) (i := 3) rfl (by decide) rfl dX15_isOrder_116 ?_
      refine vv_goto (pc := 117) (tgt := 218) X dX15_isOrder_117 rfl ?_
      exact vv_sub [0] (by rfl) (B_X15_isOrder_218 X _ _)
  refine vv_if (fun e1 => ?_) (fun e1 => ?_)
  · refine vv_lsw (pc := 8) (off := 140) (tgt := 148) X dX15_isOrder_8 hr (by decide +kernel) (by rw [e1]; rfl) rfl ?_
    refine vv_aload_n (pc := 148) X (kf := 2) (i := 2) rfl 1 rfl dX15_isOrder_148 ?_
    refine vv_ldcS (pc := 149) (i := 12) X (List.mem_of_getElem? (i := 12) rfl) dX15_isOrder_149 ?_
    refine vv_rcv (fun b11 t9 c9 fs9 e12 g9 k9 => ?_)
    cases List.mem_singleton.mp k9
    refine vv_callI (pc := 151) (rest := []) (by rw [e12]; rfl) (fun r8 k8 e8 => zz_callV X (m_J11_equals (hlM X) _ _ _ _ _ e8) g9 rfl rfl q1916 q957 q958 q146 q959 nh_J11 rfl (by decide) (by decide) (Nat.le_of_ble_eq_true rfl) dX15_isOrder_151) (fun v9 h10 => ?_)
    refine vv_if_eq (pc := 154) (tgt := 218) X dX15_isOrder_154 rfl ?_ ?_
    · exact vv_sub [0] (by rfl) (B_X15_isOrder_218 X _ _)
    · refine vv_iconst (pc := 157) X dX15_isOrder_157 ?_
      refine vv_istore_n (pc := 158) (lv' := [(3, LI 4), (2, LR a1), (0, LR (some a0)), (1, LR a1)]) X (kf := 3) (i := 3) rfl (by decide) rfl dX15_isOrder_158 ?_
      refine vv_goto (pc := 159) (tgt := 218) X dX15_isOrder_159 rfl ?_
      exact vv_sub [0] (by rfl) (B_X15_isOrder_218 X _ _)
  refine vv_if (fun e2 => ?_) (fun e2 => ?_)
  · refine vv_lsw (pc := 8) (off := 84) (tgt := 92) X dX15_isOrder_8 hr (by decide +kernel) (by rw [e2]; rfl) rfl ?_
    refine vv_aload_n (pc := 92) X (kf := 2) (i := 2) rfl 1 rfl dX15_isOrder_92 ?_
    refine vv_ldcS (pc := 93) (i := 8) X (List.mem_of_getElem? (i := 8) rfl) dX15_isOrder_93 ?_
    refine vv_rcv (fun b15 t9 c9 fs9 e16 g9 k9 => ?_)
    cases List.mem_singleton.mp k9
    refine vv_callI (pc := 95) (rest := []) (by rw [e16]; rfl) (fun r8 k8 e8 => zz_callV X (m_J11_equals (hlM X) _ _ _ _ _ e8) g9 rfl rfl q1916 q957 q958 q146 q959 nh_J11 rfl (by decide) (by decide) (Nat.le_of_ble_eq_true rfl) dX15_isOrder_95) (fun v13 h14 => ?_)
    refine vv_if_eq (pc := 98) (tgt := 218) X dX15_isOrder_98 rfl ?_ ?_
    · exact vv_sub [0] (by rfl) (B_X15_isOrder_218 X _ _)
    · refine vv_iconst (pc := 101) X dX15_isOrder_101 ?_
      refine vv_istore_n (pc := 102) (lv' := [(3, LI 0), (2, LR a1), (0, LR (some a0)), (1, LR a1)]) X (kf := 3) (i := 3) rfl (by decide) rfl dX15_isOrder_102 ?_
      refine vv_goto (pc := 103) (tgt := 218) X dX15_isOrder_103 rfl ?_
      exact vv_sub [0] (by rfl) (B_X15_isOrder_218 X _ _)
  refine vv_if (fun e3 => ?_) (fun e3 => ?_)
  · refine vv_lsw (pc := 8) (off := 183) (tgt := 191) X dX15_isOrder_8 hr (by decide +kernel) (by rw [e3]; rfl) rfl ?_
    refine vv_aload_n (pc := 191) X (kf := 2) (i := 2) rfl 1 rfl dX15_isOrder_191 ?_
    refine vv_ldcS (pc := 192) (i := 15) X (List.mem_of_getElem? (i := 15) rfl) dX15_isOrder_192 ?_
    refine vv_rcv (fun b19 t9 c9 fs9 e20 g9 k9 => ?_)
    cases List.mem_singleton.mp k9
    refine vv_callI (pc := 194) (rest := []) (by rw [e20]; rfl) (fun r8 k8 e8 => zz_callV X (m_J11_equals (hlM X) _ _ _ _ _ e8) g9 rfl rfl q1916 q957 q958 q146 q959 nh_J11 rfl (by decide) (by decide) (Nat.le_of_ble_eq_true rfl) dX15_isOrder_194) (fun v17 h18 => ?_)
    refine vv_if_eq (pc := 197) (tgt := 218) X dX15_isOrder_197 rfl ?_ ?_
    · exact vv_sub [0] (by rfl) (B_X15_isOrder_218 X _ _)
    · refine vv_bipush (pc := 200) X (by decide) dX15_isOrder_200 ?_
      refine vv_istore_n (pc := 202) (lv' := [(3, LI 7), (2, LR a1), (0, LR (some a0)), (1, LR a1)]) X (kf := 3) (i := 3) rfl (by decide) rfl dX15_isOrder_202 ?_
      refine vv_goto (pc := 203) (tgt := 218) X dX15_isOrder_203 rfl ?_
      exact vv_sub [0] (by rfl) (B_X15_isOrder_218 X _ _)
  refine vv_if (fun e4 => ?_) (fun e4 => ?_)
  · refine vv_lsw (pc := 8) (off := 126) (tgt := 134) X dX15_isOrder_8 hr (by decide +kernel) (by rw [e4]; rfl) rfl ?_
    refine vv_aload_n (pc := 134) X (kf := 2) (i := 2) rfl 1 rfl dX15_isOrder_134 ?_
    refine vv_ldcS (pc := 135) (i := 11) X (List.mem_of_getElem? (i := 11) rfl) dX15_isOrder_135 ?_
    refine vv_rcv (fun b23 t9 c9 fs9 e24 g9 k9 => ?_)
    cases List.mem_singleton.mp k9
    refine vv_callI (pc := 137) (rest := []) (by rw [e24]; rfl) (fun r8 k8 e8 => zz_callV X (m_J11_equals (hlM X) _ _ _ _ _ e8) g9 rfl rfl q1916 q957 q958 q146 q959 nh_J11 rfl (by decide) (by decide) (Nat.le_of_ble_eq_true rfl) dX15_isOrder_137) (fun v21 h22 => ?_)
    refine vv_if_eq (pc := 140) (tgt := 218) X dX15_isOrder_140 rfl ?_ ?_
    · exact vv_sub [0] (by rfl) (B_X15_isOrder_218 X _ _)
    · refine vv_iconst (pc := 143) X dX15_isOrder_143 ?_
      refine vv_istore_n (pc := 144) (lv' := [(3, LI 3), (2, LR a1), (0, LR (some a0)), (1, LR a1)]) X (kf := 3) (i := 3) rfl (by decide) rfl dX15_isOrder_144 ?_
      refine vv_goto (pc := 145) (tgt := 218) X dX15_isOrder_145 rfl ?_
      exact vv_sub [0] (by rfl) (B_X15_isOrder_218 X _ _)
  refine vv_if (fun e5 => ?_) (fun e5 => ?_)
  · refine vv_lsw (pc := 8) (off := 154) (tgt := 162) X dX15_isOrder_8 hr (by decide +kernel) (by rw [e5]; rfl) rfl ?_
    refine vv_aload_n (pc := 162) X (kf := 2) (i := 2) rfl 1 rfl dX15_isOrder_162 ?_
    refine vv_ldcS (pc := 163) (i := 13) X (List.mem_of_getElem? (i := 13) rfl) dX15_isOrder_163 ?_
    refine vv_rcv (fun b27 t9 c9 fs9 e28 g9 k9 => ?_)
    cases List.mem_singleton.mp k9
    refine vv_callI (pc := 165) (rest := []) (by rw [e28]; rfl) (fun r8 k8 e8 => zz_callV X (m_J11_equals (hlM X) _ _ _ _ _ e8) g9 rfl rfl q1916 q957 q958 q146 q959 nh_J11 rfl (by decide) (by decide) (Nat.le_of_ble_eq_true rfl) dX15_isOrder_165) (fun v25 h26 => ?_)
    refine vv_if_eq (pc := 168) (tgt := 218) X dX15_isOrder_168 rfl ?_ ?_
    · exact vv_sub [0] (by rfl) (B_X15_isOrder_218 X _ _)
    · refine vv_iconst (pc := 171) X dX15_isOrder_171 ?_
      refine vv_istore_n (pc := 172) (lv' := [(3, LI 5), (2, LR a1), (0, LR (some a0)), (1, LR a1)]) X (kf := 3) (i := 3) rfl (by decide) rfl dX15_isOrder_172 ?_
      refine vv_goto (pc := 173) (tgt := 218) X dX15_isOrder_173 rfl ?_
      exact vv_sub [0] (by rfl) (B_X15_isOrder_218 X _ _)
  refine vv_if (fun e6 => ?_) (fun e6 => ?_)
  · refine vv_lsw (pc := 8) (off := 168) (tgt := 176) X dX15_isOrder_8 hr (by decide +kernel) (by rw [e6]; rfl) rfl ?_
    refine vv_aload_n (pc := 176) X (kf := 2) (i := 2) rfl 1 rfl dX15_isOrder_176 ?_
    refine vv_ldcS (pc := 177) (i := 14) X (List.mem_of_getElem? (i := 14) rfl) dX15_isOrder_177 ?_
    refine vv_rcv (fun b31 t9 c9 fs9 e32 g9 k9 => ?_)
    cases List.mem_singleton.mp k9
    refine vv_callI (pc := 179) (rest := []) (by rw [e32]; rfl) (fun r8 k8 e8 => zz_callV X (m_J11_equals (hlM X) _ _ _ _ _ e8) g9 rfl rfl q1916 q957 q958 q146 q959 nh_J11 rfl (by decide) (by decide) (Nat.le_of_ble_eq_true rfl) dX15_isOrder_179) (fun v29 h30 => ?_)
    refine vv_if_eq (pc := 182) (tgt := 218) X dX15_isOrder_182 rfl ?_ ?_
    · exact vv_sub [0] (by rfl) (B_X15_isOrder_218 X _ _)
    · refine vv_bipush (pc := 185) X (by decide) dX15_isOrder_185 ?_
      refine vv_istore_n (pc := 187) (lv' := [(3, LI 6), (2, LR a1), (0, LR (some a0)), (1, LR a1)]) X (kf := 3) (i := 3) rfl (by decide) rfl dX15_isOrder_187 ?_
      refine vv_goto (pc := 188) (tgt := 218) X dX15_isOrder_188 rfl ?_
      exact vv_sub [0] (by rfl) (B_X15_isOrder_218 X _ _)
  refine vv_if (fun e7 => ?_) (fun e7 => ?_)
  · refine vv_lsw (pc := 8) (off := 198) (tgt := 206) X dX15_isOrder_8 hr (by decide +kernel) (by rw [e7]; rfl) rfl ?_
    refine vv_aload_n (pc := 206) X (kf := 2) (i := 2) rfl 1 rfl dX15_isOrder_206 ?_
    refine vv_ldcS (pc := 207) (i := 16) X (List.mem_of_getElem? (i := 16) rfl) dX15_isOrder_207 ?_
    refine vv_rcv (fun b35 t9 c9 fs9 e36 g9 k9 => ?_)
    cases List.mem_singleton.mp k9
    refine vv_callI (pc := 209) (rest := []) (by rw [e36]; rfl) (fun r8 k8 e8 => zz_callV X (m_J11_equals (hlM X) _ _ _ _ _ e8) g9 rfl rfl q1916 q957 q958 q146 q959 nh_J11 rfl (by decide) (by decide) (Nat.le_of_ble_eq_true rfl) dX15_isOrder_209) (fun v33 h34 => ?_)
    refine vv_if_eq (pc := 212) (tgt := 218) X dX15_isOrder_212 rfl ?_ ?_
    · exact vv_sub [0] (by rfl) (B_X15_isOrder_218 X _ _)
    · refine vv_bipush (pc := 215) X (by decide) dX15_isOrder_215 ?_
      refine vv_istore_n (pc := 217) (lv' := [(3, LI 8), (2, LR a1), (0, LR (some a0)), (1, LR a1)]) X (kf := 3) (i := 3) rfl (by decide) rfl dX15_isOrder_217 ?_
      exact vv_sub [0] (by rfl) (B_X15_isOrder_218 X _ _)
  refine vv_if (fun e8 => ?_) (fun e8 => ?_)
  · refine vv_lsw (pc := 8) (off := 112) (tgt := 120) X dX15_isOrder_8 hr (by decide +kernel) (by rw [e8]; rfl) rfl ?_
    refine vv_aload_n (pc := 120) X (kf := 2) (i := 2) rfl 1 rfl dX15_isOrder_120 ?_
    refine vv_ldcS (pc := 121) (i := 10) X (List.mem_of_getElem? (i := 10) rfl) dX15_isOrder_121 ?_
    refine vv_rcv (fun b39 t9 c9 fs9 e40 g9 k9 => ?_)
    cases List.mem_singleton.mp k9
    refine vv_callI (pc := 123) (rest := []) (by rw [e40]; rfl) (fun r8 k8 e8 => zz_callV X (m_J11_equals (hlM X) _ _ _ _ _ e8) g9 rfl rfl q1916 q957 q958 q146 q959 nh_J11 rfl (by decide) (by decide) (Nat.le_of_ble_eq_true rfl) dX15_isOrder_123) (fun v37 h38 => ?_)
    refine vv_if_eq (pc := 126) (tgt := 218) X dX15_isOrder_126 rfl ?_ ?_
    · exact vv_sub [0] (by rfl) (B_X15_isOrder_218 X _ _)
    · refine vv_iconst (pc := 129) X dX15_isOrder_129 ?_
      refine vv_istore_n (pc := 130) (lv' := [(3, LI 2), (2, LR a1), (0, LR (some a0)), (1, LR a1)]) X (kf := 3) (i := 3) rfl (by decide) rfl dX15_isOrder_130 ?_
      refine vv_goto (pc := 131) (tgt := 218) X dX15_isOrder_131 rfl ?_
      exact vv_sub [0] (by rfl) (B_X15_isOrder_218 X _ _)
  refine vv_lsw (pc := 8) (off := 210) (tgt := 218) X dX15_isOrder_8 hr (by decide +kernel) (by simp [Op.lookupswitch.offset, Ne.symm e0, Ne.symm e1, Ne.symm e2, Ne.symm e3, Ne.symm e4, Ne.symm e5, Ne.symm e6, Ne.symm e7, Ne.symm e8]) rfl ?_
  exact vv_sub [0] (by rfl) (B_X15_isOrder_218 X _ _)
theorem m_X15_isOrder {l : Launch} (hl : l.stackTraces = false) {G : va_G} (a0 : Nat) (a1 : Option Nat) (h : HP) : ∀ r hf, f_X15_isOrder a0 a1 h = some (r, hf) → Ct l yX15_isOrder (ws_ yX15_isOrder cX15_isOrder 4 (some .boolean)) 4 122 G h [.ref a0, va_rf a1] (jI r) hf :=
  zz_ofW hl (by decide +kernel) (lv := [(0, LR (some a0)), (1, LR a1)]) (by simp [lv_args, lvL, lvV, zz_rfc, zz_rfs, zz_ci, zz_cr, zz_cj, zz_cf, zz_cd]) (by simp [lg_sl, zz_rfc, zz_ci, zz_cr, zz_cj, zz_cf, zz_cd]) (fun _ X => A_X15_isOrder X a0 a1 h)
-- X10_place RenamedWords$Reader.place()I
noncomputable def f_X10_place (a0 : Nat) (h : HP) : Option ((Nat ⊕ Int) × HP) :=
  (rcv h (some a0) [8, 12]).bind fun b3 =>
  hbx (f_X10_number b3 0 200 h) (fun q5 h6 =>
      some (.inl q5, h6)) fun v1 h2 =>
  some (.inr v1, h2)
theorem A_X10_place {M : hp_M} {G : va_G} {h0 : HP} (X : hp_X M G h0 "RenamedWords$Reader" "place" cX10_place 1 (some .int) [] 8 312) (a0 : Nat) (h : HP) : vv M G h0 1 (hp_End M G h0) xI h 0 [(0, LR (some a0))] [] (f_X10_place a0 h) := by
  unfold f_X10_place
  refine vv_aload_n (pc := 0) X (kf := 0) (i := 0) rfl 0 rfl dX10_place_0 ?_
  refine vv_iconst (pc := 1) X dX10_place_1 ?_
  refine vv_sipush (pc := 2) X (by decide) dX10_place_2 ?_
  refine vv_rcv (fun b3 t9 c9 fs9 e4 g9 k9 => ?_)
  refine vv_xallI (pc := 5) (stv := [.int (iI 0), .int (iI 200)].reverse ++ .ref b3 :: List.map lvV []) (rest := []) (by rw [e4]; rfl) (fun r8 k8 e8 => by
      rcases List.mem_cons.mp k9 with rfl | k9
      · exact zz_callW X (m_X10_number (hlM X) _ _ _ _ _ _ e8) g9 rfl q1937 q1813 q4104 q165 q1814 nh_X10 rfl (by decide) (by decide) (Nat.le_of_ble_eq_true rfl) dX10_place_5
      cases List.mem_singleton.mp k9
      exact zz_callW X (m_X10_number (hlM X) _ _ _ _ _ _ e8) g9 rfl q1937 q1813 q4103 q165 q1814 nh_X10 rfl (by decide) (by decide) (Nat.le_of_ble_eq_true rfl) dX10_place_5) (fun v1 h2 => ?_) (fun q5 h6 => ?_)
  · exact vv_iretI X rfl rfl dX10_place_8
  · exact vvx_out X (by decide) rfl
theorem m_X10_place {l : Launch} (hl : l.stackTraces = false) {G : va_G} (a0 : Nat) (h : HP) : ∀ r hf, f_X10_place a0 h = some (r, hf) → Ct l yX10_place (ws_ yX10_place cX10_place 1 (some .int)) 8 312 G h [.ref a0] (xI r) hf :=
  zz_ofW hl (by decide +kernel) (lv := [(0, LR (some a0))]) (by simp [lv_args, lvL, lvV, zz_rfc, zz_rfs, zz_ci, zz_cr, zz_cj, zz_cf, zz_cd]) (by simp [lg_sl, zz_rfc, zz_ci, zz_cr, zz_cj, zz_cf, zz_cd]) (fun _ X => A_X10_place X a0 h)
-- X18_init RenamedWords$Deed.<init>(LRenamedWords;)V
noncomputable def f_X18_init (a0 : Nat) (a1 : Option Nat) (h : HP) : Option ((Unit) × HP) :=
  (wrR h (some a0) [14, 15, 16, 17, 18, 19, 20] 0 a1).bind fun h1 =>
  hb (f_X16_init a0 h1) fun _ h3 =>
  some ((), h3)
theorem A_X18_init {M : hp_M} {G : va_G} {h0 : HP} (X : hp_X M G h0 "RenamedWords$Deed" "<init>" cX18_init 2 none [] 2 56) (a0 : Nat) (a1 : Option Nat) (h : HP) : vv M G h0 2 (hp_End M G h0) jV h 0 [(0, LR (some a0)), (1, LR a1)] [] (f_X18_init a0 a1 h) := by
  unfold f_X18_init
  refine vv_aload_n (pc := 0) X (kf := 0) (i := 0) rfl 0 rfl dX18_init_0 ?_
  refine vv_aload_n (pc := 1) X (kf := 1) (i := 1) rfl 1 rfl dX18_init_1 ?_
  refine vv_putR (pc := 2) (ty9 := (.object "RenamedWords")) (fin := true) X (fun _ z => by rcases List.mem_cons.mp z with rfl | z; exact fl_X18_3_14; rcases List.mem_cons.mp z with rfl | z; exact fl_X18_3_15; rcases List.mem_cons.mp z with rfl | z; exact fl_X18_3_16; rcases List.mem_cons.mp z with rfl | z; exact fl_X18_3_17; rcases List.mem_cons.mp z with rfl | z; exact fl_X18_3_18; rcases List.mem_cons.mp z with rfl | z; exact fl_X18_3_19; cases List.mem_singleton.mp z; exact fl_X18_3_20) (fun _ => rfl) (fun _ => (fun _ z => by rcases List.mem_cons.mp z with rfl | z; exact ⟨_, rfl, rfl⟩; rcases List.mem_cons.mp z with rfl | z; exact ⟨_, rfl, rfl⟩; rcases List.mem_cons.mp z with rfl | z; exact ⟨_, rfl, rfl⟩; rcases List.mem_cons.mp z with rfl | z; exact ⟨_, rfl, rfl⟩; rcases List.mem_cons.mp z with rfl | z; exact ⟨_, rfl, rfl⟩; rcases List.mem_cons.mp z with rfl | z; exact ⟨_, rfl, rfl⟩; cases List.mem_singleton.mp z; exact ⟨_, rfl, rfl⟩)) (by decide +kernel) rfl dX18_init_2 (fun h1 => ?_)
  refine vv_aload_n (pc := 5) X (kf := 0) (i := 0) rfl 0 rfl dX18_init_5 ?_
  refine vv_callV (pc := 6) (rest := []) (by rfl) (fun r8 k8 e8 => zz_callIN X (m_X16_init (hlM X) _ _ _ _ e8) q1953 q1884 q181 q1885 rfl nh_X16 rfl (by decide) (by decide) (Nat.le_of_ble_eq_true rfl) dX18_init_6) (fun v2 h3 => ?_)
  exact vv_vreturn X rfl rfl dX18_init_9
theorem m_X18_init {l : Launch} (hl : l.stackTraces = false) {G : va_G} (a0 : Nat) (a1 : Option Nat) (h : HP) : ∀ r hf, f_X18_init a0 a1 h = some (r, hf) → Ct l yX18_init (ws_ yX18_init cX18_init 2 none) 2 56 G h [.ref a0, va_rf a1] (jV r) hf :=
  zz_ofW hl (by decide +kernel) (lv := [(0, LR (some a0)), (1, LR a1)]) (by simp [lv_args, lvL, lvV, zz_rfc, zz_rfs, zz_ci, zz_cr, zz_cj, zz_cf, zz_cd]) (by simp [lg_sl, zz_rfc, zz_ci, zz_cr, zz_cj, zz_cf, zz_cd]) (fun _ X => A_X18_init X a0 a1 h)
-- X19_init RenamedWords$ScriptReader$1.<init>(LRenamedWords$ScriptReader;[IZI)V
noncomputable def f_X19_init (a0 : Nat) (a1 : Option Nat) (a2 : Option Nat) (a3 : Int) (a4 : Int) (h : HP) : Option ((Unit) × HP) :=
  (wrR h (some a0) [14] 4 a1).bind fun h1 =>
  (wrR h1 (some a0) [14] 1 a2).bind fun h2 =>
  (wrZ h2 (some a0) [14] 2 a3).bind fun h3 =>
  (wrI h3 (some a0) [14] 3 a4).bind fun h4 =>
  (rdR h4 a1 [12] 9).bind fun v5 =>
  hb (f_X18_init a0 v5 h4) fun _ h7 =>
  some ((), h7)
theorem A_X19_init {M : hp_M} {G : va_G} {h0 : HP} (X : hp_X M G h0 "RenamedWords$ScriptReader$1" "<init>" cX19_init 5 none [] 3 85) (a0 : Nat) (a1 : Option Nat) (a2 : Option Nat) (a3 : Int) (a4 : Int) (h : HP) : vv M G h0 5 (hp_End M G h0) jV h 0 [(0, LR (some a0)), (1, LR a1), (2, LR a2), (3, LI a3), (4, LI a4)] [] (f_X19_init a0 a1 a2 a3 a4 h) := by
  unfold f_X19_init
  refine vv_aload_n (pc := 0) X (kf := 0) (i := 0) rfl 0 rfl dX19_init_0 ?_
  refine vv_aload_n (pc := 1) X (kf := 1) (i := 1) rfl 1 rfl dX19_init_1 ?_
  refine vv_putR (pc := 2) (ty9 := (.object "RenamedWords$ScriptReader")) (fin := true) X (fun _ z => by cases List.mem_singleton.mp z; exact fl_X19_1_14) (fun _ => rfl) (fun _ => (fun _ z => by cases List.mem_singleton.mp z; exact ⟨_, rfl, rfl⟩)) (by decide +kernel) rfl dX19_init_2 (fun h1 => ?_)
  refine vv_aload_n (pc := 5) X (kf := 0) (i := 0) rfl 0 rfl dX19_init_5 ?_
  refine vv_aload_n (pc := 6) X (kf := 2) (i := 2) rfl 2 rfl dX19_init_6 ?_
  refine vv_putR (pc := 7) (ty9 := (.array .int)) (fin := true) X (fun _ z => by cases List.mem_singleton.mp z; exact fl_X19_7_14) (fun _ => rfl) (fun _ => (fun _ z => by cases List.mem_singleton.mp z; exact ⟨_, rfl, rfl⟩)) (by decide +kernel) rfl dX19_init_7 (fun h2 => ?_)
  refine vv_aload_n (pc := 10) X (kf := 0) (i := 0) rfl 0 rfl dX19_init_10 ?_
  refine vv_iload_n (pc := 11) X (kf := 3) (i := 3) rfl 3 rfl dX19_init_11 ?_
  refine vv_putZ (pc := 12) (fin := true) X (fun _ z => by cases List.mem_singleton.mp z; exact fl_X19_11_14) (fun _ => rfl) (fun _ => (fun _ z => by cases List.mem_singleton.mp z; exact ⟨_, rfl, rfl⟩)) dX19_init_12 (fun h3 => ?_)
  refine vv_aload_n (pc := 15) X (kf := 0) (i := 0) rfl 0 rfl dX19_init_15 ?_
  refine vv_iload (pc := 16) X 4 rfl dX19_init_16 ?_
  refine vv_putI (pc := 18) (fin := true) X (fun _ z => by cases List.mem_singleton.mp z; exact fl_X19_15_14) (fun _ => rfl) (fun _ => (fun _ z => by cases List.mem_singleton.mp z; exact ⟨_, rfl, rfl⟩)) dX19_init_18 (fun h4 => ?_)
  refine vv_aload_n (pc := 21) X (kf := 0) (i := 0) rfl 0 rfl dX19_init_21 ?_
  refine vv_aload_n (pc := 22) X (kf := 1) (i := 1) rfl 1 rfl dX19_init_22 ?_
  refine vv_getR (pc := 23) X (fun _ z => by cases List.mem_singleton.mp z; exact fl_X19_19_12) dX19_init_23 (fun v5 => ?_)
  refine vv_callV (pc := 26) (rest := []) (by rfl) (fun r8 k8 e8 => zz_callIN X (m_X18_init (hlM X) _ _ _ _ _ e8) q1950 q1951 q183 q1952 rfl nh_X18 rfl (by decide) (by decide) (Nat.le_of_ble_eq_true rfl) dX19_init_26) (fun v6 h7 => ?_)
  exact vv_vreturn X rfl rfl dX19_init_29
theorem m_X19_init {l : Launch} (hl : l.stackTraces = false) {G : va_G} (a0 : Nat) (a1 : Option Nat) (a2 : Option Nat) (a3 : Int) (a4 : Int) (h : HP) : ∀ r hf, f_X19_init a0 a1 a2 a3 a4 h = some (r, hf) → Ct l yX19_init (ws_ yX19_init cX19_init 5 none) 3 85 G h [.ref a0, va_rf a1, va_rf a2, .int (iI a3), .int (iI a4)] (jV r) hf :=
  zz_ofW hl (by decide +kernel) (lv := [(0, LR (some a0)), (1, LR a1), (2, LR a2), (3, LI a3), (4, LI a4)]) (by simp [lv_args, lvL, lvV, zz_rfc, zz_rfs, zz_ci, zz_cr, zz_cj, zz_cf, zz_cd]) (by simp [lg_sl, zz_rfc, zz_ci, zz_cr, zz_cj, zz_cf, zz_cd]) (fun _ X => A_X19_init X a0 a1 a2 a3 a4 h)
-- X15_letter RenamedWords$ScriptReader.letter(IZ)LRenamedWords$Order;
noncomputable def f_X15_letter (a0 : Nat) (a1 : Int) (a2 : Int) (h : HP) : Option ((Nat ⊕ Option Nat) × HP) :=
  (rcv h (some a0) [12]).bind fun b3 =>
  hbx (f_X10_letters b3 h) (fun q5 h6 =>
      some (.inl q5, h6)) fun v1 h2 =>
  (rcv h2 (some a0) [12]).bind fun b9 =>
  hb (f_X10_next b9 h2) fun _ h8 =>
  hb (nwO h8 (tgR h8 (some a0)) 14 [.inr (.inl none), .inr (.inl none), .inl 0, .inl 0, .inr (.inl none)] 5) fun v11 h12 =>
  (v11).bind fun b15 =>
  hb (f_X19_init b15 (some a0) v1 a2 a1 h12) fun _ h14 =>
  some (.inr v11, h14)
theorem A_X15_letter {M : hp_M} {G : va_G} {h0 : HP} (X : hp_X M G h0 "RenamedWords$ScriptReader" "letter" cX15_letter 4 (some (.object "RenamedWords$Order")) [] 7 281) (a0 : Nat) (a1 : Int) (a2 : Int) (h : HP) : vv M G h0 4 (hp_End M G h0) xR h 0 [(0, LR (some a0)), (1, LI a1), (2, LI a2)] [] (f_X15_letter a0 a1 a2 h) := by
  unfold f_X15_letter
  refine vv_aload_n (pc := 0) X (kf := 0) (i := 0) rfl 0 rfl dX15_letter_0 ?_
  refine vv_rcv (fun b3 t9 c9 fs9 e4 g9 k9 => ?_)
  cases List.mem_singleton.mp k9
  refine vv_xallR (pc := 1) (rest := []) (by rw [e4]; rfl) (fun r8 k8 e8 => zz_callU X (m_X10_letters (hlM X) _ _ _ _ e8) g9 rfl q1942 q1943 (va_Decl.of (X.1.2.2.2.2 _ q1010) (X.1.2.2.2.2 _ q1011)) (by decide) q1010 q1944 q165 q1011 rfl (by decide) (by decide) (Nat.le_of_ble_eq_true rfl) dX15_letter_1) (fun v1 h2 => ?_) (fun q5 h6 => ?_)
  · refine vv_astore_n (pc := 4) (lv' := [(3, LR v1), (0, LR (some a0)), (1, LI a1), (2, LI a2)]) X (kf := 3) (i := 3) rfl (by decide) rfl dX15_letter_4 ?_
    refine vv_aload_n (pc := 5) X (kf := 0) (i := 0) rfl 1 rfl dX15_letter_5 ?_
    refine vv_rcv (fun b9 t9 c9 fs9 e10 g9 k9 => ?_)
    cases List.mem_singleton.mp k9
    refine vv_callV (pc := 6) (rest := []) (by rw [e10]; rfl) (fun r8 k8 e8 => zz_callU X (m_X10_next (hlM X) _ _ _ _ e8) g9 rfl q1928 q1929 (va_Decl.of (X.1.2.2.2.2 _ q860) (X.1.2.2.2.2 _ q864)) (by decide) q860 q1930 q165 q864 rfl (by decide) (by decide) (Nat.le_of_ble_eq_true rfl) dX15_letter_6) (fun v7 h8 => ?_)
    refine vv_new (pc := 9) X tyX19 rfl in_X19 tyX19_ok q1945 q1946 q184 ndX19 (by decide) dX15_letter_9 (fun v11 h12 => ?_)
    refine vv_dup (pc := 12) X rfl dX15_letter_12 ?_
    refine vv_aload_n (pc := 13) X (kf := 0) (i := 0) rfl 1 rfl dX15_letter_13 ?_
    refine vv_aload_n (pc := 14) X (kf := 3) (i := 3) rfl 0 rfl dX15_letter_14 ?_
    refine vv_iload_n (pc := 15) X (kf := 2) (i := 2) rfl 3 rfl dX15_letter_15 ?_
    refine vv_iload_n (pc := 16) X (kf := 1) (i := 1) rfl 2 rfl dX15_letter_16 ?_
    refine vv_bnd (fun b15 e16 => ?_)
    refine vv_callV (pc := 17) (rest := [LR v11]) (by rw [e16]; rfl) (fun r8 k8 e8 => zz_callI X (m_X19_init (hlM X) _ _ _ _ _ _ _ _ e8) q1947 q1948 q184 q1949 rfl nh_X19 rfl (by decide) (by decide) (Nat.le_of_ble_eq_true rfl) dX15_letter_17) (fun v13 h14 => ?_)
    exact vv_aretO X rfl rfl dX15_letter_20
  · exact vvx_out X (by decide) rfl
theorem m_X15_letter {l : Launch} (hl : l.stackTraces = false) {G : va_G} (a0 : Nat) (a1 : Int) (a2 : Int) (h : HP) : ∀ r hf, f_X15_letter a0 a1 a2 h = some (r, hf) → Ct l yX15_letter (ws_ yX15_letter cX15_letter 4 (some (.object "RenamedWords$Order"))) 7 281 G h [.ref a0, .int (iI a1), .int (iI a2)] (xR r) hf :=
  zz_ofW hl (by decide +kernel) (lv := [(0, LR (some a0)), (1, LI a1), (2, LI a2)]) (by simp [lv_args, lvL, lvV, zz_rfc, zz_rfs, zz_ci, zz_cr, zz_cj, zz_cf, zz_cd]) (by simp [lg_sl, zz_rfc, zz_ci, zz_cr, zz_cj, zz_cf, zz_cd]) (fun _ X => A_X15_letter X a0 a1 a2 h)
-- X20_init RenamedWords$ScriptReader$2.<init>(LRenamedWords$ScriptReader;II)V
noncomputable def f_X20_init (a0 : Nat) (a1 : Option Nat) (a2 : Int) (a3 : Int) (h : HP) : Option ((Unit) × HP) :=
  (wrR h (some a0) [15] 3 a1).bind fun h1 =>
  (wrI h1 (some a0) [15] 1 a2).bind fun h2 =>
  (wrI h2 (some a0) [15] 2 a3).bind fun h3 =>
  (rdR h3 a1 [12] 9).bind fun v4 =>
  hb (f_X18_init a0 v4 h3) fun _ h6 =>
  some ((), h6)
theorem A_X20_init {M : hp_M} {G : va_G} {h0 : HP} (X : hp_X M G h0 "RenamedWords$ScriptReader$2" "<init>" cX20_init 4 none [] 3 85) (a0 : Nat) (a1 : Option Nat) (a2 : Int) (a3 : Int) (h : HP) : vv M G h0 4 (hp_End M G h0) jV h 0 [(0, LR (some a0)), (1, LR a1), (2, LI a2), (3, LI a3)] [] (f_X20_init a0 a1 a2 a3 h) := by
  unfold f_X20_init
  refine vv_aload_n (pc := 0) X (kf := 0) (i := 0) rfl 0 rfl dX20_init_0 ?_
  refine vv_aload_n (pc := 1) X (kf := 1) (i := 1) rfl 1 rfl dX20_init_1 ?_
  refine vv_putR (pc := 2) (ty9 := (.object "RenamedWords$ScriptReader")) (fin := true) X (fun _ z => by cases List.mem_singleton.mp z; exact fl_X20_1_15) (fun _ => rfl) (fun _ => (fun _ z => by cases List.mem_singleton.mp z; exact ⟨_, rfl, rfl⟩)) (by decide +kernel) rfl dX20_init_2 (fun h1 => ?_)
  refine vv_aload_n (pc := 5) X (kf := 0) (i := 0) rfl 0 rfl dX20_init_5 ?_
  refine vv_iload_n (pc := 6) X (kf := 2) (i := 2) rfl 2 rfl dX20_init_6 ?_
  refine vv_putI (pc := 7) (fin := true) X (fun _ z => by cases List.mem_singleton.mp z; exact fl_X20_7_15) (fun _ => rfl) (fun _ => (fun _ z => by cases List.mem_singleton.mp z; exact ⟨_, rfl, rfl⟩)) dX20_init_7 (fun h2 => ?_)
  refine vv_aload_n (pc := 10) X (kf := 0) (i := 0) rfl 0 rfl dX20_init_10 ?_
  refine vv_iload_n (pc := 11) X (kf := 3) (i := 3) rfl 3 rfl dX20_init_11 ?_
  refine vv_putI (pc := 12) (fin := true) X (fun _ z => by cases List.mem_singleton.mp z; exact fl_X20_11_15) (fun _ => rfl) (fun _ => (fun _ z => by cases List.mem_singleton.mp z; exact ⟨_, rfl, rfl⟩)) dX20_init_12 (fun h3 => ?_)
  refine vv_aload_n (pc := 15) X (kf := 0) (i := 0) rfl 0 rfl dX20_init_15 ?_
  refine vv_aload_n (pc := 16) X (kf := 1) (i := 1) rfl 1 rfl dX20_init_16 ?_
  refine vv_getR (pc := 17) X (fun _ z => by cases List.mem_singleton.mp z; exact fl_X20_14_12) dX20_init_17 (fun v4 => ?_)
  refine vv_callV (pc := 20) (rest := []) (by rfl) (fun r8 k8 e8 => zz_callIN X (m_X18_init (hlM X) _ _ _ _ _ e8) q1982 q1951 q183 q1952 rfl nh_X18 rfl (by decide) (by decide) (Nat.le_of_ble_eq_true rfl) dX20_init_20) (fun v5 h6 => ?_)
  exact vv_vreturn X rfl rfl dX20_init_23
theorem m_X20_init {l : Launch} (hl : l.stackTraces = false) {G : va_G} (a0 : Nat) (a1 : Option Nat) (a2 : Int) (a3 : Int) (h : HP) : ∀ r hf, f_X20_init a0 a1 a2 a3 h = some (r, hf) → Ct l yX20_init (ws_ yX20_init cX20_init 4 none) 3 85 G h [.ref a0, va_rf a1, .int (iI a2), .int (iI a3)] (jV r) hf :=
  zz_ofW hl (by decide +kernel) (lv := [(0, LR (some a0)), (1, LR a1), (2, LI a2), (3, LI a3)]) (by simp [lv_args, lvL, lvV, zz_rfc, zz_rfs, zz_ci, zz_cr, zz_cj, zz_cf, zz_cd]) (by simp [lg_sl, zz_rfc, zz_ci, zz_cr, zz_cj, zz_cf, zz_cd]) (fun _ X => A_X20_init X a0 a1 a2 a3 h)
-- X15_erase RenamedWords$ScriptReader.erase(I)LRenamedWords$Order;
noncomputable def f_X15_erase (a0 : Nat) (a1 : Int) (h : HP) : Option ((Nat ⊕ Option Nat) × HP) :=
  (rcv h (some a0) [12]).bind fun b3 =>
  hbx (f_X10_number b3 1 200 h) (fun q5 h6 =>
      some (.inl q5, h6)) fun v1 h2 =>
  hb (nwO h2 (tgR h2 (some a0)) 15 [.inr (.inl none), .inl 0, .inl 0, .inr (.inl none)] 4) fun v7 h8 =>
  (v7).bind fun b11 =>
  hb (f_X20_init b11 (some a0) v1 a1 h8) fun _ h10 =>
  some (.inr v7, h10)
theorem A_X15_erase {M : hp_M} {G : va_G} {h0 : HP} (X : hp_X M G h0 "RenamedWords$ScriptReader" "erase" cX15_erase 3 (some (.object "RenamedWords$Order")) [] 8 312) (a0 : Nat) (a1 : Int) (h : HP) : vv M G h0 3 (hp_End M G h0) xR h 0 [(0, LR (some a0)), (1, LI a1)] [] (f_X15_erase a0 a1 h) := by
  unfold f_X15_erase
  refine vv_aload_n (pc := 0) X (kf := 0) (i := 0) rfl 0 rfl dX15_erase_0 ?_
  refine vv_iconst (pc := 1) X dX15_erase_1 ?_
  refine vv_sipush (pc := 2) X (by decide) dX15_erase_2 ?_
  refine vv_rcv (fun b3 t9 c9 fs9 e4 g9 k9 => ?_)
  cases List.mem_singleton.mp k9
  refine vv_xallI (pc := 5) (rest := []) (by rw [e4]; rfl) (fun r8 k8 e8 => zz_callU X (m_X10_number (hlM X) _ _ _ _ _ _ e8) g9 rfl q1974 q1975 (va_Decl.of (X.1.2.2.2.2 _ q1813) (X.1.2.2.2.2 _ q1814)) (by decide) q1813 q1976 q165 q1814 rfl (by decide) (by decide) (Nat.le_of_ble_eq_true rfl) dX15_erase_5) (fun v1 h2 => ?_) (fun q5 h6 => ?_)
  · refine vv_istore_n (pc := 8) (lv' := [(2, LI v1), (0, LR (some a0)), (1, LI a1)]) X (kf := 2) (i := 2) rfl (by decide) rfl dX15_erase_8 ?_
    refine vv_new (pc := 9) X tyX20 rfl in_X20 tyX20_ok q1977 q1978 q185 ndX20 (by decide) dX15_erase_9 (fun v7 h8 => ?_)
    refine vv_dup (pc := 12) X rfl dX15_erase_12 ?_
    refine vv_aload_n (pc := 13) X (kf := 0) (i := 0) rfl 1 rfl dX15_erase_13 ?_
    refine vv_iload_n (pc := 14) X (kf := 2) (i := 2) rfl 0 rfl dX15_erase_14 ?_
    refine vv_iload_n (pc := 15) X (kf := 1) (i := 1) rfl 2 rfl dX15_erase_15 ?_
    refine vv_bnd (fun b11 e12 => ?_)
    refine vv_callV (pc := 16) (rest := [LR v7]) (by rw [e12]; rfl) (fun r8 k8 e8 => zz_callI X (m_X20_init (hlM X) _ _ _ _ _ _ _ e8) q1979 q1980 q185 q1981 rfl nh_X20 rfl (by decide) (by decide) (Nat.le_of_ble_eq_true rfl) dX15_erase_16) (fun v9 h10 => ?_)
    exact vv_aretO X rfl rfl dX15_erase_19
  · exact vvx_out X (by decide) rfl
theorem m_X15_erase {l : Launch} (hl : l.stackTraces = false) {G : va_G} (a0 : Nat) (a1 : Int) (h : HP) : ∀ r hf, f_X15_erase a0 a1 h = some (r, hf) → Ct l yX15_erase (ws_ yX15_erase cX15_erase 3 (some (.object "RenamedWords$Order"))) 8 312 G h [.ref a0, .int (iI a1)] (xR r) hf :=
  zz_ofW hl (by decide +kernel) (lv := [(0, LR (some a0)), (1, LI a1)]) (by simp [lv_args, lvL, lvV, zz_rfc, zz_rfs, zz_ci, zz_cr, zz_cj, zz_cf, zz_cd]) (by simp [lg_sl, zz_rfc, zz_ci, zz_cr, zz_cj, zz_cf, zz_cd]) (fun _ X => A_X15_erase X a0 a1 h)
-- X15_known RenamedWords$ScriptReader.known()I
noncomputable def b_X15_known_29 (x0 : Option Nat) (x1 : Int) (s0 : Int) (s1 : Option Nat) (h : HP) : Option ((Nat ⊕ Int) × HP) :=
  (rcv h s1 [12]).bind fun b16 =>
  hbx (f_X10_must b16 s0 4 h) (fun q18 h19 =>
      some (.inl q18, h19)) fun _ h15 =>
  (rcv h15 x0 [12]).bind fun b22 =>
  hb (f_X10_next b22 h15) fun _ h21 =>
  some (.inr x1, h21)
theorem B_X15_known_29 {M : hp_M} {G : va_G} {h0 : HP} (X : hp_X M G h0 "RenamedWords$ScriptReader" "known" cX15_known 2 (some .int) [] 9 281) (x0 : Option Nat) (x1 : Int) (s0 : Int) (s1 : Option Nat) (h : HP) : vv M G h0 2 (hp_End M G h0) xI h 29 [(0, LR x0), (1, LI x1)] [LI s0, LR s1] (b_X15_known_29 x0 x1 s0 s1 h) := by
  unfold b_X15_known_29
  refine vv_iconst (pc := 29) X dX15_known_29 ?_
  refine vv_rcv (fun b16 t9 c9 fs9 e17 g9 k9 => ?_)
  cases List.mem_singleton.mp k9
  refine vv_xallV (pc := 30) (rest := []) (by rw [e17]; rfl) (fun r8 k8 e8 => zz_callU X (m_X10_must (hlM X) _ _ _ _ _ _ e8) g9 rfl q1925 q1926 (va_Decl.of (X.1.2.2.2.2 _ q968) (X.1.2.2.2.2 _ q969)) (by decide) q968 q1927 q165 q969 rfl (by decide) (by decide) (Nat.le_of_ble_eq_true rfl) dX15_known_30) (fun v14 h15 => ?_) (fun q18 h19 => ?_)
  · refine vv_aload_n (pc := 33) X (kf := 0) (i := 0) rfl 0 rfl dX15_known_33 ?_
    refine vv_rcv (fun b22 t9 c9 fs9 e23 g9 k9 => ?_)
    cases List.mem_singleton.mp k9
    refine vv_callV (pc := 34) (rest := []) (by rw [e23]; rfl) (fun r8 k8 e8 => zz_callU X (m_X10_next (hlM X) _ _ _ _ e8) g9 rfl q1928 q1929 (va_Decl.of (X.1.2.2.2.2 _ q860) (X.1.2.2.2.2 _ q864)) (by decide) q860 q1930 q165 q864 rfl (by decide) (by decide) (Nat.le_of_ble_eq_true rfl) dX15_known_34) (fun v20 h21 => ?_)
    refine vv_iload_n (pc := 37) X (kf := 1) (i := 1) rfl 1 rfl dX15_known_37 ?_
    exact vv_iretI X rfl rfl dX15_known_38
  · exact vvx_out X (by decide) rfl
noncomputable def f_X15_known (a0 : Nat) (h : HP) : Option ((Nat ⊕ Int) × HP) :=
  (rdR h (some a0) [12] 9).bind fun v1 =>
  (rdR h v1 [0] 0).bind fun v2 =>
  (rdR h v2 [1] 1).bind fun v3 =>
  (rcv h (some a0) [12]).bind fun b6 =>
  hbx (f_X10_name b6 h) (fun q8 h9 =>
      some (.inl q8, h9)) fun v4 h5 =>
  (rcv h5 v3 [2]).bind fun b12 =>
  hb (f_X3_of b12 v4 h5) fun v10 h11 =>
  iEQ v10 (-1)
    (b_X15_known_29 (some a0) v10 0 (some a0) h11)
    (b_X15_known_29 (some a0) v10 1 (some a0) h11)
theorem A_X15_known {M : hp_M} {G : va_G} {h0 : HP} (X : hp_X M G h0 "RenamedWords$ScriptReader" "known" cX15_known 2 (some .int) [] 9 281) (a0 : Nat) (h : HP) : vv M G h0 2 (hp_End M G h0) xI h 0 [(0, LR (some a0))] [] (f_X15_known a0 h) := by
  unfold f_X15_known
  refine vv_aload_n (pc := 0) X (kf := 0) (i := 0) rfl 0 rfl dX15_known_0 ?_
  refine vv_getR (pc := 1) X (fun _ z => by cases List.mem_singleton.mp z; exact fl_X15_3_12) dX15_known_1 (fun v1 => ?_)
  refine vv_getR (pc := 4) X (fun _ z => by cases List.mem_singleton.mp z; exact fl_X15_80_0) dX15_known_4 (fun v2 => ?_)
  refine vv_getR (pc := 7) X (fun _ z => by cases List.mem_singleton.mp z; exact fl_X15_84_1) dX15_known_7 (fun v3 => ?_)
  refine vv_aload_n (pc := 10) X (kf := 0) (i := 0) rfl 0 rfl dX15_known_10 ?_
  refine vv_rcv (fun b6 t9 c9 fs9 e7 g9 k9 => ?_)
  cases List.mem_singleton.mp k9
  refine vv_xallR (pc := 11) (rest := [LR v3]) (by rw [e7]; rfl) (fun r8 k8 e8 => zz_callU X (m_X10_name (hlM X) _ _ _ _ e8) g9 rfl q1998 q1999 (va_Decl.of (X.1.2.2.2.2 _ q1137) (X.1.2.2.2.2 _ q1138)) (by decide) q1137 q2000 q165 q1138 rfl (by decide) (by decide) (Nat.le_of_ble_eq_true rfl) dX15_known_11) (fun v4 h5 => ?_) (fun q8 h9 => ?_)
  · refine vv_rcv (fun b12 t9 c9 fs9 e13 g9 k9 => ?_)
    cases List.mem_singleton.mp k9
    refine vv_callI (pc := 14) (rest := []) (by rw [e13]; rfl) (fun r8 k8 e8 => zz_callV X (m_X3_of (hlM X) _ _ _ _ _ e8) g9 rfl rfl q2001 q1141 q1142 q134 q1143 nh_X3 rfl (by decide) (by decide) (Nat.le_of_ble_eq_true rfl) dX15_known_14) (fun v10 h11 => ?_)
    refine vv_istore_n (pc := 17) (lv' := [(1, LI v10), (0, LR (some a0))]) X (kf := 1) (i := 1) rfl (by decide) rfl dX15_known_17 ?_
    refine vv_aload_n (pc := 18) X (kf := 0) (i := 0) rfl 1 rfl dX15_known_18 ?_
    refine vv_iload_n (pc := 19) X (kf := 1) (i := 1) rfl 0 rfl dX15_known_19 ?_
    refine vv_iconst (pc := 20) X dX15_known_20 ?_
    refine vv_icmp_eq (pc := 21) (tgt := 28) X dX15_known_21 rfl ?_ ?_
    · refine vv_iconst (pc := 28) X dX15_known_28 ?_
      exact vv_sub [1, 0] (by rfl) (B_X15_known_29 X _ _ _ _ _)
    · refine vv_iconst (pc := 24) X dX15_known_24 ?_
      refine vv_goto (pc := 25) (tgt := 29) X dX15_known_25 rfl ?_
      exact vv_sub [1, 0] (by rfl) (B_X15_known_29 X _ _ _ _ _)
  · exact vvx_out X (by decide) rfl
theorem m_X15_known {l : Launch} (hl : l.stackTraces = false) {G : va_G} (a0 : Nat) (h : HP) : ∀ r hf, f_X15_known a0 h = some (r, hf) → Ct l yX15_known (ws_ yX15_known cX15_known 2 (some .int)) 9 281 G h [.ref a0] (xI r) hf :=
  zz_ofW hl (by decide +kernel) (lv := [(0, LR (some a0))]) (by simp [lv_args, lvL, lvV, zz_rfc, zz_rfs, zz_ci, zz_cr, zz_cj, zz_cf, zz_cd]) (by simp [lg_sl, zz_rfc, zz_ci, zz_cr, zz_cj, zz_cf, zz_cd]) (fun _ X => A_X15_known X a0 h)
-- X21_init RenamedWords$ScriptReader$3.<init>(LRenamedWords$ScriptReader;I)V
noncomputable def f_X21_init (a0 : Nat) (a1 : Option Nat) (a2 : Int) (h : HP) : Option ((Unit) × HP) :=
  (wrR h (some a0) [16] 2 a1).bind fun h1 =>
  (wrI h1 (some a0) [16] 1 a2).bind fun h2 =>
  (rdR h2 a1 [12] 9).bind fun v3 =>
  hb (f_X18_init a0 v3 h2) fun _ h5 =>
  some ((), h5)
theorem A_X21_init {M : hp_M} {G : va_G} {h0 : HP} (X : hp_X M G h0 "RenamedWords$ScriptReader$3" "<init>" cX21_init 3 none [] 3 85) (a0 : Nat) (a1 : Option Nat) (a2 : Int) (h : HP) : vv M G h0 3 (hp_End M G h0) jV h 0 [(0, LR (some a0)), (1, LR a1), (2, LI a2)] [] (f_X21_init a0 a1 a2 h) := by
  unfold f_X21_init
  refine vv_aload_n (pc := 0) X (kf := 0) (i := 0) rfl 0 rfl dX21_init_0 ?_
  refine vv_aload_n (pc := 1) X (kf := 1) (i := 1) rfl 1 rfl dX21_init_1 ?_
  refine vv_putR (pc := 2) (ty9 := (.object "RenamedWords$ScriptReader")) (fin := true) X (fun _ z => by cases List.mem_singleton.mp z; exact fl_X21_1_16) (fun _ => rfl) (fun _ => (fun _ z => by cases List.mem_singleton.mp z; exact ⟨_, rfl, rfl⟩)) (by decide +kernel) rfl dX21_init_2 (fun h1 => ?_)
  refine vv_aload_n (pc := 5) X (kf := 0) (i := 0) rfl 0 rfl dX21_init_5 ?_
  refine vv_iload_n (pc := 6) X (kf := 2) (i := 2) rfl 2 rfl dX21_init_6 ?_
  refine vv_putI (pc := 7) (fin := true) X (fun _ z => by cases List.mem_singleton.mp z; exact fl_X21_7_16) (fun _ => rfl) (fun _ => (fun _ z => by cases List.mem_singleton.mp z; exact ⟨_, rfl, rfl⟩)) dX21_init_7 (fun h2 => ?_)
  refine vv_aload_n (pc := 10) X (kf := 0) (i := 0) rfl 0 rfl dX21_init_10 ?_
  refine vv_aload_n (pc := 11) X (kf := 1) (i := 1) rfl 1 rfl dX21_init_11 ?_
  refine vv_getR (pc := 12) X (fun _ z => by cases List.mem_singleton.mp z; exact fl_X21_11_12) dX21_init_12 (fun v3 => ?_)
  refine vv_callV (pc := 15) (rest := []) (by rfl) (fun r8 k8 e8 => zz_callIN X (m_X18_init (hlM X) _ _ _ _ _ e8) q2011 q1951 q183 q1952 rfl nh_X18 rfl (by decide) (by decide) (Nat.le_of_ble_eq_true rfl) dX21_init_15) (fun v4 h5 => ?_)
  exact vv_vreturn X rfl rfl dX21_init_18
theorem m_X21_init {l : Launch} (hl : l.stackTraces = false) {G : va_G} (a0 : Nat) (a1 : Option Nat) (a2 : Int) (h : HP) : ∀ r hf, f_X21_init a0 a1 a2 h = some (r, hf) → Ct l yX21_init (ws_ yX21_init cX21_init 3 none) 3 85 G h [.ref a0, va_rf a1, .int (iI a2)] (jV r) hf :=
  zz_ofW hl (by decide +kernel) (lv := [(0, LR (some a0)), (1, LR a1), (2, LI a2)]) (by simp [lv_args, lvL, lvV, zz_rfc, zz_rfs, zz_ci, zz_cr, zz_cj, zz_cf, zz_cd]) (by simp [lg_sl, zz_rfc, zz_ci, zz_cr, zz_cj, zz_cf, zz_cd]) (fun _ X => A_X21_init X a0 a1 a2 h)
-- X15_mark RenamedWords$ScriptReader.mark(I)LRenamedWords$Order;
noncomputable def f_X15_mark (a0 : Nat) (a1 : Int) (h : HP) : Option ((Option Nat) × HP) :=
  hb (nwO h (tgR h (some a0)) 16 [.inr (.inl none), .inl 0, .inr (.inl none)] 3) fun v1 h2 =>
  (v1).bind fun b5 =>
  hb (f_X21_init b5 (some a0) a1 h2) fun _ h4 =>
  some (v1, h4)
theorem A_X15_mark {M : hp_M} {G : va_G} {h0 : HP} (X : hp_X M G h0 "RenamedWords$ScriptReader" "mark" cX15_mark 2 (some (.object "RenamedWords$Order")) [] 4 115) (a0 : Nat) (a1 : Int) (h : HP) : vv M G h0 2 (hp_End M G h0) jR h 0 [(0, LR (some a0)), (1, LI a1)] [] (f_X15_mark a0 a1 h) := by
  unfold f_X15_mark
  refine vv_new (pc := 0) X tyX21 rfl in_X21 tyX21_ok q2006 q2007 q186 ndX21 (by decide) dX15_mark_0 (fun v1 h2 => ?_)
  refine vv_dup (pc := 3) X rfl dX15_mark_3 ?_
  refine vv_aload_n (pc := 4) X (kf := 0) (i := 0) rfl 0 rfl dX15_mark_4 ?_
  refine vv_iload_n (pc := 5) X (kf := 1) (i := 1) rfl 1 rfl dX15_mark_5 ?_
  refine vv_bnd (fun b5 e6 => ?_)
  refine vv_callV (pc := 6) (rest := [LR v1]) (by rw [e6]; rfl) (fun r8 k8 e8 => zz_callI X (m_X21_init (hlM X) _ _ _ _ _ _ e8) q2008 q2009 q186 q2010 rfl nh_X21 rfl (by decide) (by decide) (Nat.le_of_ble_eq_true rfl) dX15_mark_6) (fun v3 h4 => ?_)
  exact vv_aretO X rfl rfl dX15_mark_9
theorem m_X15_mark {l : Launch} (hl : l.stackTraces = false) {G : va_G} (a0 : Nat) (a1 : Int) (h : HP) : ∀ r hf, f_X15_mark a0 a1 h = some (r, hf) → Ct l yX15_mark (ws_ yX15_mark cX15_mark 2 (some (.object "RenamedWords$Order"))) 4 115 G h [.ref a0, .int (iI a1)] (jR r) hf :=
  zz_ofW hl (by decide +kernel) (lv := [(0, LR (some a0)), (1, LI a1)]) (by simp [lv_args, lvL, lvV, zz_rfc, zz_rfs, zz_ci, zz_cr, zz_cj, zz_cf, zz_cd]) (by simp [lg_sl, zz_rfc, zz_ci, zz_cr, zz_cj, zz_cf, zz_cd]) (fun _ X => A_X15_mark X a0 a1 h)
