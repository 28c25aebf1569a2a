/-! STAGE 1c: functions and contracts (printed by gen/mkfuncs.py). -/
set_option maxRecDepth 100000
set_option linter.unusedVariables false
-- X9_report RenamedWordsModel.report()I
noncomputable def c_X9_report_100 (r67 : Option Nat → Int → HP → Option ((Int) × HP)) (r100 : Option Nat → Int → Int → HP → Option ((Int) × HP)) (x0 : Option Nat) (x1 : Int) (x2 : Int) (h : HP) : Option ((Int) × HP) :=
  (rcv h x0 [7]).bind fun b26 =>
  hb (f_X9_markPattern b26 x1 h) fun v24 h25 =>
  (rcv h25 x0 [7]).bind fun b30 =>
  hb (f_X9_of b30 v24 1 h25) fun v28 h29 =>
  iLE v28 x2
    (r67 x0 (x1 + 1) h29)
    ((rcv h29 x0 [7]).bind fun b34 =>
    hb (f_X9_markPattern b34 x1 h29) fun v32 h33 =>
    (rcv h33 x0 [7]).bind fun b38 =>
    hb (f_X9_of b38 v32 (2 + x2) h33) fun v36 h37 =>
    (rcv h37 x0 [7]).bind fun b42 =>
    hb (f_X9_writes b42 v36 h37) fun _ h41 =>
    r100 x0 x1 (x2 + 1) h41)
noncomputable def b_X9_report_100 (r67 : Option Nat → Int → HP → Option ((Int) × HP)) : Option Nat → Int → Int → HP → Option ((Int) × HP) := fx (fun _ _ _ _ => none) (c_X9_report_100 r67) FU
theorem C_X9_report_100 {M : hp_M} {G : va_G} {h0 : HP} (X : hp_X M G h0 "RenamedWordsModel" "report" cX9_report 3 (some .int) [] 2 59) (r67 : Option Nat → Int → HP → Option ((Int) × HP)) (hr67 : ∀ (y0 : Option Nat) (y1 : Int) (h : HP), vv M G h0 3 (hp_End M G h0) jI h 67 [(0, LR y0), (1, LI y1)] [] (r67 y0 y1 h)) (r100 : Option Nat → Int → Int → HP → Option ((Int) × HP)) (hr100 : ∀ (y0 : Option Nat) (y1 : Int) (y2 : Int) (h : HP), vv M G h0 3 (hp_End M G h0) jI h 100 [(0, LR y0), (1, LI y1), (2, LI y2)] [] (r100 y0 y1 y2 h)) (x0 : Option Nat) (x1 : Int) (x2 : Int) (h : HP) : vv M G h0 3 (hp_End M G h0) jI h 100 [(0, LR x0), (1, LI x1), (2, LI x2)] [] (c_X9_report_100 r67 r100 x0 x1 x2 h) := by
  unfold c_X9_report_100
  refine vv_iload_n (pc := 100) X (kf := 2) (i := 2) rfl 2 rfl dX9_report_100 ?_
  refine vv_aload_n (pc := 101) X (kf := 0) (i := 0) rfl 0 rfl dX9_report_101 ?_
  refine vv_aload_n (pc := 102) X (kf := 0) (i := 0) rfl 0 rfl dX9_report_102 ?_
  refine vv_iload_n (pc := 103) X (kf := 1) (i := 1) rfl 1 rfl dX9_report_103 ?_
  refine vv_rcv (fun b26 t9 c9 fs9 e27 g9 k9 => ?_)
  cases List.mem_singleton.mp k9
  refine vv_callI (pc := 104) (rest := [LR x0, LI x2]) (by rw [e27]; rfl) (fun r8 k8 e8 => zz_callV X (m_X9_markPattern (hlM X) _ _ _ _ _ e8) g9 rfl rfl q3759 q3761 qs91 q164 q3762 nh_X9 rfl (by decide) (by decide) (Nat.le_of_ble_eq_true rfl) dX9_report_104) (fun v24 h25 => ?_)
  refine vv_iconst (pc := 107) X dX9_report_107 ?_
  refine vv_rcv (fun b30 t9 c9 fs9 e31 g9 k9 => ?_)
  cases List.mem_singleton.mp k9
  refine vv_callI (pc := 108) (rest := [LI x2]) (by rw [e31]; rfl) (fun r8 k8 e8 => zz_callV X (m_X9_of (hlM X) _ _ _ _ _ _ e8) g9 rfl rfl q3777 q3779 qs94 q164 q3780 nh_X9 rfl (by decide) (by decide) (Nat.le_of_ble_eq_true rfl) dX9_report_108) (fun v28 h29 => ?_)
  refine vv_icmp_ge (pc := 111) (tgt := 136) X dX9_report_111 rfl ?_ ?_
  · refine vv_iinc (pc := 136) (lv' := [(1, LI (x1 + 1)), (0, LR x0), (2, LI x2)]) X 1 rfl (by decide) rfl dX9_report_136 ?_
    refine vv_goto (pc := 139) (tgt := 67) X dX9_report_139 rfl ?_
    exact vv_sub [1, 0] (by rfl) (hr67 _ _ _)
  · refine vv_aload_n (pc := 114) X (kf := 0) (i := 0) rfl 0 rfl dX9_report_114 ?_
    refine vv_aload_n (pc := 115) X (kf := 0) (i := 0) rfl 0 rfl dX9_report_115 ?_
    refine vv_aload_n (pc := 116) X (kf := 0) (i := 0) rfl 0 rfl dX9_report_116 ?_
    refine vv_iload_n (pc := 117) X (kf := 1) (i := 1) rfl 1 rfl dX9_report_117 ?_
    refine vv_rcv (fun b34 t9 c9 fs9 e35 g9 k9 => ?_)
    cases List.mem_singleton.mp k9
    refine vv_callI (pc := 118) (rest := [LR x0, LR x0]) (by rw [e35]; rfl) (fun r8 k8 e8 => zz_callV X (m_X9_markPattern (hlM X) _ _ _ _ _ e8) g9 rfl rfl q3759 q3761 qs91 q164 q3762 nh_X9 rfl (by decide) (by decide) (Nat.le_of_ble_eq_true rfl) dX9_report_118) (fun v32 h33 => ?_)
    refine vv_iconst (pc := 121) X dX9_report_121 ?_
    refine vv_iload_n (pc := 122) X (kf := 2) (i := 2) rfl 2 rfl dX9_report_122 ?_
    refine vv_iadd (pc := 123) X dX9_report_123 ?_
    refine vv_rcv (fun b38 t9 c9 fs9 e39 g9 k9 => ?_)
    cases List.mem_singleton.mp k9
    refine vv_callI (pc := 124) (rest := [LR x0]) (by rw [e39]; rfl) (fun r8 k8 e8 => zz_callV X (m_X9_of (hlM X) _ _ _ _ _ _ e8) g9 rfl rfl q3777 q3779 qs94 q164 q3780 nh_X9 rfl (by decide) (by decide) (Nat.le_of_ble_eq_true rfl) dX9_report_124) (fun v36 h37 => ?_)
    refine vv_rcv (fun b42 t9 c9 fs9 e43 g9 k9 => ?_)
    cases List.mem_singleton.mp k9
    refine vv_callV (pc := 127) (rest := []) (by rw [e43]; rfl) (fun r8 k8 e8 => zz_callV X (m_X9_writes (hlM X) _ _ _ _ _ e8) g9 rfl rfl q4059 q4061 qs128 q164 q4062 nh_X9 rfl (by decide) (by decide) (Nat.le_of_ble_eq_true rfl) dX9_report_127) (fun v40 h41 => ?_)
    refine vv_iinc (pc := 130) (lv' := [(2, LI (x2 + 1)), (0, LR x0), (1, LI x1)]) X 2 rfl (by decide) rfl dX9_report_130 ?_
    refine vv_goto (pc := 133) (tgt := 100) X dX9_report_133 rfl ?_
    exact vv_sub [1, 2, 0] (by rfl) (hr100 _ _ _ _)
theorem B_X9_report_100 {M : hp_M} {G : va_G} {h0 : HP} (X : hp_X M G h0 "RenamedWordsModel" "report" cX9_report 3 (some .int) [] 2 59) (r67 : Option Nat → Int → HP → Option ((Int) × HP)) (hr67 : ∀ (y0 : Option Nat) (y1 : Int) (h : HP), vv M G h0 3 (hp_End M G h0) jI h 67 [(0, LR y0), (1, LI y1)] [] (r67 y0 y1 h)) : ∀ (x0 : Option Nat) (x1 : Int) (x2 : Int) (h : HP), vv M G h0 3 (hp_End M G h0) jI h 100 [(0, LR x0), (1, LI x1), (2, LI x2)] [] (b_X9_report_100 r67 x0 x1 x2 h) := by
  unfold b_X9_report_100
  generalize FU = n
  induction n with
  | zero => intro x0 x1 x2 h; exact vv_none
  | succ n ih => exact C_X9_report_100 X r67 hr67 _ ih
noncomputable def c_X9_report_67 (r67 : Option Nat → Int → HP → Option ((Int) × HP)) (x0 : Option Nat) (x1 : Int) (h : HP) : Option ((Int) × HP) :=
  (rdR h x0 [7] 0).bind fun v5 =>
  (aldI h .int v5 3).bind fun v6 =>
  iLE v6 x1
    ((rdI h x0 [7] 33).bind fun v7 =>
    some (v7, h))
    ((rcv h x0 [7]).bind fun b10 =>
    hb (f_X9_writes b10 32 h) fun _ h9 =>
    (rcv h9 x0 [7]).bind fun b14 =>
    hb (f_X9_markPlace b14 x1 h9) fun v12 h13 =>
    (rcv h13 x0 [7]).bind fun b18 =>
    hb (f_X9_writesNumber b18 v12 h13) fun _ h17 =>
    (rcv h17 x0 [7]).bind fun b22 =>
    hb (f_X9_writes b22 58 h17) fun _ h21 =>
    b_X9_report_100 r67 x0 x1 0 h21)
noncomputable def b_X9_report_67 : Option Nat → Int → HP → Option ((Int) × HP) := fx (fun _ _ _ => none) (c_X9_report_67) FU
theorem C_X9_report_67 {M : hp_M} {G : va_G} {h0 : HP} (X : hp_X M G h0 "RenamedWordsModel" "report" cX9_report 3 (some .int) [] 2 59) (r67 : Option Nat → Int → HP → Option ((Int) × HP)) (hr67 : ∀ (y0 : Option Nat) (y1 : Int) (h : HP), vv M G h0 3 (hp_End M G h0) jI h 67 [(0, LR y0), (1, LI y1)] [] (r67 y0 y1 h)) (x0 : Option Nat) (x1 : Int) (h : HP) : vv M G h0 3 (hp_End M G h0) jI h 67 [(0, LR x0), (1, LI x1)] [] (c_X9_report_67 r67 x0 x1 h) := by
  unfold c_X9_report_67
  refine vv_iload_n (pc := 67) X (kf := 1) (i := 1) rfl 1 rfl dX9_report_67 ?_
  refine vv_aload_n (pc := 68) X (kf := 0) (i := 0) rfl 0 rfl dX9_report_68 ?_
  refine vv_getR (pc := 69) X (fun _ z => by cases List.mem_singleton.mp z; exact fl_X9_9_7) dX9_report_69 (fun v5 => ?_)
  refine vv_iconst (pc := 72) X dX9_report_72 ?_
  refine vv_iaload (pc := 73) X dX9_report_73 (fun v6 => ?_)
  refine vv_icmp_ge (pc := 74) (tgt := 142) X dX9_report_74 rfl ?_ ?_
  · refine vv_aload_n (pc := 142) X (kf := 0) (i := 0) rfl 0 rfl dX9_report_142 ?_
    refine vv_getI (pc := 143) X (fun _ z => by cases List.mem_singleton.mp z; exact fl_X9_433_7) dX9_report_143 (fun v7 => ?_)
    exact vv_iretI X rfl rfl dX9_report_146
  · refine vv_aload_n (pc := 77) X (kf := 0) (i := 0) rfl 0 rfl dX9_report_77 ?_
    refine vv_bipush (pc := 78) X (by decide) dX9_report_78 ?_
    refine vv_rcv (fun b10 t9 c9 fs9 e11 g9 k9 => ?_)
    cases List.mem_singleton.mp k9
    refine vv_callV (pc := 80) (rest := []) (by rw [e11]; rfl) (fun r8 k8 e8 => zz_callV X (m_X9_writes (hlM X) _ _ _ _ _ e8) g9 rfl rfl q4059 q4061 qs128 q164 q4062 nh_X9 rfl (by decide) (by decide) (Nat.le_of_ble_eq_true rfl) dX9_report_80) (fun v8 h9 => ?_)
    refine vv_aload_n (pc := 83) X (kf := 0) (i := 0) rfl 0 rfl dX9_report_83 ?_
    refine vv_aload_n (pc := 84) X (kf := 0) (i := 0) rfl 0 rfl dX9_report_84 ?_
    refine vv_iload_n (pc := 85) X (kf := 1) (i := 1) rfl 1 rfl dX9_report_85 ?_
    refine vv_rcv (fun b14 t9 c9 fs9 e15 g9 k9 => ?_)
    cases List.mem_singleton.mp k9
    refine vv_callI (pc := 86) (rest := [LR x0]) (by rw [e15]; rfl) (fun r8 k8 e8 => zz_callV X (m_X9_markPlace (hlM X) _ _ _ _ _ e8) g9 rfl rfl q3747 q3749 qs88 q164 q3750 nh_X9 rfl (by decide) (by decide) (Nat.le_of_ble_eq_true rfl) dX9_report_86) (fun v12 h13 => ?_)
    refine vv_rcv (fun b18 t9 c9 fs9 e19 g9 k9 => ?_)
    cases List.mem_singleton.mp k9
    refine vv_callV (pc := 89) (rest := []) (by rw [e19]; rfl) (fun r8 k8 e8 => zz_callV X (m_X9_writesNumber (hlM X) _ _ _ _ _ e8) g9 rfl rfl q4063 q4065 qs129 q164 q4066 nh_X9 rfl (by decide) (by decide) (Nat.le_of_ble_eq_true rfl) dX9_report_89) (fun v16 h17 => ?_)
    refine vv_aload_n (pc := 92) X (kf := 0) (i := 0) rfl 0 rfl dX9_report_92 ?_
    refine vv_bipush (pc := 93) X (by decide) dX9_report_93 ?_
    refine vv_rcv (fun b22 t9 c9 fs9 e23 g9 k9 => ?_)
    cases List.mem_singleton.mp k9
    refine vv_callV (pc := 95) (rest := []) (by rw [e23]; rfl) (fun r8 k8 e8 => zz_callV X (m_X9_writes (hlM X) _ _ _ _ _ e8) g9 rfl rfl q4059 q4061 qs128 q164 q4062 nh_X9 rfl (by decide) (by decide) (Nat.le_of_ble_eq_true rfl) dX9_report_95) (fun v20 h21 => ?_)
    refine vv_iconst (pc := 98) X dX9_report_98 ?_
    refine vv_istore_n (pc := 99) (lv' := [(2, LI 0), (0, LR x0), (1, LI x1)]) X (kf := 2) (i := 2) rfl (by decide) rfl dX9_report_99 ?_
    exact vv_sub [1, 2, 0] (by rfl) (B_X9_report_100 X r67 hr67 _ _ _ _)
theorem B_X9_report_67 {M : hp_M} {G : va_G} {h0 : HP} (X : hp_X M G h0 "RenamedWordsModel" "report" cX9_report 3 (some .int) [] 2 59) : ∀ (x0 : Option Nat) (x1 : Int) (h : HP), vv M G h0 3 (hp_End M G h0) jI h 67 [(0, LR x0), (1, LI x1)] [] (b_X9_report_67 x0 x1 h) := by
  unfold b_X9_report_67
  generalize FU = n
  induction n with
  | zero => intro x0 x1 h; exact vv_none
  | succ n ih => exact C_X9_report_67 X _ ih
noncomputable def b_X9_report_55 (r12 : Option Nat → Int → HP → Option ((Int) × HP)) (x0 : Option Nat) (x1 : Int) (s0 : Int) (s1 : Int) (s2 : Option Nat) (h : HP) : Option ((Int) × HP) :=
  (rcv h s2 [7]).bind fun b54 =>
  hb (f_X9_writes b54 (s1 + s0) h) fun _ h53 =>
  r12 x0 (x1 + 1) h53
theorem B_X9_report_55 {M : hp_M} {G : va_G} {h0 : HP} (X : hp_X M G h0 "RenamedWordsModel" "report" cX9_report 3 (some .int) [] 2 59) (r12 : Option Nat → Int → HP → Option ((Int) × HP)) (hr12 : ∀ (y0 : Option Nat) (y1 : Int) (h : HP), vv M G h0 3 (hp_End M G h0) jI h 12 [(0, LR y0), (1, LI y1)] [] (r12 y0 y1 h)) (x0 : Option Nat) (x1 : Int) (s0 : Int) (s1 : Int) (s2 : Option Nat) (h : HP) : vv M G h0 3 (hp_End M G h0) jI h 55 [(0, LR x0), (1, LI x1)] [LI s0, LI s1, LR s2] (b_X9_report_55 r12 x0 x1 s0 s1 s2 h) := by
  unfold b_X9_report_55
  refine vv_iadd (pc := 55) X dX9_report_55 ?_
  refine vv_rcv (fun b54 t9 c9 fs9 e55 g9 k9 => ?_)
  cases List.mem_singleton.mp k9
  refine vv_callV (pc := 56) (rest := []) (by rw [e55]; rfl) (fun r8 k8 e8 => zz_callV X (m_X9_writes (hlM X) _ _ _ _ _ e8) g9 rfl rfl q4059 q4061 qs128 q164 q4062 nh_X9 rfl (by decide) (by decide) (Nat.le_of_ble_eq_true rfl) dX9_report_56) (fun v52 h53 => ?_)
  refine vv_iinc (pc := 59) (lv' := [(1, LI (x1 + 1)), (0, LR x0)]) X 1 rfl (by decide) rfl dX9_report_59 ?_
  refine vv_goto (pc := 62) (tgt := 12) X dX9_report_62 rfl ?_
  exact vv_sub [1, 0] (by rfl) (hr12 _ _ _)
noncomputable def c_X9_report_12 (r12 : Option Nat → Int → HP → Option ((Int) × HP)) (x0 : Option Nat) (x1 : Int) (h : HP) : Option ((Int) × HP) :=
  (rdR h x0 [7] 0).bind fun v3 =>
  (aldI h .int v3 1).bind fun v4 =>
  iLE v4 x1
    (b_X9_report_67 x0 0 h)
    ((rdR h x0 [7] 0).bind fun v44 =>
    (aldI h .int v44 (16 + x1)).bind fun v45 =>
    (rdR h x0 [7] 0).bind fun v46 =>
    (aldI h .int v46 (16 + x1)).bind fun v47 =>
    (rcv h x0 [7]).bind fun b50 =>
    hb (f_X9_isFirm b50 v47 h) fun v48 h49 =>
    iEQ v48 0
      (b_X9_report_55 r12 x0 x1 65 v45 x0 h49)
      (b_X9_report_55 r12 x0 x1 97 v45 x0 h49))
noncomputable def b_X9_report_12 : Option Nat → Int → HP → Option ((Int) × HP) := fx (fun _ _ _ => none) (c_X9_report_12) FU
theorem C_X9_report_12 {M : hp_M} {G : va_G} {h0 : HP} (X : hp_X M G h0 "RenamedWordsModel" "report" cX9_report 3 (some .int) [] 2 59) (r12 : Option Nat → Int → HP → Option ((Int) × HP)) (hr12 : ∀ (y0 : Option Nat) (y1 : Int) (h : HP), vv M G h0 3 (hp_End M G h0) jI h 12 [(0, LR y0), (1, LI y1)] [] (r12 y0 y1 h)) (x0 : Option Nat) (x1 : Int) (h : HP) : vv M G h0 3 (hp_End M G h0) jI h 12 [(0, LR x0), (1, LI x1)] [] (c_X9_report_12 r12 x0 x1 h) := by
  unfold c_X9_report_12
  refine vv_iload_n (pc := 12) X (kf := 1) (i := 1) rfl 1 rfl dX9_report_12 ?_
  refine vv_aload_n (pc := 13) X (kf := 0) (i := 0) rfl 0 rfl dX9_report_13 ?_
  refine vv_getR (pc := 14) X (fun _ z => by cases List.mem_singleton.mp z; exact fl_X9_9_7) dX9_report_14 (fun v3 => ?_)
  refine vv_iconst (pc := 17) X dX9_report_17 ?_
  refine vv_iaload (pc := 18) X dX9_report_18 (fun v4 => ?_)
  refine vv_icmp_ge (pc := 19) (tgt := 65) X dX9_report_19 rfl ?_ ?_
  · refine vv_iconst (pc := 65) X dX9_report_65 ?_
    refine vv_istore_n (pc := 66) (lv' := [(1, LI 0), (0, LR x0)]) X (kf := 1) (i := 1) rfl (by decide) rfl dX9_report_66 ?_
    exact vv_sub [1, 0] (by rfl) (B_X9_report_67 X _ _ _)
  · refine vv_aload_n (pc := 22) X (kf := 0) (i := 0) rfl 0 rfl dX9_report_22 ?_
    refine vv_aload_n (pc := 23) X (kf := 0) (i := 0) rfl 0 rfl dX9_report_23 ?_
    refine vv_getR (pc := 24) X (fun _ z => by cases List.mem_singleton.mp z; exact fl_X9_9_7) dX9_report_24 (fun v44 => ?_)
    refine vv_bipush (pc := 27) X (by decide) dX9_report_27 ?_
    refine vv_iload_n (pc := 29) X (kf := 1) (i := 1) rfl 1 rfl dX9_report_29 ?_
    refine vv_iadd (pc := 30) X dX9_report_30 ?_
    refine vv_iaload (pc := 31) X dX9_report_31 (fun v45 => ?_)
    refine vv_aload_n (pc := 32) X (kf := 0) (i := 0) rfl 0 rfl dX9_report_32 ?_
    refine vv_aload_n (pc := 33) X (kf := 0) (i := 0) rfl 0 rfl dX9_report_33 ?_
    refine vv_getR (pc := 34) X (fun _ z => by cases List.mem_singleton.mp z; exact fl_X9_9_7) dX9_report_34 (fun v46 => ?_)
    refine vv_bipush (pc := 37) X (by decide) dX9_report_37 ?_
    refine vv_iload_n (pc := 39) X (kf := 1) (i := 1) rfl 1 rfl dX9_report_39 ?_
    refine vv_iadd (pc := 40) X dX9_report_40 ?_
    refine vv_iaload (pc := 41) X dX9_report_41 (fun v47 => ?_)
    refine vv_rcv (fun b50 t9 c9 fs9 e51 g9 k9 => ?_)
    cases List.mem_singleton.mp k9
    refine vv_callI (pc := 42) (rest := [LI v45, LR x0]) (by rw [e51]; rfl) (fun r8 k8 e8 => zz_callV X (m_X9_isFirm (hlM X) _ _ _ _ _ e8) g9 rfl rfl q3789 q3791 qs97 q164 q3792 nh_X9 rfl (by decide) (by decide) (Nat.le_of_ble_eq_true rfl) dX9_report_42) (fun v48 h49 => ?_)
    refine vv_if_eq (pc := 45) (tgt := 53) X dX9_report_45 rfl ?_ ?_
    · refine vv_bipush (pc := 53) X (by decide) dX9_report_53 ?_
      exact B_X9_report_55 X r12 hr12 _ _ _ _ _ _
    · refine vv_bipush (pc := 48) X (by decide) dX9_report_48 ?_
      refine vv_goto (pc := 50) (tgt := 55) X dX9_report_50 rfl ?_
      exact B_X9_report_55 X r12 hr12 _ _ _ _ _ _
theorem B_X9_report_12 {M : hp_M} {G : va_G} {h0 : HP} (X : hp_X M G h0 "RenamedWordsModel" "report" cX9_report 3 (some .int) [] 2 59) : ∀ (x0 : Option Nat) (x1 : Int) (h : HP), vv M G h0 3 (hp_End M G h0) jI h 12 [(0, LR x0), (1, LI x1)] [] (b_X9_report_12 x0 x1 h) := by
  unfold b_X9_report_12
  generalize FU = n
  induction n with
  | zero => intro x0 x1 h; exact vv_none
  | succ n ih => exact C_X9_report_12 X _ ih
noncomputable def f_X9_report (a0 : Nat) (h : HP) : Option ((Int) × HP) :=
  (wrI h (some a0) [7] 7 0).bind fun h1 =>
  (wrI h1 (some a0) [7] 33 0).bind fun h2 =>
  b_X9_report_12 (some a0) 0 h2
theorem A_X9_report {M : hp_M} {G : va_G} {h0 : HP} (X : hp_X M G h0 "RenamedWordsModel" "report" cX9_report 3 (some .int) [] 2 59) (a0 : Nat) (h : HP) : vv M G h0 3 (hp_End M G h0) jI h 0 [(0, LR (some a0))] [] (f_X9_report a0 h) := by
  unfold f_X9_report
  refine vv_aload_n (pc := 0) X (kf := 0) (i := 0) rfl 0 rfl dX9_report_0 ?_
  refine vv_iconst (pc := 1) X dX9_report_1 ?_
  refine vv_putI (pc := 2) (fin := false) X (fun _ z => by cases List.mem_singleton.mp z; exact fl_X9_69_7) (fun z => nomatch z) (fun z => nomatch z) dX9_report_2 (fun h1 => ?_)
  refine vv_aload_n (pc := 5) X (kf := 0) (i := 0) rfl 0 rfl dX9_report_5 ?_
  refine vv_iconst (pc := 6) X dX9_report_6 ?_
  refine vv_putI (pc := 7) (fin := false) X (fun _ z => by cases List.mem_singleton.mp z; exact fl_X9_433_7) (fun z => nomatch z) (fun z => nomatch z) dX9_report_7 (fun h2 => ?_)
  refine vv_iconst (pc := 10) X dX9_report_10 ?_
  refine vv_istore_n (pc := 11) (lv' := [(1, LI 0), (0, LR (some a0))]) X (kf := 1) (i := 1) rfl (by decide) rfl dX9_report_11 ?_
  exact vv_sub [1, 0] (by rfl) (B_X9_report_12 X _ _ _)
theorem m_X9_report {l : Launch} (hl : l.stackTraces = false) {G : va_G} (a0 : Nat) (h : HP) : ∀ r hf, f_X9_report a0 h = some (r, hf) → Ct l yX9_report (ws_ yX9_report cX9_report 3 (some .int)) 2 59 G h [.ref a0] (jI r) hf :=
  zz_ofW hl (by decide +kernel) (lv := [(0, LR (some a0))]) (by simp [lv_args, lvL, lvV, zz_rfc, zz_rfs, zz_ci, zz_cr, zz_cj, zz_cf, zz_cd]) (by simp [lg_sl, zz_rfc, zz_ci, zz_cr, zz_cj, zz_cf, zz_cd]) (fun _ X => A_X9_report X a0 h)
-- X1_reportByte RenamedWords.reportByte(I)I
noncomputable def b_X1_reportByte_31 (s0 : Int) (h : HP) : Option ((Int) × HP) :=
  some (s0, h)
theorem B_X1_reportByte_31 {M : hp_M} {G : va_G} {h0 : HP} (X : hp_X M G h0 "RenamedWords" "reportByte" cX1_reportByte 2 (some .int) [] 4 117) (s0 : Int) (h : HP) : vv M G h0 2 (hp_End M G h0) jI h 31 [] [LI s0] (b_X1_reportByte_31 s0 h) := by
  unfold b_X1_reportByte_31
  exact vv_iretI X rfl rfl dX1_reportByte_31
noncomputable def f_X1_reportByte (a0 : Nat) (a1 : Int) (h : HP) : Option ((Int) × HP) :=
  (rdR h (some a0) [0] 8).bind fun v1 =>
  (rcv h v1 [26]).bind fun b4 =>
  hb (f_J11_length b4 h) fun v2 h3 =>
  hb (f_X1_in (iL a1) 0 (iL (v2 - 1)) h3) fun v6 h7 =>
  iEQ v6 0
    (b_X1_reportByte_31 (-1) h7)
    ((rdR h7 (some a0) [0] 8).bind fun v8 =>
    (rcv h7 v8 [26]).bind fun b11 =>
    hb (f_J11_charAt b11 a1 h7) fun v9 h10 =>
    b_X1_reportByte_31 v9 h10)
theorem A_X1_reportByte {M : hp_M} {G : va_G} {h0 : HP} (X : hp_X M G h0 "RenamedWords" "reportByte" cX1_reportByte 2 (some .int) [] 4 117) (a0 : Nat) (a1 : Int) (h : HP) : vv M G h0 2 (hp_End M G h0) jI h 0 [(0, LR (some a0)), (1, LI a1)] [] (f_X1_reportByte a0 a1 h) := by
  unfold f_X1_reportByte
  refine vv_iload_n (pc := 0) X (kf := 1) (i := 1) rfl 1 rfl dX1_reportByte_0 ?_
  refine vv_i2l (pc := 1) X dX1_reportByte_1 ?_
  refine vv_lconst (pc := 2) (v := 0) X (by decide) dX1_reportByte_2 ?_
  refine vv_aload_n (pc := 3) X (kf := 0) (i := 0) rfl 0 rfl dX1_reportByte_3 ?_
  refine vv_getR (pc := 4) X (fun _ z => by cases List.mem_singleton.mp z; exact fl_X1_69_0) dX1_reportByte_4 (fun v1 => ?_)
  refine vv_rcv (fun b4 t9 c9 fs9 e5 g9 k9 => ?_)
  cases List.mem_singleton.mp k9
  refine vv_callI (pc := 7) (rest := [LJ 0, LJ (iL a1)]) (by rw [e5]; rfl) (fun r8 k8 e8 => zz_callV X (m_J11_length (hlM X) _ _ _ _ e8) g9 rfl rfl q2979 q429 q430 q146 q431 nh_J11 rfl (by decide) (by decide) (Nat.le_of_ble_eq_true rfl) dX1_reportByte_7) (fun v2 h3 => ?_)
  refine vv_iconst (pc := 10) X dX1_reportByte_10 ?_
  refine vv_isub (pc := 11) X dX1_reportByte_11 ?_
  refine vv_i2l (pc := 12) X dX1_reportByte_12 ?_
  refine vv_callI (pc := 13) (rest := []) (by rfl) (fun r8 k8 e8 => zz_callS X (m_X1_in (hlM X) _ _ _ _ _ _ e8) q2984 q873 q132 q874 nh_X1 rfl (by decide) (by decide) (Nat.le_of_ble_eq_true rfl) dX1_reportByte_13) (fun v6 h7 => ?_)
  refine vv_if_eq (pc := 16) (tgt := 30) X dX1_reportByte_16 rfl ?_ ?_
  · refine vv_iconst (pc := 30) X dX1_reportByte_30 ?_
    exact vv_sub [] (by rfl) (B_X1_reportByte_31 X _ _)
  · refine vv_aload_n (pc := 19) X (kf := 0) (i := 0) rfl 0 rfl dX1_reportByte_19 ?_
    refine vv_getR (pc := 20) X (fun _ z => by cases List.mem_singleton.mp z; exact fl_X1_69_0) dX1_reportByte_20 (fun v8 => ?_)
    refine vv_iload_n (pc := 23) X (kf := 1) (i := 1) rfl 1 rfl dX1_reportByte_23 ?_
    refine vv_rcv (fun b11 t9 c9 fs9 e12 g9 k9 => ?_)
    cases List.mem_singleton.mp k9
    refine vv_callI (pc := 24) (rest := []) (by rw [e12]; rfl) (fun r8 k8 e8 => zz_callV X (m_J11_charAt (hlM X) _ _ _ _ _ e8) g9 rfl rfl q2985 q1021 q1022 q146 q1023 nh_J11 rfl (by decide) (by decide) (Nat.le_of_ble_eq_true rfl) dX1_reportByte_24) (fun v9 h10 => ?_)
    refine vv_goto (pc := 27) (tgt := 31) X dX1_reportByte_27 rfl ?_
    exact vv_sub [] (by rfl) (B_X1_reportByte_31 X _ _)
theorem m_X1_reportByte {l : Launch} (hl : l.stackTraces = false) {G : va_G} (a0 : Nat) (a1 : Int) (h : HP) : ∀ r hf, f_X1_reportByte a0 a1 h = some (r, hf) → Ct l yX1_reportByte (ws_ yX1_reportByte cX1_reportByte 2 (some .int)) 4 117 G h [.ref a0, .int (iI a1)] (jI r) hf :=
  zz_ofW hl (by decide +kernel) (lv := [(0, LR (some a0)), (1, LI a1)]) (by simp [lv_args, lvL, lvV, zz_rfc, zz_rfs, zz_ci, zz_cr, zz_cj, zz_cf, zz_cd]) (by simp [lg_sl, zz_rfc, zz_ci, zz_cr, zz_cj, zz_cf, zz_cd]) (fun _ X => A_X1_reportByte X a0 a1 h)
-- X9_reportByte RenamedWordsModel.reportByte(I)I
noncomputable def b_X9_reportByte_29 (s0 : Int) (h : HP) : Option ((Int) × HP) :=
  some (s0, h)
theorem B_X9_reportByte_29 {M : hp_M} {G : va_G} {h0 : HP} (X : hp_X M G h0 "RenamedWordsModel" "reportByte" cX9_reportByte 2 (some .int) [] 1 30) (s0 : Int) (h : HP) : vv M G h0 2 (hp_End M G h0) jI h 29 [] [LI s0] (b_X9_reportByte_29 s0 h) := by
  unfold b_X9_reportByte_29
  exact vv_iretI X rfl rfl dX9_reportByte_29
noncomputable def f_X9_reportByte (a0 : Nat) (a1 : Int) (h : HP) : Option ((Int) × HP) :=
  (wrI h (some a0) [7] 7 0).bind fun h1 =>
  (rdI h1 (some a0) [7] 33).bind fun v2 =>
  hb (f_X9_in a1 0 (v2 - 1) h1) fun v3 h4 =>
  iEQ v3 0
    (b_X9_reportByte_29 (-1) h4)
    ((rdR h4 (some a0) [7] 32).bind fun v5 =>
    (aldI h4 .int v5 a1).bind fun v6 =>
    b_X9_reportByte_29 v6 h4)
theorem A_X9_reportByte {M : hp_M} {G : va_G} {h0 : HP} (X : hp_X M G h0 "RenamedWordsModel" "reportByte" cX9_reportByte 2 (some .int) [] 1 30) (a0 : Nat) (a1 : Int) (h : HP) : vv M G h0 2 (hp_End M G h0) jI h 0 [(0, LR (some a0)), (1, LI a1)] [] (f_X9_reportByte a0 a1 h) := by
  unfold f_X9_reportByte
  refine vv_aload_n (pc := 0) X (kf := 0) (i := 0) rfl 0 rfl dX9_reportByte_0 ?_
  refine vv_iconst (pc := 1) X dX9_reportByte_1 ?_
  refine vv_putI (pc := 2) (fin := false) X (fun _ z => by cases List.mem_singleton.mp z; exact fl_X9_69_7) (fun z => nomatch z) (fun z => nomatch z) dX9_reportByte_2 (fun h1 => ?_)
  refine vv_iload_n (pc := 5) X (kf := 1) (i := 1) rfl 1 rfl dX9_reportByte_5 ?_
  refine vv_iconst (pc := 6) X dX9_reportByte_6 ?_
  refine vv_aload_n (pc := 7) X (kf := 0) (i := 0) rfl 0 rfl dX9_reportByte_7 ?_
  refine vv_getI (pc := 8) X (fun _ z => by cases List.mem_singleton.mp z; exact fl_X9_433_7) dX9_reportByte_8 (fun v2 => ?_)
  refine vv_iconst (pc := 11) X dX9_reportByte_11 ?_
  refine vv_isub (pc := 12) X dX9_reportByte_12 ?_
  refine vv_callI (pc := 13) (rest := []) (by rfl) (fun r8 k8 e8 => zz_callS X (m_X9_in (hlM X) _ _ _ _ _ _ e8) q3593 q3594 q164 q3595 nh_X9 rfl (by decide) (by decide) (Nat.le_of_ble_eq_true rfl) dX9_reportByte_13) (fun v3 h4 => ?_)
  refine vv_if_eq (pc := 16) (tgt := 28) X dX9_reportByte_16 rfl ?_ ?_
  · refine vv_iconst (pc := 28) X dX9_reportByte_28 ?_
    exact vv_sub [] (by rfl) (B_X9_reportByte_29 X _ _)
  · refine vv_aload_n (pc := 19) X (kf := 0) (i := 0) rfl 0 rfl dX9_reportByte_19 ?_
    refine vv_getR (pc := 20) X (fun _ z => by cases List.mem_singleton.mp z; exact fl_X9_66_7) dX9_reportByte_20 (fun v5 => ?_)
    refine vv_iload_n (pc := 23) X (kf := 1) (i := 1) rfl 1 rfl dX9_reportByte_23 ?_
    refine vv_iaload (pc := 24) X dX9_reportByte_24 (fun v6 => ?_)
    refine vv_goto (pc := 25) (tgt := 29) X dX9_reportByte_25 rfl ?_
    exact vv_sub [] (by rfl) (B_X9_reportByte_29 X _ _)
theorem m_X9_reportByte {l : Launch} (hl : l.stackTraces = false) {G : va_G} (a0 : Nat) (a1 : Int) (h : HP) : ∀ r hf, f_X9_reportByte a0 a1 h = some (r, hf) → Ct l yX9_reportByte (ws_ yX9_reportByte cX9_reportByte 2 (some .int)) 1 30 G h [.ref a0, .int (iI a1)] (jI r) hf :=
  zz_ofW hl (by decide +kernel) (lv := [(0, LR (some a0)), (1, LI a1)]) (by simp [lv_args, lvL, lvV, zz_rfc, zz_rfs, zz_ci, zz_cr, zz_cj, zz_cf, zz_cd]) (by simp [lg_sl, zz_rfc, zz_ci, zz_cr, zz_cj, zz_cf, zz_cd]) (fun _ X => A_X9_reportByte X a0 a1 h)
-- J22_sub java/util/ArrayDeque.sub(III)I
noncomputable def b_J22_sub_12 (x0 : Int) (h : HP) : Option ((Int) × HP) :=
  some (x0, h)
theorem B_J22_sub_12 {M : hp_M} {G : va_G} {h0 : HP} (X : hp_X M G h0 "java/util/ArrayDeque" "sub" cJ22_sub 3 (some .int) [] 0 0) (x0 : Int) (h : HP) : vv M G h0 3 (hp_End M G h0) jI h 12 [(0, LI x0)] [] (b_J22_sub_12 x0 h) := by
  unfold b_J22_sub_12
  refine vv_iload_n (pc := 12) X (kf := 0) (i := 0) rfl 0 rfl dJ22_sub_12 ?_
  exact vv_iretI X rfl rfl dJ22_sub_13
noncomputable def f_J22_sub (a1 : Int) (a2 : Int) (a3 : Int) (h : HP) : Option ((Int) × HP) :=
  iLE 0 (a1 - a2)
    (b_J22_sub_12 (a1 - a2) h)
    (b_J22_sub_12 ((a1 - a2) + a3) h)
theorem A_J22_sub {M : hp_M} {G : va_G} {h0 : HP} (X : hp_X M G h0 "java/util/ArrayDeque" "sub" cJ22_sub 3 (some .int) [] 0 0) (a1 : Int) (a2 : Int) (a3 : Int) (h : HP) : vv M G h0 3 (hp_End M G h0) jI h 0 [(0, LI a1), (1, LI a2), (2, LI a3)] [] (f_J22_sub a1 a2 a3 h) := by
  unfold f_J22_sub
  refine vv_iload_n (pc := 0) X (kf := 0) (i := 0) rfl 0 rfl dJ22_sub_0 ?_
  refine vv_iload_n (pc := 1) X (kf := 1) (i := 1) rfl 1 rfl dJ22_sub_1 ?_
  refine vv_isub (pc := 2) X dJ22_sub_2 ?_
  refine vv_dup (pc := 3) X rfl dJ22_sub_3 ?_
  refine vv_istore_n (pc := 4) (lv' := [(0, LI (a1 - a2)), (1, LI a2), (2, LI a3)]) X (kf := 0) (i := 0) rfl (by decide) rfl dJ22_sub_4 ?_
  refine vv_if_ge (pc := 5) (tgt := 12) X dJ22_sub_5 rfl ?_ ?_
  · exact vv_sub [0] (by rfl) (B_J22_sub_12 X _ _)
  · refine vv_iload_n (pc := 8) X (kf := 0) (i := 0) rfl 0 rfl dJ22_sub_8 ?_
    refine vv_iload_n (pc := 9) X (kf := 2) (i := 2) rfl 2 rfl dJ22_sub_9 ?_
    refine vv_iadd (pc := 10) X dJ22_sub_10 ?_
    refine vv_istore_n (pc := 11) (lv' := [(0, LI ((a1 - a2) + a3)), (1, LI a2), (2, LI a3)]) X (kf := 0) (i := 0) rfl (by decide) rfl dJ22_sub_11 ?_
    exact vv_sub [0] (by rfl) (B_J22_sub_12 X _ _)
theorem m_J22_sub {l : Launch} (hl : l.stackTraces = false) {G : va_G} (a1 : Int) (a2 : Int) (a3 : Int) (h : HP) : ∀ r hf, f_J22_sub a1 a2 a3 h = some (r, hf) → Ct l yJ22_sub (ws_ yJ22_sub cJ22_sub 3 (some .int)) 0 0 G h [.int (iI a1), .int (iI a2), .int (iI a3)] (jI r) hf :=
  zz_ofW hl (by decide +kernel) (lv := [(0, LI a1), (1, LI a2), (2, LI a3)]) (by simp [lv_args, lvL, lvV, zz_rfc, zz_rfs, zz_ci, zz_cr, zz_cj, zz_cf, zz_cd]) (by simp [lg_sl, zz_rfc, zz_ci, zz_cr, zz_cj, zz_cf, zz_cd]) (fun _ X => A_J22_sub X a1 a2 a3 h)
-- J22_size java/util/ArrayDeque.size()I
noncomputable def f_J22_size (a0 : Nat) (h : HP) : Option ((Int) × HP) :=
  (rdI h (some a0) [29] 2).bind fun v1 =>
  (rdI h (some a0) [29] 1).bind fun v2 =>
  (rdR h (some a0) [29] 0).bind fun v3 =>
  (alen h v3).bind fun v4 =>
  hb (f_J22_sub v1 v2 v4 h) fun v5 h6 =>
  some (v5, h6)
theorem A_J22_size {M : hp_M} {G : va_G} {h0 : HP} (X : hp_X M G h0 "java/util/ArrayDeque" "size" cJ22_size 1 (some .int) [] 1 30) (a0 : Nat) (h : HP) : vv M G h0 1 (hp_End M G h0) jI h 0 [(0, LR (some a0))] [] (f_J22_size a0 h) := by
  unfold f_J22_size
  refine vv_aload_n (pc := 0) X (kf := 0) (i := 0) rfl 0 rfl dJ22_size_0 ?_
  refine vv_getI (pc := 1) X (fun _ z => by cases List.mem_singleton.mp z; exact fl_J22_20_29) dJ22_size_1 (fun v1 => ?_)
  refine vv_aload_n (pc := 4) X (kf := 0) (i := 0) rfl 0 rfl dJ22_size_4 ?_
  refine vv_getI (pc := 5) X (fun _ z => by cases List.mem_singleton.mp z; exact fl_J22_24_29) dJ22_size_5 (fun v2 => ?_)
  refine vv_aload_n (pc := 8) X (kf := 0) (i := 0) rfl 0 rfl dJ22_size_8 ?_
  refine vv_getR (pc := 9) X (fun _ z => by cases List.mem_singleton.mp z; exact fl_J22_3_29) dJ22_size_9 (fun v3 => ?_)
  refine vv_alen (pc := 12) X dJ22_size_12 (fun v4 => ?_)
  refine vv_callI (pc := 13) (rest := []) (by rfl) (fun r8 k8 e8 => zz_callS X (m_J22_sub (hlM X) _ _ _ _ _ _ e8) q2999 q3000 q163 q3001 nh_J22 rfl (by decide) (by decide) (Nat.le_of_ble_eq_true rfl) dJ22_size_13) (fun v5 h6 => ?_)
  exact vv_iretI X rfl rfl dJ22_size_16
theorem m_J22_size {l : Launch} (hl : l.stackTraces = false) {G : va_G} (a0 : Nat) (h : HP) : ∀ r hf, f_J22_size a0 h = some (r, hf) → Ct l yJ22_size (ws_ yJ22_size cJ22_size 1 (some .int)) 1 30 G h [.ref a0] (jI r) hf :=
  zz_ofW hl (by decide +kernel) (lv := [(0, LR (some a0))]) (by simp [lv_args, lvL, lvV, zz_rfc, zz_rfs, zz_ci, zz_cr, zz_cj, zz_cf, zz_cd]) (by simp [lg_sl, zz_rfc, zz_ci, zz_cr, zz_cj, zz_cf, zz_cd]) (fun _ X => A_J22_size X a0 h)
-- J2_isEmpty java/util/AbstractCollection.isEmpty()Z
noncomputable def dsp_AbstractCollection_size_24_28_29 (b : Nat)  (h : HP) : Option ((Int) × HP) := (clsOf h b).bind fun c => if c = 24 then f_J4_size b  h else if c = 28 then f_J21_size b  h else if c = 29 then f_J22_size b  h else none
theorem Zdsp_AbstractCollection_size_24_28_29 {M : hp_M} {G : va_G} {h0 h : HP} {own nm : String} {cc : ByteArray} {nL F L : Nat} {ret : Option FieldType} {tb : List ExceptionTableEntry} (X : hp_X M G h0 own nm cc nL ret tb F L) {b ix pc : Nat}  {rest : List Value} (q1 : Cond.methodLink own ix (⟨"java/util/AbstractCollection", "size", "()I"⟩ : MethodName) ∈ lw_all) (d : decode cc pc = .ok (.invokevirtual ix, 3)) (hF : 2 ≤ F) (hL : 58 ≤ L) (hr : rest.length ≤ 8) {r8 : Int} {k8 : HP} (e : dsp_AbstractCollection_size_24_28_29 b  h = some (r8, k8)) : zz_run M G h0 nL h pc (pc + 3) ([].reverse ++ .ref b :: rest) rest (jI r8) k8 := by
  unfold dsp_AbstractCollection_size_24_28_29 at e
  obtain ⟨c, hc, e⟩ := Option.bind_eq_some_iff.mp e
  obtain ⟨t9, fs9, g9⟩ := clsOf_some hc
  by_cases z0 : c = 24
  · subst z0
    have e8 : f_J4_size b  h = some (r8, k8) := by simpa using e
    exact zz_callU X (m_J4_size (hlM X) _ _ _ _ e8) g9 rfl q1 q4113 (va_Decl.abs (X.2.1.2.1 _ q2188 rfl)) (by decide) q1124 q4115 q139 q1126 rfl (by omega) (by omega) hr d
  by_cases z1 : c = 28
  · subst z1
    have e8 : f_J21_size b  h = some (r8, k8) := by simpa using e
    exact zz_callU X (m_J21_size (hlM X) _ _ _ _ e8) g9 rfl q1 q4113 (va_Decl.abs (X.2.1.2.1 _ q2188 rfl)) (by decide) q1130 q4116 q162 q1132 rfl (by omega) (by omega) hr d
  by_cases z2 : c = 29
  · subst z2
    have e8 : f_J22_size b  h = some (r8, k8) := by simpa using e
    exact zz_callU X (m_J22_size (hlM X) _ _ _ _ e8) g9 rfl q1 q4113 (va_Decl.abs (X.2.1.2.1 _ q2188 rfl)) (by decide) q2997 q4114 q163 q2998 rfl (by omega) (by omega) hr d
  simp [z0, z1, z2] at e

noncomputable def b_J2_isEmpty_12 (s0 : Int) (h : HP) : Option ((Int) × HP) :=
  rtZ s0 (some (s0, h))
theorem B_J2_isEmpty_12 {M : hp_M} {G : va_G} {h0 : HP} (X : hp_X M G h0 "java/util/AbstractCollection" "isEmpty" cJ2_isEmpty 1 (some .boolean) [] 2 58) (s0 : Int) (h : HP) : vv M G h0 1 (hp_End M G h0) jI h 12 [] [LI s0] (b_J2_isEmpty_12 s0 h) := by
  unfold b_J2_isEmpty_12
  exact vv_iretZ X rfl rfl dJ2_isEmpty_12
noncomputable def f_J2_isEmpty (a0 : Nat) (h : HP) : Option ((Int) × HP) :=
  ((some a0)).bind fun b3 =>
  hb (dsp_AbstractCollection_size_24_28_29 b3 h) fun v1 h2 =>
  iEQ v1 0
    (b_J2_isEmpty_12 1 h2)
    (b_J2_isEmpty_12 0 h2)
theorem A_J2_isEmpty {M : hp_M} {G : va_G} {h0 : HP} (X : hp_X M G h0 "java/util/AbstractCollection" "isEmpty" cJ2_isEmpty 1 (some .boolean) [] 2 58) (a0 : Nat) (h : HP) : vv M G h0 1 (hp_End M G h0) jI h 0 [(0, LR (some a0))] [] (f_J2_isEmpty a0 h) := by
  unfold f_J2_isEmpty
  refine vv_aload_n (pc := 0) X (kf := 0) (i := 0) rfl 0 rfl dJ2_isEmpty_0 ?_
  refine vv_bnd (fun b3 e4 => ?_)
  refine vv_callI (pc := 1) (rest := []) (by rw [e4]; rfl) (fun r8 k8 e8 => Zdsp_AbstractCollection_size_24_28_29 X q2996 dJ2_isEmpty_1 (by decide) (by decide) (Nat.le_of_ble_eq_true rfl) e8) (fun v1 h2 => ?_)
  refine vv_if_ne (pc := 4) (tgt := 11) X dJ2_isEmpty_4 rfl ?_ ?_
  · refine vv_iconst (pc := 11) X dJ2_isEmpty_11 ?_
    exact vv_sub [] (by rfl) (B_J2_isEmpty_12 X _ _)
  · refine vv_iconst (pc := 7) X dJ2_isEmpty_7 ?_
    refine vv_goto (pc := 8) (tgt := 12) X dJ2_isEmpty_8 rfl ?_
    exact vv_sub [] (by rfl) (B_J2_isEmpty_12 X _ _)
theorem m_J2_isEmpty {l : Launch} (hl : l.stackTraces = false) {G : va_G} (a0 : Nat) (h : HP) : ∀ r hf, f_J2_isEmpty a0 h = some (r, hf) → Ct l yJ2_isEmpty (ws_ yJ2_isEmpty cJ2_isEmpty 1 (some .boolean)) 2 58 G h [.ref a0] (jI r) hf :=
  zz_ofW hl (by decide +kernel) (lv := [(0, LR (some a0))]) (by simp [lv_args, lvL, lvV, zz_rfc, zz_rfs, zz_ci, zz_cr, zz_cj, zz_cf, zz_cd]) (by simp [lg_sl, zz_rfc, zz_ci, zz_cr, zz_cj, zz_cf, zz_cd]) (fun _ X => A_J2_isEmpty X a0 h)
-- J21_unlinkLast java/util/LinkedList.unlinkLast(Ljava/util/LinkedList$Node;)Ljava/lang/Object;
noncomputable def b_J21_unlinkLast_42 (x0 : Option Nat) (x2 : Option Nat) (h : HP) : Option ((Option Nat) × HP) :=
  (rdI h x0 [28] 1).bind fun v7 =>
  (wrI h x0 [28] 1 (v7 - 1)).bind fun h8 =>
  (rdI h8 x0 [24, 28] 0).bind fun v9 =>
  (wrI h8 x0 [24, 28] 0 (v9 + 1)).bind fun h10 =>
  some (x2, h10)
theorem B_J21_unlinkLast_42 {M : hp_M} {G : va_G} {h0 : HP} (X : hp_X M G h0 "java/util/LinkedList" "unlinkLast" cJ21_unlinkLast 4 (some (.object "java/lang/Object")) [] 0 0) (x0 : Option Nat) (x2 : Option Nat) (h : HP) : vv M G h0 4 (hp_End M G h0) jR h 42 [(0, LR x0), (2, LR x2)] [] (b_J21_unlinkLast_42 x0 x2 h) := by
  unfold b_J21_unlinkLast_42
  refine vv_aload_n (pc := 42) X (kf := 0) (i := 0) rfl 0 rfl dJ21_unlinkLast_42 ?_
  refine vv_dup (pc := 43) X rfl dJ21_unlinkLast_43 ?_
  refine vv_getI (pc := 44) X (fun _ z => by cases List.mem_singleton.mp z; exact fl_J21_7_28) dJ21_unlinkLast_44 (fun v7 => ?_)
  refine vv_iconst (pc := 47) X dJ21_unlinkLast_47 ?_
  refine vv_isub (pc := 48) X dJ21_unlinkLast_48 ?_
  refine vv_putI (pc := 49) (fin := false) X (fun _ z => by cases List.mem_singleton.mp z; exact fl_J21_7_28) (fun z => nomatch z) (fun z => nomatch z) dJ21_unlinkLast_49 (fun h8 => ?_)
  refine vv_aload_n (pc := 52) X (kf := 0) (i := 0) rfl 0 rfl dJ21_unlinkLast_52 ?_
  refine vv_dup (pc := 53) X rfl dJ21_unlinkLast_53 ?_
  refine vv_getI (pc := 54) X (fun _ z => by rcases List.mem_cons.mp z with rfl | z; exact fl_J21_33_24; cases List.mem_singleton.mp z; exact fl_J21_33_28) dJ21_unlinkLast_54 (fun v9 => ?_)
  refine vv_iconst (pc := 57) X dJ21_unlinkLast_57 ?_
  refine vv_iadd (pc := 58) X dJ21_unlinkLast_58 ?_
  refine vv_putI (pc := 59) (fin := false) X (fun _ z => by rcases List.mem_cons.mp z with rfl | z; exact fl_J21_33_24; cases List.mem_singleton.mp z; exact fl_J21_33_28) (fun z => nomatch z) (fun z => nomatch z) dJ21_unlinkLast_59 (fun h10 => ?_)
  refine vv_aload_n (pc := 62) X (kf := 2) (i := 2) rfl 1 rfl dJ21_unlinkLast_62 ?_
  exact vv_aretO X rfl rfl dJ21_unlinkLast_63
noncomputable def f_J21_unlinkLast (a0 : Nat) (a1 : Option Nat) (h : HP) : Option ((Option Nat) × HP) :=
  (rdR h a1 [31] 0).bind fun v1 =>
  (rdR h a1 [31] 2).bind fun v2 =>
  (wrR h a1 [31] 0 none).bind fun h3 =>
  (wrR h3 a1 [31] 2 none).bind fun h4 =>
  (wrR h4 (some a0) [28] 3 v2).bind fun h5 =>
  rNU v2
    ((wrR h5 (some a0) [28] 2 none).bind fun h11 =>
    b_J21_unlinkLast_42 (some a0) v1 h11)
    ((wrR h5 v2 [31] 1 none).bind fun h6 =>
    b_J21_unlinkLast_42 (some a0) v1 h6)
theorem A_J21_unlinkLast {M : hp_M} {G : va_G} {h0 : HP} (X : hp_X M G h0 "java/util/LinkedList" "unlinkLast" cJ21_unlinkLast 4 (some (.object "java/lang/Object")) [] 0 0) (a0 : Nat) (a1 : Option Nat) (h : HP) : vv M G h0 4 (hp_End M G h0) jR h 0 [(0, LR (some a0)), (1, LR a1)] [] (f_J21_unlinkLast a0 a1 h) := by
  unfold f_J21_unlinkLast
  refine vv_aload_n (pc := 0) X (kf := 1) (i := 1) rfl 1 rfl dJ21_unlinkLast_0 ?_
  refine vv_getR (pc := 1) X (fun _ z => by cases List.mem_singleton.mp z; exact fl_J21_39_31) dJ21_unlinkLast_1 (fun v1 => ?_)
  refine vv_astore_n (pc := 4) (lv' := [(2, LR v1), (0, LR (some a0)), (1, LR a1)]) X (kf := 2) (i := 2) rfl (by decide) rfl dJ21_unlinkLast_4 ?_
  refine vv_aload_n (pc := 5) X (kf := 1) (i := 1) rfl 2 rfl dJ21_unlinkLast_5 ?_
  refine vv_getR (pc := 6) X (fun _ z => by cases List.mem_singleton.mp z; exact fl_J21_30_31) dJ21_unlinkLast_6 (fun v2 => ?_)
  refine vv_astore_n (pc := 9) (lv' := [(3, LR v2), (2, LR v1), (0, LR (some a0)), (1, LR a1)]) X (kf := 3) (i := 3) rfl (by decide) rfl dJ21_unlinkLast_9 ?_
  refine vv_aload_n (pc := 10) X (kf := 1) (i := 1) rfl 3 rfl dJ21_unlinkLast_10 ?_
  refine vv_null (pc := 11) X dJ21_unlinkLast_11 ?_
  refine vv_putR (pc := 12) (ty9 := (.object "java/lang/Object")) (fin := false) X (fun _ z => by cases List.mem_singleton.mp z; exact fl_J21_39_31) (fun z => nomatch z) (fun z => nomatch z) (by decide +kernel) rfl dJ21_unlinkLast_12 (fun h3 => ?_)
  refine vv_aload_n (pc := 15) X (kf := 1) (i := 1) rfl 3 rfl dJ21_unlinkLast_15 ?_
  refine vv_null (pc := 16) X dJ21_unlinkLast_16 ?_
  refine vv_putR (pc := 17) (ty9 := (.object "java/util/LinkedList$Node")) (fin := false) X (fun _ z => by cases List.mem_singleton.mp z; exact fl_J21_30_31) (fun z => nomatch z) (fun z => nomatch z) (by decide +kernel) rfl dJ21_unlinkLast_17 (fun h4 => ?_)
  refine vv_aload_n (pc := 20) X (kf := 0) (i := 0) rfl 2 rfl dJ21_unlinkLast_20 ?_
  refine vv_aload_n (pc := 21) X (kf := 3) (i := 3) rfl 0 rfl dJ21_unlinkLast_21 ?_
  refine vv_putR (pc := 22) (ty9 := (.object "java/util/LinkedList$Node")) (fin := false) X (fun _ z => by cases List.mem_singleton.mp z; exact fl_J21_27_28) (fun z => nomatch z) (fun z => nomatch z) (by decide +kernel) rfl dJ21_unlinkLast_22 (fun h5 => ?_)
  refine vv_aload_n (pc := 25) X (kf := 3) (i := 3) rfl 0 rfl dJ21_unlinkLast_25 ?_
  refine vv_ifnonnull (pc := 26) (tgt := 37) X dJ21_unlinkLast_26 rfl ?_ ?_
  · refine vv_aload_n (pc := 37) X (kf := 3) (i := 3) rfl 0 rfl dJ21_unlinkLast_37 ?_
    refine vv_null (pc := 38) X dJ21_unlinkLast_38 ?_
    refine vv_putR (pc := 39) (ty9 := (.object "java/util/LinkedList$Node")) (fin := false) X (fun _ z => by cases List.mem_singleton.mp z; exact fl_J21_36_31) (fun z => nomatch z) (fun z => nomatch z) (by decide +kernel) rfl dJ21_unlinkLast_39 (fun h6 => ?_)
    exact vv_sub [2, 1] (by rfl) (B_J21_unlinkLast_42 X _ _ _)
  · refine vv_aload_n (pc := 29) X (kf := 0) (i := 0) rfl 2 rfl dJ21_unlinkLast_29 ?_
    refine vv_null (pc := 30) X dJ21_unlinkLast_30 ?_
    refine vv_putR (pc := 31) (ty9 := (.object "java/util/LinkedList$Node")) (fin := false) X (fun _ z => by cases List.mem_singleton.mp z; exact fl_J21_18_28) (fun z => nomatch z) (fun z => nomatch z) (by decide +kernel) rfl dJ21_unlinkLast_31 (fun h11 => ?_)
    refine vv_goto (pc := 34) (tgt := 42) X dJ21_unlinkLast_34 rfl ?_
    exact vv_sub [2, 1] (by rfl) (B_J21_unlinkLast_42 X _ _ _)
theorem m_J21_unlinkLast {l : Launch} (hl : l.stackTraces = false) {G : va_G} (a0 : Nat) (a1 : Option Nat) (h : HP) : ∀ r hf, f_J21_unlinkLast a0 a1 h = some (r, hf) → Ct l yJ21_unlinkLast (ws_ yJ21_unlinkLast cJ21_unlinkLast 4 (some (.object "java/lang/Object"))) 0 0 G h [.ref a0, va_rf a1] (jR r) hf :=
  zz_ofW hl (by decide +kernel) (lv := [(0, LR (some a0)), (1, LR a1)]) (by simp [lv_args, lvL, lvV, zz_rfc, zz_rfs, zz_ci, zz_cr, zz_cj, zz_cf, zz_cd]) (by simp [lg_sl, zz_rfc, zz_ci, zz_cr, zz_cj, zz_cf, zz_cd]) (fun _ X => A_J21_unlinkLast X a0 a1 h)
-- J21_removeLast java/util/LinkedList.removeLast()Ljava/lang/Object;
noncomputable def f_J21_removeLast (a0 : Nat) (h : HP) : Option ((Option Nat) × HP) :=
  (rdR h (some a0) [28] 3).bind fun v1 =>
  rNU v1
    (none)
    ((rcv h (some a0) [28]).bind fun b4 =>
    hb (f_J21_unlinkLast b4 v1 h) fun v2 h3 =>
    some (v2, h3))
theorem A_J21_removeLast {M : hp_M} {G : va_G} {h0 : HP} (X : hp_X M G h0 "java/util/LinkedList" "removeLast" cJ21_removeLast 2 (some (.object "java/lang/Object")) [] 1 31) (a0 : Nat) (h : HP) : vv M G h0 2 (hp_End M G h0) jR h 0 [(0, LR (some a0))] [] (f_J21_removeLast a0 h) := by
  unfold f_J21_removeLast
  refine vv_aload_n (pc := 0) X (kf := 0) (i := 0) rfl 0 rfl dJ21_removeLast_0 ?_
  refine vv_getR (pc := 1) X (fun _ z => by cases List.mem_singleton.mp z; exact fl_J21_27_28) dJ21_removeLast_1 (fun v1 => ?_)
  refine vv_astore_n (pc := 4) (lv' := [(1, LR v1), (0, LR (some a0))]) X (kf := 1) (i := 1) rfl (by decide) rfl dJ21_removeLast_4 ?_
  refine vv_aload_n (pc := 5) X (kf := 1) (i := 1) rfl 0 rfl dJ21_removeLast_5 ?_
  refine vv_ifnonnull (pc := 6) (tgt := 17) X dJ21_removeLast_6 rfl ?_ ?_
  · refine vv_aload_n (pc := 17) X (kf := 0) (i := 0) rfl 1 rfl dJ21_removeLast_17 ?_
    refine vv_aload_n (pc := 18) X (kf := 1) (i := 1) rfl 0 rfl dJ21_removeLast_18 ?_
    refine vv_rcv (fun b4 t9 c9 fs9 e5 g9 k9 => ?_)
    cases List.mem_singleton.mp k9
    refine vv_callR (pc := 19) (rest := []) (by rw [e5]; rfl) (fun r8 k8 e8 => zz_callV X (m_J21_unlinkLast (hlM X) _ _ _ _ _ e8) g9 rfl rfl q3006 q3008 qs43 q162 q3009 nh_J21 rfl (by decide) (by decide) (Nat.le_of_ble_eq_true rfl) dJ21_removeLast_19) (fun v2 h3 => ?_)
    exact vv_aretO X rfl rfl dJ21_removeLast_22
  · exact vv_none
theorem m_J21_removeLast {l : Launch} (hl : l.stackTraces = false) {G : va_G} (a0 : Nat) (h : HP) : ∀ r hf, f_J21_removeLast a0 h = some (r, hf) → Ct l yJ21_removeLast (ws_ yJ21_removeLast cJ21_removeLast 2 (some (.object "java/lang/Object"))) 1 31 G h [.ref a0] (jR r) hf :=
  zz_ofW hl (by decide +kernel) (lv := [(0, LR (some a0))]) (by simp [lv_args, lvL, lvV, zz_rfc, zz_rfs, zz_ci, zz_cr, zz_cj, zz_cf, zz_cd]) (by simp [lg_sl, zz_rfc, zz_ci, zz_cr, zz_cj, zz_cf, zz_cd]) (fun _ X => A_J21_removeLast X a0 h)
-- X1_undo RenamedWords.undo()I
noncomputable def f_X1_undo (a0 : Nat) (h : HP) : Option ((Int) × HP) :=
  (rdR h (some a0) [0] 1).bind fun v1 =>
  (rcv h v1 [28]).bind fun b4 =>
  hb (f_J2_isEmpty b4 h) fun v2 h3 =>
  iEQ v2 0
    ((rdR h3 (some a0) [0] 2).bind fun v6 =>
    (rdR h3 (some a0) [0] 0).bind fun v7 =>
    (rcv h3 v6 [29]).bind fun b10 =>
    hb (f_J22_push b10 v7 h3) fun _ h9 =>
    (rdR h9 (some a0) [0] 1).bind fun v12 =>
    (rcv h9 v12 [28]).bind fun b15 =>
    hb (f_J21_removeLast b15 h9) fun v13 h14 =>
    (chk h14 v13 [1]).bind fun _ =>
    (wrR h14 (some a0) [0] 0 v13).bind fun h17 =>
    (rdR h17 (some a0) [0] 1).bind fun v18 =>
    (rcv h17 v18 [28]).bind fun b21 =>
    hb (f_J21_size b21 h17) fun v19 h20 =>
    some (v19, h20))
    (some ((-1), h3))
theorem A_X1_undo {M : hp_M} {G : va_G} {h0 : HP} (X : hp_X M G h0 "RenamedWords" "undo" cX1_undo 1 (some .int) [] 3 88) (a0 : Nat) (h : HP) : vv M G h0 1 (hp_End M G h0) jI h 0 [(0, LR (some a0))] [] (f_X1_undo a0 h) := by
  unfold f_X1_undo
  refine vv_aload_n (pc := 0) X (kf := 0) (i := 0) rfl 0 rfl dX1_undo_0 ?_
  refine vv_getR (pc := 1) X (fun _ z => by cases List.mem_singleton.mp z; exact fl_X1_42_0) dX1_undo_1 (fun v1 => ?_)
  refine vv_rcv (fun b4 t9 c9 fs9 e5 g9 k9 => ?_)
  cases List.mem_singleton.mp k9
  refine vv_callI (pc := 4) (rest := []) (by rw [e5]; rfl) (fun r8 k8 e8 => zz_callU X (m_J2_isEmpty (hlM X) _ _ _ _ e8) g9 rfl q2990 q2991 (va_Decl.of (X.1.2.2.2.2 _ q2994) (X.1.2.2.2.2 _ q2995)) (by decide) q2994 q2993 q137 q2995 rfl (by decide) (by decide) (Nat.le_of_ble_eq_true rfl) dX1_undo_4) (fun v2 h3 => ?_)
  refine vv_if_eq (pc := 7) (tgt := 12) X dX1_undo_7 rfl ?_ ?_
  · refine vv_aload_n (pc := 12) X (kf := 0) (i := 0) rfl 0 rfl dX1_undo_12 ?_
    refine vv_getR (pc := 13) X (fun _ z => by cases List.mem_singleton.mp z; exact fl_X1_49_0) dX1_undo_13 (fun v6 => ?_)
    refine vv_aload_n (pc := 16) X (kf := 0) (i := 0) rfl 0 rfl dX1_undo_16 ?_
    refine vv_getR (pc := 17) X (fun _ z => by cases List.mem_singleton.mp z; exact fl_X1_35_0) dX1_undo_17 (fun v7 => ?_)
    refine vv_rcv (fun b10 t9 c9 fs9 e11 g9 k9 => ?_)
    cases List.mem_singleton.mp k9
    refine vv_callV (pc := 20) (rest := []) (by rw [e11]; rfl) (fun r8 k8 e8 => zz_callV X (m_J22_push (hlM X) _ _ _ _ _ e8) g9 rfl rfl q2442 q2443 q2444 q163 q2445 nh_J22 rfl (by decide) (by decide) (Nat.le_of_ble_eq_true rfl) dX1_undo_20) (fun v8 h9 => ?_)
    refine vv_aload_n (pc := 23) X (kf := 0) (i := 0) rfl 0 rfl dX1_undo_23 ?_
    refine vv_aload_n (pc := 24) X (kf := 0) (i := 0) rfl 0 rfl dX1_undo_24 ?_
    refine vv_getR (pc := 25) X (fun _ z => by cases List.mem_singleton.mp z; exact fl_X1_42_0) dX1_undo_25 (fun v12 => ?_)
    refine vv_rcv (fun b15 t9 c9 fs9 e16 g9 k9 => ?_)
    cases List.mem_singleton.mp k9
    refine vv_callR (pc := 28) (rest := [LR (some a0)]) (by rw [e16]; rfl) (fun r8 k8 e8 => zz_callV X (m_J21_removeLast (hlM X) _ _ _ _ e8) g9 rfl rfl q3002 q3003 q3004 q162 q3005 nh_J21 rfl (by decide) (by decide) (Nat.le_of_ble_eq_true rfl) dX1_undo_28) (fun v13 h14 => ?_)
    refine vv_checkcast (pc := 31) X ⟨q217, (fun _ z => by cases List.mem_singleton.mp z; exact ⟨_, rfl, Or.inl rfl⟩)⟩ dX1_undo_31 ?_
    refine vv_putR (pc := 34) (ty9 := (.object "RenamedWords$Desk")) (fin := false) X (fun _ z => by cases List.mem_singleton.mp z; exact fl_X1_35_0) (fun z => nomatch z) (fun z => nomatch z) (by decide +kernel) rfl dX1_undo_34 (fun h17 => ?_)
    refine vv_aload_n (pc := 37) X (kf := 0) (i := 0) rfl 0 rfl dX1_undo_37 ?_
    refine vv_getR (pc := 38) X (fun _ z => by cases List.mem_singleton.mp z; exact fl_X1_42_0) dX1_undo_38 (fun v18 => ?_)
    refine vv_rcv (fun b21 t9 c9 fs9 e22 g9 k9 => ?_)
    cases List.mem_singleton.mp k9
    refine vv_callI (pc := 41) (rest := []) (by rw [e22]; rfl) (fun r8 k8 e8 => zz_callV X (m_J21_size (hlM X) _ _ _ _ e8) g9 rfl rfl q2431 q1130 q4109 q162 q1132 nh_J21 rfl (by decide) (by decide) (Nat.le_of_ble_eq_true rfl) dX1_undo_41) (fun v19 h20 => ?_)
    exact vv_iretI X rfl rfl dX1_undo_44
  · refine vv_iconst (pc := 10) X dX1_undo_10 ?_
    exact vv_iretI X rfl rfl dX1_undo_11
theorem m_X1_undo {l : Launch} (hl : l.stackTraces = false) {G : va_G} (a0 : Nat) (h : HP) : ∀ r hf, f_X1_undo a0 h = some (r, hf) → Ct l yX1_undo (ws_ yX1_undo cX1_undo 1 (some .int)) 3 88 G h [.ref a0] (jI r) hf :=
  zz_ofW hl (by decide +kernel) (lv := [(0, LR (some a0))]) (by simp [lv_args, lvL, lvV, zz_rfc, zz_rfs, zz_ci, zz_cr, zz_cj, zz_cf, zz_cd]) (by simp [lg_sl, zz_rfc, zz_ci, zz_cr, zz_cj, zz_cf, zz_cd]) (fun _ X => A_X1_undo X a0 h)
-- X9_undo RenamedWordsModel.undo()I
noncomputable def f_X9_undo (a0 : Nat) (h : HP) : Option ((Int) × HP) :=
  (wrI h (some a0) [7] 7 0).bind fun h1 =>
  (rdI h1 (some a0) [7] 6).bind fun v2 =>
  iEQ v2 0
    (some ((-1), h1))
    ((rdI h1 (some a0) [7] 6).bind fun v3 =>
    (wrI h1 (some a0) [7] 6 (v3 - 1)).bind fun h4 =>
    (rdR h4 (some a0) [7] 3).bind fun v5 =>
    (rdI h4 (some a0) [7] 6).bind fun v6 =>
    (rdR h4 (some a0) [7] 0).bind fun v7 =>
    hb (f_X9_lays v5 (576 * v6) v7 0 h4) fun _ h9 =>
    (rdI h9 (some a0) [7] 6).bind fun v10 =>
    some (v10, h9))
theorem A_X9_undo {M : hp_M} {G : va_G} {h0 : HP} (X : hp_X M G h0 "RenamedWordsModel" "undo" cX9_undo 1 (some .int) [] 1 32) (a0 : Nat) (h : HP) : vv M G h0 1 (hp_End M G h0) jI h 0 [(0, LR (some a0))] [] (f_X9_undo a0 h) := by
  unfold f_X9_undo
  refine vv_aload_n (pc := 0) X (kf := 0) (i := 0) rfl 0 rfl dX9_undo_0 ?_
  refine vv_iconst (pc := 1) X dX9_undo_1 ?_
  refine vv_putI (pc := 2) (fin := false) X (fun _ z => by cases List.mem_singleton.mp z; exact fl_X9_69_7) (fun z => nomatch z) (fun z => nomatch z) dX9_undo_2 (fun h1 => ?_)
  refine vv_aload_n (pc := 5) X (kf := 0) (i := 0) rfl 0 rfl dX9_undo_5 ?_
  refine vv_getI (pc := 6) X (fun _ z => by cases List.mem_singleton.mp z; exact fl_X9_264_7) dX9_undo_6 (fun v2 => ?_)
  refine vv_if_ne (pc := 9) (tgt := 14) X dX9_undo_9 rfl ?_ ?_
  · refine vv_aload_n (pc := 14) X (kf := 0) (i := 0) rfl 0 rfl dX9_undo_14 ?_
    refine vv_dup (pc := 15) X rfl dX9_undo_15 ?_
    refine vv_getI (pc := 16) X (fun _ z => by cases List.mem_singleton.mp z; exact fl_X9_264_7) dX9_undo_16 (fun v3 => ?_)
    refine vv_iconst (pc := 19) X dX9_undo_19 ?_
    refine vv_isub (pc := 20) X dX9_undo_20 ?_
    refine vv_putI (pc := 21) (fin := false) X (fun _ z => by cases List.mem_singleton.mp z; exact fl_X9_264_7) (fun z => nomatch z) (fun z => nomatch z) dX9_undo_21 (fun h4 => ?_)
    refine vv_aload_n (pc := 24) X (kf := 0) (i := 0) rfl 0 rfl dX9_undo_24 ?_
    refine vv_getR (pc := 25) X (fun _ z => by cases List.mem_singleton.mp z; exact fl_X9_19_7) dX9_undo_25 (fun v5 => ?_)
    refine vv_sipush (pc := 28) X (by decide) dX9_undo_28 ?_
    refine vv_aload_n (pc := 31) X (kf := 0) (i := 0) rfl 0 rfl dX9_undo_31 ?_
    refine vv_getI (pc := 32) X (fun _ z => by cases List.mem_singleton.mp z; exact fl_X9_264_7) dX9_undo_32 (fun v6 => ?_)
    refine vv_imul (pc := 35) X dX9_undo_35 ?_
    refine vv_aload_n (pc := 36) X (kf := 0) (i := 0) rfl 0 rfl dX9_undo_36 ?_
    refine vv_getR (pc := 37) X (fun _ z => by cases List.mem_singleton.mp z; exact fl_X9_9_7) dX9_undo_37 (fun v7 => ?_)
    refine vv_iconst (pc := 40) X dX9_undo_40 ?_
    refine vv_callV (pc := 41) (rest := []) (by rfl) (fun r8 k8 e8 => zz_callS X (m_X9_lays (hlM X) _ _ _ _ _ _ _ e8) q3574 q3575 q164 q3576 nh_X9 rfl (by decide) (by decide) (Nat.le_of_ble_eq_true rfl) dX9_undo_41) (fun v8 h9 => ?_)
    refine vv_aload_n (pc := 44) X (kf := 0) (i := 0) rfl 0 rfl dX9_undo_44 ?_
    refine vv_getI (pc := 45) X (fun _ z => by cases List.mem_singleton.mp z; exact fl_X9_264_7) dX9_undo_45 (fun v10 => ?_)
    exact vv_iretI X rfl rfl dX9_undo_48
  · refine vv_iconst (pc := 12) X dX9_undo_12 ?_
    exact vv_iretI X rfl rfl dX9_undo_13
theorem m_X9_undo {l : Launch} (hl : l.stackTraces = false) {G : va_G} (a0 : Nat) (h : HP) : ∀ r hf, f_X9_undo a0 h = some (r, hf) → Ct l yX9_undo (ws_ yX9_undo cX9_undo 1 (some .int)) 1 32 G h [.ref a0] (jI r) hf :=
  zz_ofW hl (by decide +kernel) (lv := [(0, LR (some a0))]) (by simp [lv_args, lvL, lvV, zz_rfc, zz_rfs, zz_ci, zz_cr, zz_cj, zz_cf, zz_cd]) (by simp [lg_sl, zz_rfc, zz_ci, zz_cr, zz_cj, zz_cf, zz_cd]) (fun _ X => A_X9_undo X a0 h)
-- X1_slot RenamedWords.slot(I)V
noncomputable def f_X1_slot (a1 : Int) (h : HP) : Option ((Nat ⊕ Unit) × HP) :=
  hb (f_X1_in (iL a1) 0 1 h) fun v1 h2 =>
  hbx (f_X1_argument v1 h2) (fun q5 h6 =>
      some (.inl q5, h6)) fun _ h4 =>
  some (.inr (), h4)
theorem A_X1_slot {M : hp_M} {G : va_G} {h0 : HP} (X : hp_X M G h0 "RenamedWords" "slot" cX1_slot 1 none [] 7 125) (a1 : Int) (h : HP) : vv M G h0 1 (hp_End M G h0) xV h 0 [(0, LI a1)] [] (f_X1_slot a1 h) := by
  unfold f_X1_slot
  refine vv_iload_n (pc := 0) X (kf := 0) (i := 0) rfl 0 rfl dX1_slot_0 ?_
  refine vv_i2l (pc := 1) X dX1_slot_1 ?_
  refine vv_lconst (pc := 2) (v := 0) X (by decide) dX1_slot_2 ?_
  refine vv_lconst (pc := 3) (v := 1) X (by decide) dX1_slot_3 ?_
  refine vv_callI (pc := 4) (rest := []) (by rfl) (fun r8 k8 e8 => zz_callS X (m_X1_in (hlM X) _ _ _ _ _ _ e8) q2984 q873 q132 q874 nh_X1 rfl (by decide) (by decide) (Nat.le_of_ble_eq_true rfl) dX1_slot_4) (fun v1 h2 => ?_)
  refine vv_xallV (pc := 7) (rest := []) (by rfl) (fun r8 k8 e8 => zz_callS X (m_X1_argument (hlM X) _ _ _ _ e8) q3090 q3091 q132 q3092 nh_X1 rfl (by decide) (by decide) (Nat.le_of_ble_eq_true rfl) dX1_slot_7) (fun v3 h4 => ?_) (fun q5 h6 => ?_)
  · exact vv_vreturn X rfl rfl dX1_slot_10
  · exact vvx_out X (by decide) rfl
theorem m_X1_slot {l : Launch} (hl : l.stackTraces = false) {G : va_G} (a1 : Int) (h : HP) : ∀ r hf, f_X1_slot a1 h = some (r, hf) → Ct l yX1_slot (ws_ yX1_slot cX1_slot 1 none) 7 125 G h [.int (iI a1)] (xV r) hf :=
  zz_ofW hl (by decide +kernel) (lv := [(0, LI a1)]) (by simp [lv_args, lvL, lvV, zz_rfc, zz_rfs, zz_ci, zz_cr, zz_cj, zz_cf, zz_cd]) (by simp [lg_sl, zz_rfc, zz_ci, zz_cr, zz_cj, zz_cf, zz_cd]) (fun _ X => A_X1_slot X a1 h)
-- X1_save RenamedWords.save(I)I
noncomputable def f_X1_save (a0 : Nat) (a1 : Int) (h : HP) : Option ((Nat ⊕ Int) × HP) :=
  hbx (f_X1_slot a1 h) (fun q3 h4 =>
      some (.inl q3, h4)) fun _ h2 =>
  (rdR h2 (some a0) [0] 3).bind fun v5 =>
  (rdR h2 (some a0) [0] 0).bind fun v6 =>
  (rcv h2 v6 [1]).bind fun b9 =>
  hb (f_X2_copy b9 h2) fun v7 h8 =>
  (astR h8 "RenamedWords$Desk" [1] v5 a1 v7).bind fun h11 =>
  (rdR h11 (some a0) [0] 0).bind fun v12 =>
  (rdR h11 v12 [1] 0).bind fun v13 =>
  (rdI h11 v13 [3] 3).bind fun v14 =>
  some (.inr v14, h11)
theorem A_X1_save {M : hp_M} {G : va_G} {h0 : HP} (X : hp_X M G h0 "RenamedWords" "save" cX1_save 2 (some .int) [] 8 188) (a0 : Nat) (a1 : Int) (h : HP) : vv M G h0 2 (hp_End M G h0) xI h 0 [(0, LR (some a0)), (1, LI a1)] [] (f_X1_save a0 a1 h) := by
  unfold f_X1_save
  refine vv_iload_n (pc := 0) X (kf := 1) (i := 1) rfl 1 rfl dX1_save_0 ?_
  refine vv_xallV (pc := 1) (rest := []) (by rfl) (fun r8 k8 e8 => zz_callS X (m_X1_slot (hlM X) _ _ _ _ e8) q3428 q3429 q132 q3430 nh_X1 rfl (by decide) (by decide) (Nat.le_of_ble_eq_true rfl) dX1_save_1) (fun v1 h2 => ?_) (fun q3 h4 => ?_)
  · refine vv_aload_n (pc := 4) X (kf := 0) (i := 0) rfl 0 rfl dX1_save_4 ?_
    refine vv_getR (pc := 5) X (fun _ z => by cases List.mem_singleton.mp z; exact fl_X1_55_0) dX1_save_5 (fun v5 => ?_)
    refine vv_iload_n (pc := 8) X (kf := 1) (i := 1) rfl 1 rfl dX1_save_8 ?_
    refine vv_aload_n (pc := 9) X (kf := 0) (i := 0) rfl 0 rfl dX1_save_9 ?_
    refine vv_getR (pc := 10) X (fun _ z => by cases List.mem_singleton.mp z; exact fl_X1_35_0) dX1_save_10 (fun v6 => ?_)
    refine vv_rcv (fun b9 t9 c9 fs9 e10 g9 k9 => ?_)
    cases List.mem_singleton.mp k9
    refine vv_callR (pc := 13) (rest := [LI a1, LR v5]) (by rw [e10]; rfl) (fun r8 k8 e8 => zz_callV X (m_X2_copy (hlM X) _ _ _ _ e8) g9 rfl rfl q2127 q2128 q2129 q133 q2130 nh_X2 rfl (by decide) (by decide) (Nat.le_of_ble_eq_true rfl) dX1_save_13) (fun v7 h8 => ?_)
    refine vv_aastore (pc := 16) X (fun _ z => by cases List.mem_singleton.mp z; exact ca_RenamedWords_Desk_1) dX1_save_16 (fun h11 => ?_)
    refine vv_aload_n (pc := 17) X (kf := 0) (i := 0) rfl 0 rfl dX1_save_17 ?_
    refine vv_getR (pc := 18) X (fun _ z => by cases List.mem_singleton.mp z; exact fl_X1_35_0) dX1_save_18 (fun v12 => ?_)
    refine vv_getR (pc := 21) X (fun _ z => by cases List.mem_singleton.mp z; exact fl_X1_79_1) dX1_save_21 (fun v13 => ?_)
    refine vv_getI (pc := 24) X (fun _ z => by cases List.mem_singleton.mp z; exact fl_X1_83_3) dX1_save_24 (fun v14 => ?_)
    exact vv_iretI X rfl rfl dX1_save_27
  · exact vvx_out X (by decide) rfl
theorem m_X1_save {l : Launch} (hl : l.stackTraces = false) {G : va_G} (a0 : Nat) (a1 : Int) (h : HP) : ∀ r hf, f_X1_save a0 a1 h = some (r, hf) → Ct l yX1_save (ws_ yX1_save cX1_save 2 (some .int)) 8 188 G h [.ref a0, .int (iI a1)] (xI r) hf :=
  zz_ofW hl (by decide +kernel) (lv := [(0, LR (some a0)), (1, LI a1)]) (by simp [lv_args, lvL, lvV, zz_rfc, zz_rfs, zz_ci, zz_cr, zz_cj, zz_cf, zz_cd]) (by simp [lg_sl, zz_rfc, zz_ci, zz_cr, zz_cj, zz_cf, zz_cd]) (fun _ X => A_X1_save X a0 a1 h)
-- X0_save RenamedWordsLaw.save(LRenamedWords;I[J)I
noncomputable def b_X0_save_12 (s0 : Option Nat) (h : HP) : Option ((Int) × HP) :=
  some (1, h)
theorem B_X0_save_12 {M : hp_M} {G : va_G} {h0 : HP} (X : hp_X M G h0 "RenamedWordsLaw" "save" cX0_save 4 (some .int) (tableOf [(0, 9, 12, 13)]) 9 217) (s0 : Option Nat) (h : HP) : vv M G h0 4 (hp_End M G h0) jI h 12 [] [LR s0] (b_X0_save_12 s0 h) := by
  unfold b_X0_save_12
  refine vv_astore_n (pc := 12) (lv' := [(3, LR s0)]) X (kf := 3) (i := 3) rfl (by decide) rfl dX0_save_12 ?_
  refine vv_iconst (pc := 13) X dX0_save_13 ?_
  exact vv_iretI X rfl rfl dX0_save_14
noncomputable def f_X0_save (a1 : Option Nat) (a2 : Int) (a3 : Option Nat) (h : HP) : Option ((Int) × HP) :=
  (rcv h a1 [0]).bind fun b3 =>
  hbx (f_X1_save b3 a2 h) (fun q5 h6 =>
      (clsOf h6 q5).bind fun c7 =>
      if c7 = 36 then
        b_X0_save_12 (some q5) h6
      else
        none) fun v1 h2 =>
  (astJ h2 a3 0 (iL v1)).bind fun h8 =>
  some (0, h8)
theorem A_X0_save {M : hp_M} {G : va_G} {h0 : HP} (X : hp_X M G h0 "RenamedWordsLaw" "save" cX0_save 4 (some .int) (tableOf [(0, 9, 12, 13)]) 9 217) (a1 : Option Nat) (a2 : Int) (a3 : Option Nat) (h : HP) : vv M G h0 4 (hp_End M G h0) jI h 0 [(0, LR a1), (1, LI a2), (2, LR a3)] [] (f_X0_save a1 a2 a3 h) := by
  unfold f_X0_save
  refine vv_aload_n (pc := 0) X (kf := 2) (i := 2) rfl 2 rfl dX0_save_0 ?_
  refine vv_iconst (pc := 1) X dX0_save_1 ?_
  refine vv_aload_n (pc := 2) X (kf := 0) (i := 0) rfl 0 rfl dX0_save_2 ?_
  refine vv_iload_n (pc := 3) X (kf := 1) (i := 1) rfl 1 rfl dX0_save_3 ?_
  refine vv_rcv (fun b3 t9 c9 fs9 e4 g9 k9 => ?_)
  cases List.mem_singleton.mp k9
  refine vv_xallI (pc := 4) (rest := [LI 0, LR a3]) (by rw [e4]; rfl) (fun r8 k8 e8 => zz_callV X (m_X1_save (hlM X) _ _ _ _ _ e8) g9 rfl rfl q3424 q3425 q3426 q132 q3427 nh_X1 rfl (by decide) (by decide) (Nat.le_of_ble_eq_true rfl) dX0_save_4) (fun v1 h2 => ?_) (fun q5 h6 => ?_)
  · refine vv_i2l (pc := 7) X dX0_save_7 ?_
    refine vv_lastore (pc := 8) X dX0_save_8 (fun h8 => ?_)
    refine vv_goto (pc := 9) (tgt := 15) X dX0_save_9 rfl ?_
    refine vv_iconst (pc := 15) X dX0_save_15 ?_
    exact vv_iretI X rfl rfl dX0_save_16
  · refine vvx_cls (fun _ c7 _ g9 => ?_)
    refine vvx_if (fun e9 => ?_) (fun _ => ?_)
    · subst e9
      refine vvx_catch X g9 rfl [] ⟨0, 9, 12, 13⟩ [] rfl (fun z hz => nomatch hz) rfl (by decide) q3013 q275 ?_
      exact vv_sub [] (by rfl) (B_X0_save_12 X _ _)
    · exact vvx_none
theorem m_X0_save {l : Launch} (hl : l.stackTraces = false) {G : va_G} (a1 : Option Nat) (a2 : Int) (a3 : Option Nat) (h : HP) : ∀ r hf, f_X0_save a1 a2 a3 h = some (r, hf) → Ct l yX0_save (wsW_ yX0_save cX0_save 4 (some .int) [(0, 9, 12, 13)]) 9 217 G h [va_rf a1, .int (iI a2), va_rf a3] (jI r) hf :=
  zz_ofWH hl (by decide +kernel) (lv := [(0, LR a1), (1, LI a2), (2, LR a3)]) (by simp [lv_args, lvL, lvV, zz_rfc, zz_rfs, zz_ci, zz_cr, zz_cj, zz_cf, zz_cd]) (by simp [lg_sl, zz_rfc, zz_ci, zz_cr, zz_cj, zz_cf, zz_cd]) (fun _ X => A_X0_save X a1 a2 a3 h)
