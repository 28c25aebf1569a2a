/-! STAGE 1c: functions and contracts (printed by gen/mkfuncs.py). -/
set_option maxRecDepth 100000
set_option linter.unusedVariables false
-- J22_circularClear java/util/ArrayDeque.circularClear([Ljava/lang/Object;II)V
noncomputable def c_J22_circularClear_12 (r12 : Option Nat → Int → Int → Int → HP → Option ((Unit) × HP)) (x0 : Option Nat) (x1 : Int) (x2 : Int) (x3 : Int) (h : HP) : Option ((Unit) × HP) :=
  iLE x3 x1
    (iEQ x3 x2
      (some ((), h))
      (r12 x0 0 x2 x2 h))
    ((astR h "java/lang/Object" [1, 26] x0 x1 none).bind fun h2 =>
    r12 x0 (x1 + 1) x2 x3 h2)
noncomputable def b_J22_circularClear_12 : Option Nat → Int → Int → Int → HP → Option ((Unit) × HP) := fx (fun _ _ _ _ _ => none) (c_J22_circularClear_12) FU
theorem C_J22_circularClear_12 {M : hp_M} {G : va_G} {h0 : HP} (X : hp_X M G h0 "java/util/ArrayDeque" "circularClear" cJ22_circularClear 4 none [] 0 0) (r12 : Option Nat → Int → Int → Int → HP → Option ((Unit) × HP)) (hr12 : ∀ (y0 : Option Nat) (y1 : Int) (y2 : Int) (y3 : Int) (h : HP), vv M G h0 4 (hp_End M G h0) jV h 12 [(0, LR y0), (1, LI y1), (2, LI y2), (3, LI y3)] [] (r12 y0 y1 y2 y3 h)) (x0 : Option Nat) (x1 : Int) (x2 : Int) (x3 : Int) (h : HP) : vv M G h0 4 (hp_End M G h0) jV h 12 [(0, LR x0), (1, LI x1), (2, LI x2), (3, LI x3)] [] (c_J22_circularClear_12 r12 x0 x1 x2 x3 h) := by
  unfold c_J22_circularClear_12
  refine vv_iload_n (pc := 12) X (kf := 1) (i := 1) rfl 1 rfl dJ22_circularClear_12 ?_
  refine vv_iload_n (pc := 13) X (kf := 3) (i := 3) rfl 3 rfl dJ22_circularClear_13 ?_
  refine vv_icmp_ge (pc := 14) (tgt := 27) X dJ22_circularClear_14 rfl ?_ ?_
  · refine vv_iload_n (pc := 27) X (kf := 3) (i := 3) rfl 3 rfl dJ22_circularClear_27 ?_
    refine vv_iload_n (pc := 28) X (kf := 2) (i := 2) rfl 2 rfl dJ22_circularClear_28 ?_
    refine vv_icmp_ne (pc := 29) (tgt := 35) X dJ22_circularClear_29 rfl ?_ ?_
    · refine vv_iconst (pc := 35) X dJ22_circularClear_35 ?_
      refine vv_istore_n (pc := 36) (lv' := [(1, LI 0), (0, LR x0), (2, LI x2), (3, LI x3)]) X (kf := 1) (i := 1) rfl (by decide) rfl dJ22_circularClear_36 ?_
      refine vv_iload_n (pc := 37) X (kf := 2) (i := 2) rfl 2 rfl dJ22_circularClear_37 ?_
      refine vv_istore_n (pc := 38) (lv' := [(3, LI x2), (1, LI 0), (0, LR x0), (2, LI x2)]) X (kf := 3) (i := 3) rfl (by decide) rfl dJ22_circularClear_38 ?_
      refine vv_goto (pc := 39) (tgt := 12) X dJ22_circularClear_39 rfl ?_
      exact vv_sub [2, 1, 3, 0] (by rfl) (hr12 _ _ _ _ _)
    · refine vv_goto (pc := 32) (tgt := 42) X dJ22_circularClear_32 rfl ?_
      exact vv_vreturn X rfl rfl dJ22_circularClear_42
  · refine vv_aload_n (pc := 17) X (kf := 0) (i := 0) rfl 0 rfl dJ22_circularClear_17 ?_
    refine vv_iload_n (pc := 18) X (kf := 1) (i := 1) rfl 1 rfl dJ22_circularClear_18 ?_
    refine vv_null (pc := 19) X dJ22_circularClear_19 ?_
    refine vv_aastore (pc := 20) X (fun _ z => by rcases List.mem_cons.mp z with rfl | z; exact ca_java_lang_Object_1; cases List.mem_singleton.mp z; exact ca_java_lang_Object_26) dJ22_circularClear_20 (fun h2 => ?_)
    refine vv_iinc (pc := 21) (lv' := [(1, LI (x1 + 1)), (0, LR x0), (2, LI x2), (3, LI x3)]) X 1 rfl (by decide) rfl dJ22_circularClear_21 ?_
    refine vv_goto (pc := 24) (tgt := 12) X dJ22_circularClear_24 rfl ?_
    exact vv_sub [1, 0, 2, 3] (by rfl) (hr12 _ _ _ _ _)
theorem B_J22_circularClear_12 {M : hp_M} {G : va_G} {h0 : HP} (X : hp_X M G h0 "java/util/ArrayDeque" "circularClear" cJ22_circularClear 4 none [] 0 0) : ∀ (x0 : Option Nat) (x1 : Int) (x2 : Int) (x3 : Int) (h : HP), vv M G h0 4 (hp_End M G h0) jV h 12 [(0, LR x0), (1, LI x1), (2, LI x2), (3, LI x3)] [] (b_J22_circularClear_12 x0 x1 x2 x3 h) := by
  unfold b_J22_circularClear_12
  generalize FU = n
  induction n with
  | zero => intro x0 x1 x2 x3 h; exact vv_none
  | succ n ih => exact C_J22_circularClear_12 X _ ih
noncomputable def b_J22_circularClear_11 (x0 : Option Nat) (x1 : Int) (x2 : Int) (s0 : Int) (h : HP) : Option ((Unit) × HP) :=
  b_J22_circularClear_12 x0 x1 x2 s0 h
theorem B_J22_circularClear_11 {M : hp_M} {G : va_G} {h0 : HP} (X : hp_X M G h0 "java/util/ArrayDeque" "circularClear" cJ22_circularClear 4 none [] 0 0) (x0 : Option Nat) (x1 : Int) (x2 : Int) (s0 : Int) (h : HP) : vv M G h0 4 (hp_End M G h0) jV h 11 [(0, LR x0), (1, LI x1), (2, LI x2)] [LI s0] (b_J22_circularClear_11 x0 x1 x2 s0 h) := by
  unfold b_J22_circularClear_11
  refine vv_istore_n (pc := 11) (lv' := [(3, LI s0), (0, LR x0), (1, LI x1), (2, LI x2)]) X (kf := 3) (i := 3) rfl (by decide) rfl dJ22_circularClear_11 ?_
  exact vv_sub [1, 2, 3, 0] (by rfl) (B_J22_circularClear_12 X _ _ _ _ _)
noncomputable def f_J22_circularClear (a1 : Option Nat) (a2 : Int) (a3 : Int) (h : HP) : Option ((Unit) × HP) :=
  iLT a3 a2
    ((alen h a1).bind fun v1 =>
    b_J22_circularClear_11 a1 a2 a3 v1 h)
    (b_J22_circularClear_11 a1 a2 a3 a3 h)
theorem A_J22_circularClear {M : hp_M} {G : va_G} {h0 : HP} (X : hp_X M G h0 "java/util/ArrayDeque" "circularClear" cJ22_circularClear 4 none [] 0 0) (a1 : Option Nat) (a2 : Int) (a3 : Int) (h : HP) : vv M G h0 4 (hp_End M G h0) jV h 0 [(0, LR a1), (1, LI a2), (2, LI a3)] [] (f_J22_circularClear a1 a2 a3 h) := by
  unfold f_J22_circularClear
  refine vv_iload_n (pc := 0) X (kf := 1) (i := 1) rfl 1 rfl dJ22_circularClear_0 ?_
  refine vv_iload_n (pc := 1) X (kf := 2) (i := 2) rfl 2 rfl dJ22_circularClear_1 ?_
  refine vv_icmp_gt (pc := 2) (tgt := 9) X dJ22_circularClear_2 rfl ?_ ?_
  · refine vv_aload_n (pc := 9) X (kf := 0) (i := 0) rfl 0 rfl dJ22_circularClear_9 ?_
    refine vv_alen (pc := 10) X dJ22_circularClear_10 (fun v1 => ?_)
    exact B_J22_circularClear_11 X _ _ _ _ _
  · refine vv_iload_n (pc := 5) X (kf := 2) (i := 2) rfl 2 rfl dJ22_circularClear_5 ?_
    refine vv_goto (pc := 6) (tgt := 11) X dJ22_circularClear_6 rfl ?_
    exact B_J22_circularClear_11 X _ _ _ _ _
theorem m_J22_circularClear {l : Launch} (hl : l.stackTraces = false) {G : va_G} (a1 : Option Nat) (a2 : Int) (a3 : Int) (h : HP) : ∀ r hf, f_J22_circularClear a1 a2 a3 h = some (r, hf) → Ct l yJ22_circularClear (ws_ yJ22_circularClear cJ22_circularClear 4 none) 0 0 G h [va_rf a1, .int (iI a2), .int (iI a3)] (jV r) hf :=
  zz_ofW hl (by decide +kernel) (lv := [(0, LR a1), (1, LI a2), (2, LI a3)]) (by simp [lv_args, lvL, lvV, zz_rfc, zz_rfs, zz_ci, zz_cr, zz_cj, zz_cf, zz_cd]) (by simp [lg_sl, zz_rfc, zz_ci, zz_cr, zz_cj, zz_cf, zz_cd]) (fun _ X => A_J22_circularClear X a1 a2 a3 h)
-- J22_clear java/util/ArrayDeque.clear()V
noncomputable def f_J22_clear (a0 : Nat) (h : HP) : Option ((Unit) × HP) :=
  (rdR h (some a0) [29] 0).bind fun v1 =>
  (rdI h (some a0) [29] 1).bind fun v2 =>
  (rdI h (some a0) [29] 2).bind fun v3 =>
  hb (f_J22_circularClear v1 v2 v3 h) fun _ h5 =>
  (wrI h5 (some a0) [29] 2 0).bind fun h6 =>
  (wrI h6 (some a0) [29] 1 0).bind fun h7 =>
  some ((), h7)
theorem A_J22_clear {M : hp_M} {G : va_G} {h0 : HP} (X : hp_X M G h0 "java/util/ArrayDeque" "clear" cJ22_clear 1 none [] 1 31) (a0 : Nat) (h : HP) : vv M G h0 1 (hp_End M G h0) jV h 0 [(0, LR (some a0))] [] (f_J22_clear a0 h) := by
  unfold f_J22_clear
  refine vv_aload_n (pc := 0) X (kf := 0) (i := 0) rfl 0 rfl dJ22_clear_0 ?_
  refine vv_getR (pc := 1) X (fun _ z => by cases List.mem_singleton.mp z; exact fl_J22_3_29) dJ22_clear_1 (fun v1 => ?_)
  refine vv_aload_n (pc := 4) X (kf := 0) (i := 0) rfl 0 rfl dJ22_clear_4 ?_
  refine vv_getI (pc := 5) X (fun _ z => by cases List.mem_singleton.mp z; exact fl_J22_24_29) dJ22_clear_5 (fun v2 => ?_)
  refine vv_aload_n (pc := 8) X (kf := 0) (i := 0) rfl 0 rfl dJ22_clear_8 ?_
  refine vv_getI (pc := 9) X (fun _ z => by cases List.mem_singleton.mp z; exact fl_J22_20_29) dJ22_clear_9 (fun v3 => ?_)
  refine vv_callV (pc := 12) (rest := []) (by rfl) (fun r8 k8 e8 => zz_callS X (m_J22_circularClear (hlM X) _ _ _ _ _ _ e8) q1833 q1834 q163 q1835 nh_J22 rfl (by decide) (by decide) (Nat.le_of_ble_eq_true rfl) dJ22_clear_12) (fun v4 h5 => ?_)
  refine vv_aload_n (pc := 15) X (kf := 0) (i := 0) rfl 0 rfl dJ22_clear_15 ?_
  refine vv_aload_n (pc := 16) X (kf := 0) (i := 0) rfl 0 rfl dJ22_clear_16 ?_
  refine vv_iconst (pc := 17) X dJ22_clear_17 ?_
  refine vv_dup_x1 (pc := 18) X rfl rfl dJ22_clear_18 ?_
  refine vv_putI (pc := 19) (fin := false) X (fun _ z => by cases List.mem_singleton.mp z; exact fl_J22_20_29) (fun z => nomatch z) (fun z => nomatch z) dJ22_clear_19 (fun h6 => ?_)
  refine vv_putI (pc := 22) (fin := false) X (fun _ z => by cases List.mem_singleton.mp z; exact fl_J22_24_29) (fun z => nomatch z) (fun z => nomatch z) dJ22_clear_22 (fun h7 => ?_)
  exact vv_vreturn X rfl rfl dJ22_clear_25
theorem m_J22_clear {l : Launch} (hl : l.stackTraces = false) {G : va_G} (a0 : Nat) (h : HP) : ∀ r hf, f_J22_clear a0 h = some (r, hf) → Ct l yJ22_clear (ws_ yJ22_clear cJ22_clear 1 none) 1 31 G h [.ref a0] (jV r) hf :=
  zz_ofW hl (by decide +kernel) (lv := [(0, LR (some a0))]) (by simp [lv_args, lvL, lvV, zz_rfc, zz_rfs, zz_ci, zz_cr, zz_cj, zz_cf, zz_cd]) (by simp [lg_sl, zz_rfc, zz_ci, zz_cr, zz_cj, zz_cf, zz_cd]) (fun _ X => A_J22_clear X a0 h)
-- X1_load RenamedWords.load()I
noncomputable def b_X1_load_28 (x0 : Option Nat) (s0 : Option Nat) (h : HP) : Option ((Int) × HP) :=
  (rcv h x0 [0]).bind fun b17 =>
  hb (f_X1_failed b17 s0 h) fun v15 h16 =>
  (wrI h16 x0 [0] 5 0).bind fun h19 =>
  some (v15, h19)
theorem B_X1_load_28 {M : hp_M} {G : va_G} {h0 : HP} (X : hp_X M G h0 "RenamedWords" "load" cX1_load 4 (some .int) (tableOf [(5, 20, 28, 139), (5, 20, 42, 0), (28, 35, 42, 0)]) 12 398) (x0 : Option Nat) (s0 : Option Nat) (h : HP) : vv M G h0 4 (hp_End M G h0) jI h 28 [(0, LR x0)] [LR s0] (b_X1_load_28 x0 s0 h) := by
  unfold b_X1_load_28
  refine vv_astore_n (pc := 28) (lv' := [(1, LR s0), (0, LR x0)]) X (kf := 1) (i := 1) rfl (by decide) rfl dX1_load_28 ?_
  refine vv_aload_n (pc := 29) X (kf := 0) (i := 0) rfl 1 rfl dX1_load_29 ?_
  refine vv_aload_n (pc := 30) X (kf := 1) (i := 1) rfl 0 rfl dX1_load_30 ?_
  refine vv_rcv (fun b17 t9 c9 fs9 e18 g9 k9 => ?_)
  cases List.mem_singleton.mp k9
  refine vv_callI (pc := 31) (rest := []) (by rw [e18]; rfl) (fun r8 k8 e8 => zz_callV X (m_X1_failed (hlM X) _ _ _ _ _ e8) g9 rfl rfl q1821 q1823 qs10 q132 q1824 nh_X1 rfl (by decide) (by decide) (Nat.le_of_ble_eq_true rfl) dX1_load_31) (fun v15 h16 => ?_)
  refine vv_istore_n (pc := 34) (lv' := [(2, LI v15), (1, LR s0), (0, LR x0)]) X (kf := 2) (i := 2) rfl (by decide) rfl dX1_load_34 ?_
  refine vv_aload_n (pc := 35) X (kf := 0) (i := 0) rfl 2 rfl dX1_load_35 ?_
  refine vv_iconst (pc := 36) X dX1_load_36 ?_
  refine vv_putI (pc := 37) (fin := false) X (fun _ z => by cases List.mem_singleton.mp z; exact fl_X1_124_0) (fun z => nomatch z) (fun z => nomatch z) dX1_load_37 (fun h19 => ?_)
  refine vv_iload_n (pc := 40) X (kf := 2) (i := 2) rfl 0 rfl dX1_load_40 ?_
  exact vv_iretI X rfl rfl dX1_load_41
noncomputable def c_X1_load_66 (r66 : Option Nat → Int → HP → Option ((Int) × HP)) (x0 : Option Nat) (x1 : Int) (h : HP) : Option ((Int) × HP) :=
  iLE 2 x1
    ((rdR h x0 [0] 0).bind fun v32 =>
    (rdR h v32 [1] 0).bind fun v33 =>
    (rdI h v33 [3] 3).bind fun v34 =>
    some (v34, h))
    ((rdR h x0 [0] 3).bind fun v35 =>
    (astR h "RenamedWords$Desk" [1] v35 x1 none).bind fun h36 =>
    r66 x0 (x1 + 1) h36)
noncomputable def b_X1_load_66 : Option Nat → Int → HP → Option ((Int) × HP) := fx (fun _ _ _ => none) (c_X1_load_66) FU
theorem C_X1_load_66 {M : hp_M} {G : va_G} {h0 : HP} (X : hp_X M G h0 "RenamedWords" "load" cX1_load 4 (some .int) (tableOf [(5, 20, 28, 139), (5, 20, 42, 0), (28, 35, 42, 0)]) 12 398) (r66 : Option Nat → Int → HP → Option ((Int) × HP)) (hr66 : ∀ (y0 : Option Nat) (y1 : Int) (h : HP), vv M G h0 4 (hp_End M G h0) jI h 66 [(0, LR y0), (1, LI y1)] [] (r66 y0 y1 h)) (x0 : Option Nat) (x1 : Int) (h : HP) : vv M G h0 4 (hp_End M G h0) jI h 66 [(0, LR x0), (1, LI x1)] [] (c_X1_load_66 r66 x0 x1 h) := by
  unfold c_X1_load_66
  refine vv_iload_n (pc := 66) X (kf := 1) (i := 1) rfl 1 rfl dX1_load_66 ?_
  refine vv_iconst (pc := 67) X dX1_load_67 ?_
  refine vv_icmp_ge (pc := 68) (tgt := 84) X dX1_load_68 rfl ?_ ?_
  · refine vv_aload_n (pc := 84) X (kf := 0) (i := 0) rfl 0 rfl dX1_load_84 ?_
    refine vv_getR (pc := 85) X (fun _ z => by cases List.mem_singleton.mp z; exact fl_X1_35_0) dX1_load_85 (fun v32 => ?_)
    refine vv_getR (pc := 88) X (fun _ z => by cases List.mem_singleton.mp z; exact fl_X1_79_1) dX1_load_88 (fun v33 => ?_)
    refine vv_getI (pc := 91) X (fun _ z => by cases List.mem_singleton.mp z; exact fl_X1_83_3) dX1_load_91 (fun v34 => ?_)
    exact vv_iretI X rfl rfl dX1_load_94
  · refine vv_aload_n (pc := 71) X (kf := 0) (i := 0) rfl 0 rfl dX1_load_71 ?_
    refine vv_getR (pc := 72) X (fun _ z => by cases List.mem_singleton.mp z; exact fl_X1_55_0) dX1_load_72 (fun v35 => ?_)
    refine vv_iload_n (pc := 75) X (kf := 1) (i := 1) rfl 1 rfl dX1_load_75 ?_
    refine vv_null (pc := 76) X dX1_load_76 ?_
    refine vv_aastore (pc := 77) X (fun _ z => by cases List.mem_singleton.mp z; exact ca_RenamedWords_Desk_1) dX1_load_77 (fun h36 => ?_)
    refine vv_iinc (pc := 78) (lv' := [(1, LI (x1 + 1)), (0, LR x0)]) X 1 rfl (by decide) rfl dX1_load_78 ?_
    refine vv_goto (pc := 81) (tgt := 66) X dX1_load_81 rfl ?_
    exact vv_sub [1, 0] (by rfl) (hr66 _ _ _)
theorem B_X1_load_66 {M : hp_M} {G : va_G} {h0 : HP} (X : hp_X M G h0 "RenamedWords" "load" cX1_load 4 (some .int) (tableOf [(5, 20, 28, 139), (5, 20, 42, 0), (28, 35, 42, 0)]) 12 398) : ∀ (x0 : Option Nat) (x1 : Int) (h : HP), vv M G h0 4 (hp_End M G h0) jI h 66 [(0, LR x0), (1, LI x1)] [] (b_X1_load_66 x0 x1 h) := by
  unfold b_X1_load_66
  generalize FU = n
  induction n with
  | zero => intro x0 x1 h; exact vv_none
  | succ n ih => exact C_X1_load_66 X _ ih
noncomputable def f_X1_load (a0 : Nat) (h : HP) : Option ((Int) × HP) :=
  (wrI h (some a0) [0] 6 (-1)).bind fun h1 =>
  hb (nwO h1 (hp_n h1 + 2) 8 [.inl 0, .inl 0, .inl 0, .inl 0, .inr (.inl none), .inr (.inl none), .inr (.inl none), .inr (.inl none), .inl 0, .inr (.inl none)] 10) fun v2 h3 =>
  (v2).bind fun b6 =>
  hb (f_X11_init b6 (some a0) h3) fun _ h5 =>
  (rcv h5 v2 [8]).bind fun b10 =>
  hbx (f_X11_reads b10 h5) (fun q12 h13 =>
      (clsOf h13 q12).bind fun c14 =>
      if c14 = 9 then
        b_X1_load_28 (some a0) (some q12) h13
      else
        none) fun v8 h9 =>
  (wrR h9 (some a0) [0] 0 v8).bind fun h20 =>
  (wrI h20 (some a0) [0] 5 0).bind fun h21 =>
  (rdR h21 (some a0) [0] 1).bind fun v22 =>
  (rcv h21 v22 [28]).bind fun b25 =>
  hb (f_J21_clear b25 h21) fun _ h24 =>
  (rdR h24 (some a0) [0] 2).bind fun v27 =>
  (rcv h24 v27 [29]).bind fun b30 =>
  hb (f_J22_clear b30 h24) fun _ h29 =>
  b_X1_load_66 (some a0) 0 h29
theorem A_X1_load {M : hp_M} {G : va_G} {h0 : HP} (X : hp_X M G h0 "RenamedWords" "load" cX1_load 4 (some .int) (tableOf [(5, 20, 28, 139), (5, 20, 42, 0), (28, 35, 42, 0)]) 12 398) (a0 : Nat) (h : HP) : vv M G h0 4 (hp_End M G h0) jI h 0 [(0, LR (some a0))] [] (f_X1_load a0 h) := by
  unfold f_X1_load
  refine vv_aload_n (pc := 0) X (kf := 0) (i := 0) rfl 0 rfl dX1_load_0 ?_
  refine vv_iconst (pc := 1) X dX1_load_1 ?_
  refine vv_putI (pc := 2) (fin := false) X (fun _ z => by cases List.mem_singleton.mp z; exact fl_X1_63_0) (fun z => nomatch z) (fun z => nomatch z) dX1_load_2 (fun h1 => ?_)
  refine vv_aload_n (pc := 5) X (kf := 0) (i := 0) rfl 0 rfl dX1_load_5 ?_
  refine vv_new (pc := 6) X tyX11 rfl in_X11 tyX11_ok q847 q848 q166 ndX11 (by decide) dX1_load_6 (fun v2 h3 => ?_)
  refine vv_dup (pc := 9) X rfl dX1_load_9 ?_
  refine vv_aload_n (pc := 10) X (kf := 0) (i := 0) rfl 0 rfl dX1_load_10 ?_
  refine vv_bnd (fun b6 e7 => ?_)
  refine vv_callV (pc := 11) (rest := [LR v2, LR (some a0)]) (by rw [e7]; rfl) (fun r8 k8 e8 => zz_callIN X (m_X11_init (hlM X) _ _ _ _ _ e8) q849 q850 q166 q851 rfl nh_X11 rfl (by decide) (by decide) (Nat.le_of_ble_eq_true rfl) dX1_load_11) (fun v4 h5 => ?_)
  refine vv_rcv (fun b10 t9 c9 fs9 e11 g9 k9 => ?_)
  cases List.mem_singleton.mp k9
  refine vv_xallR (pc := 14) (rest := [LR (some a0)]) (by rw [e11]; rfl) (fun r8 k8 e8 => zz_callV X (m_X11_reads (hlM X) _ _ _ _ e8) g9 rfl rfl q945 q946 q947 q166 q948 nh_X11 rfl (by decide) (by decide) (Nat.le_of_ble_eq_true rfl) dX1_load_14) (fun v8 h9 => ?_) (fun q12 h13 => ?_)
  · refine vv_putR (pc := 17) (ty9 := (.object "RenamedWords$Desk")) (fin := false) X (fun _ z => by cases List.mem_singleton.mp z; exact fl_X1_35_0) (fun z => nomatch z) (fun z => nomatch z) (by decide +kernel) rfl dX1_load_17 (fun h20 => ?_)
    refine vv_aload_n (pc := 20) X (kf := 0) (i := 0) rfl 0 rfl dX1_load_20 ?_
    refine vv_iconst (pc := 21) X dX1_load_21 ?_
    refine vv_putI (pc := 22) (fin := false) X (fun _ z => by cases List.mem_singleton.mp z; exact fl_X1_124_0) (fun z => nomatch z) (fun z => nomatch z) dX1_load_22 (fun h21 => ?_)
    refine vv_goto (pc := 25) (tgt := 50) X dX1_load_25 rfl ?_
    refine vv_aload_n (pc := 50) X (kf := 0) (i := 0) rfl 0 rfl dX1_load_50 ?_
    refine vv_getR (pc := 51) X (fun _ z => by cases List.mem_singleton.mp z; exact fl_X1_42_0) dX1_load_51 (fun v22 => ?_)
    refine vv_rcv (fun b25 t9 c9 fs9 e26 g9 k9 => ?_)
    cases List.mem_singleton.mp k9
    refine vv_callV (pc := 54) (rest := []) (by rw [e26]; rfl) (fun r8 k8 e8 => zz_callV X (m_J21_clear (hlM X) _ _ _ _ e8) g9 rfl rfl q1825 q1826 q1827 q162 q1828 nh_J21 rfl (by decide) (by decide) (Nat.le_of_ble_eq_true rfl) dX1_load_54) (fun v23 h24 => ?_)
    refine vv_aload_n (pc := 57) X (kf := 0) (i := 0) rfl 0 rfl dX1_load_57 ?_
    refine vv_getR (pc := 58) X (fun _ z => by cases List.mem_singleton.mp z; exact fl_X1_49_0) dX1_load_58 (fun v27 => ?_)
    refine vv_rcv (fun b30 t9 c9 fs9 e31 g9 k9 => ?_)
    cases List.mem_singleton.mp k9
    refine vv_callV (pc := 61) (rest := []) (by rw [e31]; rfl) (fun r8 k8 e8 => zz_callV X (m_J22_clear (hlM X) _ _ _ _ e8) g9 rfl rfl q1829 q1830 q1831 q163 q1832 nh_J22 rfl (by decide) (by decide) (Nat.le_of_ble_eq_true rfl) dX1_load_61) (fun v28 h29 => ?_)
    refine vv_iconst (pc := 64) X dX1_load_64 ?_
    refine vv_istore_n (pc := 65) (lv' := [(1, LI 0), (0, LR (some a0))]) X (kf := 1) (i := 1) rfl (by decide) rfl dX1_load_65 ?_
    exact vv_sub [1, 0] (by rfl) (B_X1_load_66 X _ _ _)
  · refine vvx_cls (fun _ c14 _ g9 => ?_)
    refine vvx_if (fun e9 => ?_) (fun _ => ?_)
    · subst e9
      refine vvx_catch X g9 rfl [] ⟨5, 20, 28, 139⟩ [⟨5, 20, 42, 0⟩, ⟨28, 35, 42, 0⟩] rfl (fun z hz => nomatch hz) rfl (by decide) q846 q972 ?_
      exact B_X1_load_28 X _ _ _
    · exact vvx_none
theorem m_X1_load {l : Launch} (hl : l.stackTraces = false) {G : va_G} (a0 : Nat) (h : HP) : ∀ r hf, f_X1_load a0 h = some (r, hf) → Ct l yX1_load (wsW_ yX1_load cX1_load 4 (some .int) [(5, 20, 28, 139), (5, 20, 42, 0), (28, 35, 42, 0)]) 12 398 G h [.ref a0] (jI r) hf :=
  zz_ofWH hl (by decide +kernel) (lv := [(0, LR (some a0))]) (by simp [lv_args, lvL, lvV, zz_rfc, zz_rfs, zz_ci, zz_cr, zz_cj, zz_cf, zz_cd]) (by simp [lg_sl, zz_rfc, zz_ci, zz_cr, zz_cj, zz_cf, zz_cd]) (fun _ X => A_X1_load X a0 h)
-- X9_lays RenamedWordsModel.lays([II[II)V
noncomputable def c_X9_lays_3 (r3 : Option Nat → Int → Option Nat → Int → Int → HP → Option ((Unit) × HP)) (x0 : Option Nat) (x1 : Int) (x2 : Option Nat) (x3 : Int) (x4 : Int) (h : HP) : Option ((Unit) × HP) :=
  iLE 576 x4
    (some ((), h))
    ((aldI h .int x0 (x1 + x4)).bind fun v1 =>
    (astI h .int x2 (x3 + x4) v1).bind fun h2 =>
    r3 x0 x1 x2 x3 (x4 + 1) h2)
noncomputable def b_X9_lays_3 : Option Nat → Int → Option Nat → Int → Int → HP → Option ((Unit) × HP) := fx (fun _ _ _ _ _ _ => none) (c_X9_lays_3) FU
theorem C_X9_lays_3 {M : hp_M} {G : va_G} {h0 : HP} (X : hp_X M G h0 "RenamedWordsModel" "lays" cX9_lays 5 none [] 0 0) (r3 : Option Nat → Int → Option Nat → Int → Int → HP → Option ((Unit) × HP)) (hr3 : ∀ (y0 : Option Nat) (y1 : Int) (y2 : Option Nat) (y3 : Int) (y4 : Int) (h : HP), vv M G h0 5 (hp_End M G h0) jV h 3 [(0, LR y0), (1, LI y1), (2, LR y2), (3, LI y3), (4, LI y4)] [] (r3 y0 y1 y2 y3 y4 h)) (x0 : Option Nat) (x1 : Int) (x2 : Option Nat) (x3 : Int) (x4 : Int) (h : HP) : vv M G h0 5 (hp_End M G h0) jV h 3 [(0, LR x0), (1, LI x1), (2, LR x2), (3, LI x3), (4, LI x4)] [] (c_X9_lays_3 r3 x0 x1 x2 x3 x4 h) := by
  unfold c_X9_lays_3
  refine vv_iload (pc := 3) X 4 rfl dX9_lays_3 ?_
  refine vv_sipush (pc := 5) X (by decide) dX9_lays_5 ?_
  refine vv_icmp_ge (pc := 8) (tgt := 29) X dX9_lays_8 rfl ?_ ?_
  · exact vv_vreturn X rfl rfl dX9_lays_29
  · refine vv_aload_n (pc := 11) X (kf := 2) (i := 2) rfl 2 rfl dX9_lays_11 ?_
    refine vv_iload_n (pc := 12) X (kf := 3) (i := 3) rfl 3 rfl dX9_lays_12 ?_
    refine vv_iload (pc := 13) X 4 rfl dX9_lays_13 ?_
    refine vv_iadd (pc := 15) X dX9_lays_15 ?_
    refine vv_aload_n (pc := 16) X (kf := 0) (i := 0) rfl 0 rfl dX9_lays_16 ?_
    refine vv_iload_n (pc := 17) X (kf := 1) (i := 1) rfl 1 rfl dX9_lays_17 ?_
    refine vv_iload (pc := 18) X 4 rfl dX9_lays_18 ?_
    refine vv_iadd (pc := 20) X dX9_lays_20 ?_
    refine vv_iaload (pc := 21) X dX9_lays_21 (fun v1 => ?_)
    refine vv_iastore (pc := 22) X dX9_lays_22 (fun h2 => ?_)
    refine vv_iinc (pc := 23) (lv' := [(4, LI (x4 + 1)), (0, LR x0), (1, LI x1), (2, LR x2), (3, LI x3)]) X 4 rfl (by decide) rfl dX9_lays_23 ?_
    refine vv_goto (pc := 26) (tgt := 3) X dX9_lays_26 rfl ?_
    exact vv_sub [1, 2, 3, 4, 0] (by rfl) (hr3 _ _ _ _ _ _)
theorem B_X9_lays_3 {M : hp_M} {G : va_G} {h0 : HP} (X : hp_X M G h0 "RenamedWordsModel" "lays" cX9_lays 5 none [] 0 0) : ∀ (x0 : Option Nat) (x1 : Int) (x2 : Option Nat) (x3 : Int) (x4 : Int) (h : HP), vv M G h0 5 (hp_End M G h0) jV h 3 [(0, LR x0), (1, LI x1), (2, LR x2), (3, LI x3), (4, LI x4)] [] (b_X9_lays_3 x0 x1 x2 x3 x4 h) := by
  unfold b_X9_lays_3
  generalize FU = n
  induction n with
  | zero => intro x0 x1 x2 x3 x4 h; exact vv_none
  | succ n ih => exact C_X9_lays_3 X _ ih
noncomputable def f_X9_lays (a1 : Option Nat) (a2 : Int) (a3 : Option Nat) (a4 : Int) (h : HP) : Option ((Unit) × HP) :=
  b_X9_lays_3 a1 a2 a3 a4 0 h
theorem A_X9_lays {M : hp_M} {G : va_G} {h0 : HP} (X : hp_X M G h0 "RenamedWordsModel" "lays" cX9_lays 5 none [] 0 0) (a1 : Option Nat) (a2 : Int) (a3 : Option Nat) (a4 : Int) (h : HP) : vv M G h0 5 (hp_End M G h0) jV h 0 [(0, LR a1), (1, LI a2), (2, LR a3), (3, LI a4)] [] (f_X9_lays a1 a2 a3 a4 h) := by
  unfold f_X9_lays
  refine vv_iconst (pc := 0) X dX9_lays_0 ?_
  refine vv_istore (pc := 1) (lv' := [(4, LI 0), (0, LR a1), (1, LI a2), (2, LR a3), (3, LI a4)]) X (by decide) rfl dX9_lays_1 ?_
  exact vv_sub [1, 2, 3, 4, 0] (by rfl) (B_X9_lays_3 X _ _ _ _ _ _)
theorem m_X9_lays {l : Launch} (hl : l.stackTraces = false) {G : va_G} (a1 : Option Nat) (a2 : Int) (a3 : Option Nat) (a4 : Int) (h : HP) : ∀ r hf, f_X9_lays a1 a2 a3 a4 h = some (r, hf) → Ct l yX9_lays (ws_ yX9_lays cX9_lays 5 none) 0 0 G h [va_rf a1, .int (iI a2), va_rf a3, .int (iI a4)] (jV r) hf :=
  zz_ofW hl (by decide +kernel) (lv := [(0, LR a1), (1, LI a2), (2, LR a3), (3, LI a4)]) (by simp [lv_args, lvL, lvV, zz_rfc, zz_rfs, zz_ci, zz_cr, zz_cj, zz_cf, zz_cd]) (by simp [lg_sl, zz_rfc, zz_ci, zz_cr, zz_cj, zz_cf, zz_cd]) (fun _ X => A_X9_lays X a1 a2 a3 a4 h)
-- X9_aside RenamedWordsModel.aside()V
noncomputable def f_X9_aside (a0 : Nat) (h : HP) : Option ((Unit) × HP) :=
  (rdR h (some a0) [7] 0).bind fun v1 =>
  (rdR h (some a0) [7] 1).bind fun v2 =>
  hb (f_X9_lays v1 0 v2 0 h) fun _ h4 =>
  some ((), h4)
theorem A_X9_aside {M : hp_M} {G : va_G} {h0 : HP} (X : hp_X M G h0 "RenamedWordsModel" "aside" cX9_aside 1 none [] 1 32) (a0 : Nat) (h : HP) : vv M G h0 1 (hp_End M G h0) jV h 0 [(0, LR (some a0))] [] (f_X9_aside a0 h) := by
  unfold f_X9_aside
  refine vv_aload_n (pc := 0) X (kf := 0) (i := 0) rfl 0 rfl dX9_aside_0 ?_
  refine vv_getR (pc := 1) X (fun _ z => by cases List.mem_singleton.mp z; exact fl_X9_9_7) dX9_aside_1 (fun v1 => ?_)
  refine vv_iconst (pc := 4) X dX9_aside_4 ?_
  refine vv_aload_n (pc := 5) X (kf := 0) (i := 0) rfl 0 rfl dX9_aside_5 ?_
  refine vv_getR (pc := 6) X (fun _ z => by cases List.mem_singleton.mp z; exact fl_X9_13_7) dX9_aside_6 (fun v2 => ?_)
  refine vv_iconst (pc := 9) X dX9_aside_9 ?_
  refine vv_callV (pc := 10) (rest := []) (by rfl) (fun r8 k8 e8 => zz_callS X (m_X9_lays (hlM X) _ _ _ _ _ _ _ e8) q3574 q3575 q164 q3576 nh_X9 rfl (by decide) (by decide) (Nat.le_of_ble_eq_true rfl) dX9_aside_10) (fun v3 h4 => ?_)
  exact vv_vreturn X rfl rfl dX9_aside_13
theorem m_X9_aside {l : Launch} (hl : l.stackTraces = false) {G : va_G} (a0 : Nat) (h : HP) : ∀ r hf, f_X9_aside a0 h = some (r, hf) → Ct l yX9_aside (ws_ yX9_aside cX9_aside 1 none) 1 32 G h [.ref a0] (jV r) hf :=
  zz_ofW hl (by decide +kernel) (lv := [(0, LR (some a0))]) (by simp [lv_args, lvL, lvV, zz_rfc, zz_rfs, zz_ci, zz_cr, zz_cj, zz_cf, zz_cd]) (by simp [lg_sl, zz_rfc, zz_ci, zz_cr, zz_cj, zz_cf, zz_cd]) (fun _ X => A_X9_aside X a0 h)
-- X9_byteAt RenamedWordsModel.byteAt(I)I
noncomputable def b_X9_byteAt_18 (s0 : Int) (h : HP) : Option ((Int) × HP) :=
  some (s0, h)
theorem B_X9_byteAt_18 {M : hp_M} {G : va_G} {h0 : HP} (X : hp_X M G h0 "RenamedWordsModel" "byteAt" cX9_byteAt 2 (some .int) [] 0 0) (s0 : Int) (h : HP) : vv M G h0 2 (hp_End M G h0) jI h 18 [] [LI s0] (b_X9_byteAt_18 s0 h) := by
  unfold b_X9_byteAt_18
  exact vv_iretI X rfl rfl dX9_byteAt_18
noncomputable def f_X9_byteAt (a0 : Nat) (a1 : Int) (h : HP) : Option ((Int) × HP) :=
  (rdI h (some a0) [7] 12).bind fun v1 =>
  iLE v1 a1
    (b_X9_byteAt_18 (-1) h)
    ((rdR h (some a0) [7] 11).bind fun v2 =>
    (aldI h .int v2 a1).bind fun v3 =>
    b_X9_byteAt_18 v3 h)
theorem A_X9_byteAt {M : hp_M} {G : va_G} {h0 : HP} (X : hp_X M G h0 "RenamedWordsModel" "byteAt" cX9_byteAt 2 (some .int) [] 0 0) (a0 : Nat) (a1 : Int) (h : HP) : vv M G h0 2 (hp_End M G h0) jI h 0 [(0, LR (some a0)), (1, LI a1)] [] (f_X9_byteAt a0 a1 h) := by
  unfold f_X9_byteAt
  refine vv_iload_n (pc := 0) X (kf := 1) (i := 1) rfl 1 rfl dX9_byteAt_0 ?_
  refine vv_aload_n (pc := 1) X (kf := 0) (i := 0) rfl 0 rfl dX9_byteAt_1 ?_
  refine vv_getI (pc := 2) X (fun _ z => by cases List.mem_singleton.mp z; exact fl_X9_148_7) dX9_byteAt_2 (fun v1 => ?_)
  refine vv_icmp_ge (pc := 5) (tgt := 17) X dX9_byteAt_5 rfl ?_ ?_
  · refine vv_iconst (pc := 17) X dX9_byteAt_17 ?_
    exact vv_sub [] (by rfl) (B_X9_byteAt_18 X _ _)
  · refine vv_aload_n (pc := 8) X (kf := 0) (i := 0) rfl 0 rfl dX9_byteAt_8 ?_
    refine vv_getR (pc := 9) X (fun _ z => by cases List.mem_singleton.mp z; exact fl_X9_38_7) dX9_byteAt_9 (fun v2 => ?_)
    refine vv_iload_n (pc := 12) X (kf := 1) (i := 1) rfl 1 rfl dX9_byteAt_12 ?_
    refine vv_iaload (pc := 13) X dX9_byteAt_13 (fun v3 => ?_)
    refine vv_goto (pc := 14) (tgt := 18) X dX9_byteAt_14 rfl ?_
    exact vv_sub [] (by rfl) (B_X9_byteAt_18 X _ _)
theorem m_X9_byteAt {l : Launch} (hl : l.stackTraces = false) {G : va_G} (a0 : Nat) (a1 : Int) (h : HP) : ∀ r hf, f_X9_byteAt a0 a1 h = some (r, hf) → Ct l yX9_byteAt (ws_ yX9_byteAt cX9_byteAt 2 (some .int)) 0 0 G h [.ref a0, .int (iI a1)] (jI r) hf :=
  zz_ofW hl (by decide +kernel) (lv := [(0, LR (some a0)), (1, LI a1)]) (by simp [lv_args, lvL, lvV, zz_rfc, zz_rfs, zz_ci, zz_cr, zz_cj, zz_cf, zz_cd]) (by simp [lg_sl, zz_rfc, zz_ci, zz_cr, zz_cj, zz_cf, zz_cd]) (fun _ X => A_X9_byteAt X a0 a1 h)
-- X9_in RenamedWordsModel.in(III)Z
noncomputable def b_X9_in_15 (s0 : Int) (h : HP) : Option ((Int) × HP) :=
  rtZ s0 (some (s0, h))
theorem B_X9_in_15 {M : hp_M} {G : va_G} {h0 : HP} (X : hp_X M G h0 "RenamedWordsModel" "in" cX9_in 3 (some .boolean) [] 0 0) (s0 : Int) (h : HP) : vv M G h0 3 (hp_End M G h0) jI h 15 [] [LI s0] (b_X9_in_15 s0 h) := by
  unfold b_X9_in_15
  exact vv_iretZ X rfl rfl dX9_in_15
noncomputable def b_X9_in_14 (h : HP) : Option ((Int) × HP) :=
  b_X9_in_15 0 h
theorem B_X9_in_14 {M : hp_M} {G : va_G} {h0 : HP} (X : hp_X M G h0 "RenamedWordsModel" "in" cX9_in 3 (some .boolean) [] 0 0) (h : HP) : vv M G h0 3 (hp_End M G h0) jI h 14 [] [] (b_X9_in_14 h) := by
  unfold b_X9_in_14
  refine vv_iconst (pc := 14) X dX9_in_14 ?_
  exact B_X9_in_15 X _ _
noncomputable def f_X9_in (a1 : Int) (a2 : Int) (a3 : Int) (h : HP) : Option ((Int) × HP) :=
  iLT a1 a2
    (b_X9_in_14 h)
    (iLT a3 a1
      (b_X9_in_14 h)
      (b_X9_in_15 1 h))
theorem A_X9_in {M : hp_M} {G : va_G} {h0 : HP} (X : hp_X M G h0 "RenamedWordsModel" "in" cX9_in 3 (some .boolean) [] 0 0) (a1 : Int) (a2 : Int) (a3 : Int) (h : HP) : vv M G h0 3 (hp_End M G h0) jI h 0 [(0, LI a1), (1, LI a2), (2, LI a3)] [] (f_X9_in a1 a2 a3 h) := by
  unfold f_X9_in
  refine vv_iload_n (pc := 0) X (kf := 0) (i := 0) rfl 0 rfl dX9_in_0 ?_
  refine vv_iload_n (pc := 1) X (kf := 1) (i := 1) rfl 1 rfl dX9_in_1 ?_
  refine vv_icmp_lt (pc := 2) (tgt := 14) X dX9_in_2 rfl ?_ ?_
  · exact vv_sub [] (by rfl) (B_X9_in_14 X _)
  · refine vv_iload_n (pc := 5) X (kf := 0) (i := 0) rfl 0 rfl dX9_in_5 ?_
    refine vv_iload_n (pc := 6) X (kf := 2) (i := 2) rfl 2 rfl dX9_in_6 ?_
    refine vv_icmp_gt (pc := 7) (tgt := 14) X dX9_in_7 rfl ?_ ?_
    · exact vv_sub [] (by rfl) (B_X9_in_14 X _)
    · refine vv_iconst (pc := 10) X dX9_in_10 ?_
      refine vv_goto (pc := 11) (tgt := 15) X dX9_in_11 rfl ?_
      exact vv_sub [] (by rfl) (B_X9_in_15 X _ _)
theorem m_X9_in {l : Launch} (hl : l.stackTraces = false) {G : va_G} (a1 : Int) (a2 : Int) (a3 : Int) (h : HP) : ∀ r hf, f_X9_in a1 a2 a3 h = some (r, hf) → Ct l yX9_in (ws_ yX9_in cX9_in 3 (some .boolean)) 0 0 G h [.int (iI a1), .int (iI a2), .int (iI a3)] (jI r) hf :=
  zz_ofW hl (by decide +kernel) (lv := [(0, LI a1), (1, LI a2), (2, LI a3)]) (by simp [lv_args, lvL, lvV, zz_rfc, zz_rfs, zz_ci, zz_cr, zz_cj, zz_cf, zz_cd]) (by simp [lg_sl, zz_rfc, zz_ci, zz_cr, zz_cj, zz_cf, zz_cd]) (fun _ X => A_X9_in X a1 a2 a3 h)
-- X9_isLetterAt RenamedWordsModel.isLetterAt(I)Z
noncomputable def f_X9_isLetterAt (a0 : Nat) (a1 : Int) (h : HP) : Option ((Int) × HP) :=
  (rcv h (some a0) [7]).bind fun b3 =>
  hb (f_X9_byteAt b3 a1 h) fun v1 h2 =>
  hb (f_X9_in v1 97 122 h2) fun v5 h6 =>
  rtZ v5 (some (v5, h6))
theorem A_X9_isLetterAt {M : hp_M} {G : va_G} {h0 : HP} (X : hp_X M G h0 "RenamedWordsModel" "isLetterAt" cX9_isLetterAt 2 (some .boolean) [] 1 30) (a0 : Nat) (a1 : Int) (h : HP) : vv M G h0 2 (hp_End M G h0) jI h 0 [(0, LR (some a0)), (1, LI a1)] [] (f_X9_isLetterAt a0 a1 h) := by
  unfold f_X9_isLetterAt
  refine vv_aload_n (pc := 0) X (kf := 0) (i := 0) rfl 0 rfl dX9_isLetterAt_0 ?_
  refine vv_iload_n (pc := 1) X (kf := 1) (i := 1) rfl 1 rfl dX9_isLetterAt_1 ?_
  refine vv_rcv (fun b3 t9 c9 fs9 e4 g9 k9 => ?_)
  cases List.mem_singleton.mp k9
  refine vv_callI (pc := 2) (rest := []) (by rw [e4]; rfl) (fun r8 k8 e8 => zz_callV X (m_X9_byteAt (hlM X) _ _ _ _ _ e8) g9 rfl rfl q3585 q3587 qs54 q164 q3588 nh_X9 rfl (by decide) (by decide) (Nat.le_of_ble_eq_true rfl) dX9_isLetterAt_2) (fun v1 h2 => ?_)
  refine vv_bipush (pc := 5) X (by decide) dX9_isLetterAt_5 ?_
  refine vv_bipush (pc := 7) X (by decide) dX9_isLetterAt_7 ?_
  refine vv_callI (pc := 9) (rest := []) (by rfl) (fun r8 k8 e8 => zz_callS X (m_X9_in (hlM X) _ _ _ _ _ _ e8) q3593 q3594 q164 q3595 nh_X9 rfl (by decide) (by decide) (Nat.le_of_ble_eq_true rfl) dX9_isLetterAt_9) (fun v5 h6 => ?_)
  exact vv_iretZ X rfl rfl dX9_isLetterAt_12
theorem m_X9_isLetterAt {l : Launch} (hl : l.stackTraces = false) {G : va_G} (a0 : Nat) (a1 : Int) (h : HP) : ∀ r hf, f_X9_isLetterAt a0 a1 h = some (r, hf) → Ct l yX9_isLetterAt (ws_ yX9_isLetterAt cX9_isLetterAt 2 (some .boolean)) 1 30 G h [.ref a0, .int (iI a1)] (jI r) hf :=
  zz_ofW hl (by decide +kernel) (lv := [(0, LR (some a0)), (1, LI a1)]) (by simp [lv_args, lvL, lvV, zz_rfc, zz_rfs, zz_ci, zz_cr, zz_cj, zz_cf, zz_cd]) (by simp [lg_sl, zz_rfc, zz_ci, zz_cr, zz_cj, zz_cf, zz_cd]) (fun _ X => A_X9_isLetterAt X a0 a1 h)
-- X9_isDigitAt RenamedWordsModel.isDigitAt(I)Z
noncomputable def f_X9_isDigitAt (a0 : Nat) (a1 : Int) (h : HP) : Option ((Int) × HP) :=
  (rcv h (some a0) [7]).bind fun b3 =>
  hb (f_X9_byteAt b3 a1 h) fun v1 h2 =>
  hb (f_X9_in v1 48 57 h2) fun v5 h6 =>
  rtZ v5 (some (v5, h6))
theorem A_X9_isDigitAt {M : hp_M} {G : va_G} {h0 : HP} (X : hp_X M G h0 "RenamedWordsModel" "isDigitAt" cX9_isDigitAt 2 (some .boolean) [] 1 30) (a0 : Nat) (a1 : Int) (h : HP) : vv M G h0 2 (hp_End M G h0) jI h 0 [(0, LR (some a0)), (1, LI a1)] [] (f_X9_isDigitAt a0 a1 h) := by
  unfold f_X9_isDigitAt
  refine vv_aload_n (pc := 0) X (kf := 0) (i := 0) rfl 0 rfl dX9_isDigitAt_0 ?_
  refine vv_iload_n (pc := 1) X (kf := 1) (i := 1) rfl 1 rfl dX9_isDigitAt_1 ?_
  refine vv_rcv (fun b3 t9 c9 fs9 e4 g9 k9 => ?_)
  cases List.mem_singleton.mp k9
  refine vv_callI (pc := 2) (rest := []) (by rw [e4]; rfl) (fun r8 k8 e8 => zz_callV X (m_X9_byteAt (hlM X) _ _ _ _ _ e8) g9 rfl rfl q3585 q3587 qs54 q164 q3588 nh_X9 rfl (by decide) (by decide) (Nat.le_of_ble_eq_true rfl) dX9_isDigitAt_2) (fun v1 h2 => ?_)
  refine vv_bipush (pc := 5) X (by decide) dX9_isDigitAt_5 ?_
  refine vv_bipush (pc := 7) X (by decide) dX9_isDigitAt_7 ?_
  refine vv_callI (pc := 9) (rest := []) (by rfl) (fun r8 k8 e8 => zz_callS X (m_X9_in (hlM X) _ _ _ _ _ _ e8) q3593 q3594 q164 q3595 nh_X9 rfl (by decide) (by decide) (Nat.le_of_ble_eq_true rfl) dX9_isDigitAt_9) (fun v5 h6 => ?_)
  exact vv_iretZ X rfl rfl dX9_isDigitAt_12
theorem m_X9_isDigitAt {l : Launch} (hl : l.stackTraces = false) {G : va_G} (a0 : Nat) (a1 : Int) (h : HP) : ∀ r hf, f_X9_isDigitAt a0 a1 h = some (r, hf) → Ct l yX9_isDigitAt (ws_ yX9_isDigitAt cX9_isDigitAt 2 (some .boolean)) 1 30 G h [.ref a0, .int (iI a1)] (jI r) hf :=
  zz_ofW hl (by decide +kernel) (lv := [(0, LR (some a0)), (1, LI a1)]) (by simp [lv_args, lvL, lvV, zz_rfc, zz_rfs, zz_ci, zz_cr, zz_cj, zz_cf, zz_cd]) (by simp [lg_sl, zz_rfc, zz_ci, zz_cr, zz_cj, zz_cf, zz_cd]) (fun _ X => A_X9_isDigitAt X a0 a1 h)
-- X9_advance RenamedWordsModel.advance()V
noncomputable def b_X9_advance_26 (r0 : Option Nat → HP → Option ((Unit) × HP)) (x0 : Option Nat) (h : HP) : Option ((Unit) × HP) :=
  (rdI h x0 [7] 14).bind fun v6 =>
  (wrI h x0 [7] 14 (v6 + 1)).bind fun h7 =>
  r0 x0 h7
theorem B_X9_advance_26 {M : hp_M} {G : va_G} {h0 : HP} (X : hp_X M G h0 "RenamedWordsModel" "advance" cX9_advance 2 none [] 2 59) (r0 : Option Nat → HP → Option ((Unit) × HP)) (hr0 : ∀ (y0 : Option Nat) (h : HP), vv M G h0 2 (hp_End M G h0) jV h 0 [(0, LR y0)] [] (r0 y0 h)) (x0 : Option Nat) (h : HP) : vv M G h0 2 (hp_End M G h0) jV h 26 [(0, LR x0)] [] (b_X9_advance_26 r0 x0 h) := by
  unfold b_X9_advance_26
  refine vv_aload_n (pc := 26) X (kf := 0) (i := 0) rfl 0 rfl dX9_advance_26 ?_
  refine vv_dup (pc := 27) X rfl dX9_advance_27 ?_
  refine vv_getI (pc := 28) X (fun _ z => by cases List.mem_singleton.mp z; exact fl_X9_163_7) dX9_advance_28 (fun v6 => ?_)
  refine vv_iconst (pc := 31) X dX9_advance_31 ?_
  refine vv_iadd (pc := 32) X dX9_advance_32 ?_
  refine vv_putI (pc := 33) (fin := false) X (fun _ z => by cases List.mem_singleton.mp z; exact fl_X9_163_7) (fun z => nomatch z) (fun z => nomatch z) dX9_advance_33 (fun h7 => ?_)
  refine vv_goto (pc := 36) (tgt := 0) X dX9_advance_36 rfl ?_
  exact hr0 _ _
noncomputable def b_X9_advance_241 (h : HP) : Option ((Unit) × HP) :=
  some ((), h)
theorem B_X9_advance_241 {M : hp_M} {G : va_G} {h0 : HP} (X : hp_X M G h0 "RenamedWordsModel" "advance" cX9_advance 2 none [] 2 59) (h : HP) : vv M G h0 2 (hp_End M G h0) jV h 241 [] [] (b_X9_advance_241 h) := by
  unfold b_X9_advance_241
  exact vv_vreturn X rfl rfl dX9_advance_241
noncomputable def b_X9_advance_228 (x0 : Option Nat) (s0 : Int) (s1 : Option Nat) (h : HP) : Option ((Unit) × HP) :=
  (wrI h s1 [7] 15 s0).bind fun h31 =>
  (rdI h31 x0 [7] 14).bind fun v32 =>
  (wrI h31 x0 [7] 14 (v32 + 1)).bind fun h33 =>
  b_X9_advance_241 h33
theorem B_X9_advance_228 {M : hp_M} {G : va_G} {h0 : HP} (X : hp_X M G h0 "RenamedWordsModel" "advance" cX9_advance 2 none [] 2 59) (x0 : Option Nat) (s0 : Int) (s1 : Option Nat) (h : HP) : vv M G h0 2 (hp_End M G h0) jV h 228 [(0, LR x0)] [LI s0, LR s1] (b_X9_advance_228 x0 s0 s1 h) := by
  unfold b_X9_advance_228
  refine vv_putI (pc := 228) (fin := false) X (fun _ z => by cases List.mem_singleton.mp z; exact fl_X9_172_7) (fun z => nomatch z) (fun z => nomatch z) dX9_advance_228 (fun h31 => ?_)
  refine vv_aload_n (pc := 231) X (kf := 0) (i := 0) rfl 0 rfl dX9_advance_231 ?_
  refine vv_dup (pc := 232) X rfl dX9_advance_232 ?_
  refine vv_getI (pc := 233) X (fun _ z => by cases List.mem_singleton.mp z; exact fl_X9_163_7) dX9_advance_233 (fun v32 => ?_)
  refine vv_iconst (pc := 236) X dX9_advance_236 ?_
  refine vv_iadd (pc := 237) X dX9_advance_237 ?_
  refine vv_putI (pc := 238) (fin := false) X (fun _ z => by cases List.mem_singleton.mp z; exact fl_X9_163_7) (fun z => nomatch z) (fun z => nomatch z) dX9_advance_238 (fun h33 => ?_)
  exact vv_sub [] (by rfl) (B_X9_advance_241 X _)
noncomputable def b_X9_advance_223 (x0 : Option Nat) (s0 : Option Nat) (h : HP) : Option ((Unit) × HP) :=
  b_X9_advance_228 x0 3 s0 h
theorem B_X9_advance_223 {M : hp_M} {G : va_G} {h0 : HP} (X : hp_X M G h0 "RenamedWordsModel" "advance" cX9_advance 2 none [] 2 59) (x0 : Option Nat) (s0 : Option Nat) (h : HP) : vv M G h0 2 (hp_End M G h0) jV h 223 [(0, LR x0)] [LR s0] (b_X9_advance_223 x0 s0 h) := by
  unfold b_X9_advance_223
  refine vv_iconst (pc := 223) X dX9_advance_223 ?_
  refine vv_goto (pc := 224) (tgt := 228) X dX9_advance_224 rfl ?_
  exact B_X9_advance_228 X _ _ _ _
noncomputable def b_X9_advance_178 (r127 : Option Nat → HP → Option ((Unit) × HP)) (x0 : Option Nat) (s0 : Int) (s1 : Option Nat) (h : HP) : Option ((Unit) × HP) :=
  (wrI h s1 [7] 16 s0).bind fun h42 =>
  (rdI h42 x0 [7] 14).bind fun v43 =>
  (wrI h42 x0 [7] 14 (v43 + 1)).bind fun h44 =>
  r127 x0 h44
theorem B_X9_advance_178 {M : hp_M} {G : va_G} {h0 : HP} (X : hp_X M G h0 "RenamedWordsModel" "advance" cX9_advance 2 none [] 2 59) (r127 : Option Nat → HP → Option ((Unit) × HP)) (hr127 : ∀ (y0 : Option Nat) (h : HP), vv M G h0 2 (hp_End M G h0) jV h 127 [(0, LR y0)] [] (r127 y0 h)) (x0 : Option Nat) (s0 : Int) (s1 : Option Nat) (h : HP) : vv M G h0 2 (hp_End M G h0) jV h 178 [(0, LR x0)] [LI s0, LR s1] (b_X9_advance_178 r127 x0 s0 s1 h) := by
  unfold b_X9_advance_178
  refine vv_putI (pc := 178) (fin := false) X (fun _ z => by cases List.mem_singleton.mp z; exact fl_X9_169_7) (fun z => nomatch z) (fun z => nomatch z) dX9_advance_178 (fun h42 => ?_)
  refine vv_aload_n (pc := 181) X (kf := 0) (i := 0) rfl 0 rfl dX9_advance_181 ?_
  refine vv_dup (pc := 182) X rfl dX9_advance_182 ?_
  refine vv_getI (pc := 183) X (fun _ z => by cases List.mem_singleton.mp z; exact fl_X9_163_7) dX9_advance_183 (fun v43 => ?_)
  refine vv_iconst (pc := 186) X dX9_advance_186 ?_
  refine vv_iadd (pc := 187) X dX9_advance_187 ?_
  refine vv_putI (pc := 188) (fin := false) X (fun _ z => by cases List.mem_singleton.mp z; exact fl_X9_163_7) (fun z => nomatch z) (fun z => nomatch z) dX9_advance_188 (fun h44 => ?_)
  refine vv_goto (pc := 191) (tgt := 127) X dX9_advance_191 rfl ?_
  exact hr127 _ _
noncomputable def c_X9_advance_127 (r127 : Option Nat → HP → Option ((Unit) × HP)) (x0 : Option Nat) (h : HP) : Option ((Unit) × HP) :=
  (rdI h x0 [7] 14).bind fun v35 =>
  (rcv h x0 [7]).bind fun b38 =>
  hb (f_X9_isDigitAt b38 v35 h) fun v36 h37 =>
  iEQ v36 0
    (b_X9_advance_241 h37)
    ((rdI h37 x0 [7] 14).bind fun v40 =>
    (rdI h37 x0 [7] 13).bind fun v41 =>
    iLE 6 (v40 - v41)
      (b_X9_advance_178 r127 x0 1000000 x0 h37)
      ((rdI h37 x0 [7] 16).bind fun v45 =>
      (rdR h37 x0 [7] 11).bind fun v46 =>
      (rdI h37 x0 [7] 14).bind fun v47 =>
      (aldI h37 .int v46 v47).bind fun v48 =>
      b_X9_advance_178 r127 x0 (((10 * v45) + v48) - 48) x0 h37))
noncomputable def b_X9_advance_127 : Option Nat → HP → Option ((Unit) × HP) := fx (fun _ _ => none) (c_X9_advance_127) FU
theorem C_X9_advance_127 {M : hp_M} {G : va_G} {h0 : HP} (X : hp_X M G h0 "RenamedWordsModel" "advance" cX9_advance 2 none [] 2 59) (r127 : Option Nat → HP → Option ((Unit) × HP)) (hr127 : ∀ (y0 : Option Nat) (h : HP), vv M G h0 2 (hp_End M G h0) jV h 127 [(0, LR y0)] [] (r127 y0 h)) (x0 : Option Nat) (h : HP) : vv M G h0 2 (hp_End M G h0) jV h 127 [(0, LR x0)] [] (c_X9_advance_127 r127 x0 h) := by
  unfold c_X9_advance_127
  refine vv_aload_n (pc := 127) X (kf := 0) (i := 0) rfl 0 rfl dX9_advance_127 ?_
  refine vv_aload_n (pc := 128) X (kf := 0) (i := 0) rfl 0 rfl dX9_advance_128 ?_
  refine vv_getI (pc := 129) X (fun _ z => by cases List.mem_singleton.mp z; exact fl_X9_163_7) dX9_advance_129 (fun v35 => ?_)
  refine vv_rcv (fun b38 t9 c9 fs9 e39 g9 k9 => ?_)
  cases List.mem_singleton.mp k9
  refine vv_callI (pc := 132) (rest := []) (by rw [e39]; rfl) (fun r8 k8 e8 => zz_callV X (m_X9_isDigitAt (hlM X) _ _ _ _ _ e8) g9 rfl rfl q3596 q3598 qs56 q164 q3599 nh_X9 rfl (by decide) (by decide) (Nat.le_of_ble_eq_true rfl) dX9_advance_132) (fun v36 h37 => ?_)
  refine vv_if_eq (pc := 135) (tgt := 241) X dX9_advance_135 rfl ?_ ?_
  · exact vv_sub [] (by rfl) (B_X9_advance_241 X _)
  · refine vv_aload_n (pc := 138) X (kf := 0) (i := 0) rfl 0 rfl dX9_advance_138 ?_
    refine vv_aload_n (pc := 139) X (kf := 0) (i := 0) rfl 0 rfl dX9_advance_139 ?_
    refine vv_getI (pc := 140) X (fun _ z => by cases List.mem_singleton.mp z; exact fl_X9_163_7) dX9_advance_140 (fun v40 => ?_)
    refine vv_aload_n (pc := 143) X (kf := 0) (i := 0) rfl 0 rfl dX9_advance_143 ?_
    refine vv_getI (pc := 144) X (fun _ z => by cases List.mem_singleton.mp z; exact fl_X9_166_7) dX9_advance_144 (fun v41 => ?_)
    refine vv_isub (pc := 147) X dX9_advance_147 ?_
    refine vv_bipush (pc := 148) X (by decide) dX9_advance_148 ?_
    refine vv_icmp_ge (pc := 150) (tgt := 176) X dX9_advance_150 rfl ?_ ?_
    · refine vv_ldcI (pc := 176) (n := 1000000) X q3600 (by decide) dX9_advance_176 ?_
      exact B_X9_advance_178 X r127 hr127 _ _ _ _
    · refine vv_bipush (pc := 153) X (by decide) dX9_advance_153 ?_
      refine vv_aload_n (pc := 155) X (kf := 0) (i := 0) rfl 0 rfl dX9_advance_155 ?_
      refine vv_getI (pc := 156) X (fun _ z => by cases List.mem_singleton.mp z; exact fl_X9_169_7) dX9_advance_156 (fun v45 => ?_)
      refine vv_imul (pc := 159) X dX9_advance_159 ?_
      refine vv_aload_n (pc := 160) X (kf := 0) (i := 0) rfl 0 rfl dX9_advance_160 ?_
      refine vv_getR (pc := 161) X (fun _ z => by cases List.mem_singleton.mp z; exact fl_X9_38_7) dX9_advance_161 (fun v46 => ?_)
      refine vv_aload_n (pc := 164) X (kf := 0) (i := 0) rfl 0 rfl dX9_advance_164 ?_
      refine vv_getI (pc := 165) X (fun _ z => by cases List.mem_singleton.mp z; exact fl_X9_163_7) dX9_advance_165 (fun v47 => ?_)
      refine vv_iaload (pc := 168) X dX9_advance_168 (fun v48 => ?_)
      refine vv_iadd (pc := 169) X dX9_advance_169 ?_
      refine vv_bipush (pc := 170) X (by decide) dX9_advance_170 ?_
      refine vv_isub (pc := 172) X dX9_advance_172 ?_
      refine vv_goto (pc := 173) (tgt := 178) X dX9_advance_173 rfl ?_
      exact B_X9_advance_178 X r127 hr127 _ _ _ _
theorem B_X9_advance_127 {M : hp_M} {G : va_G} {h0 : HP} (X : hp_X M G h0 "RenamedWordsModel" "advance" cX9_advance 2 none [] 2 59) : ∀ (x0 : Option Nat) (h : HP), vv M G h0 2 (hp_End M G h0) jV h 127 [(0, LR x0)] [] (b_X9_advance_127 x0 h) := by
  unfold b_X9_advance_127
  generalize FU = n
  induction n with
  | zero => intro x0 h; exact vv_none
  | succ n ih => exact C_X9_advance_127 X _ ih
noncomputable def c_X9_advance_87 (r87 : Option Nat → HP → Option ((Unit) × HP)) (x0 : Option Nat) (h : HP) : Option ((Unit) × HP) :=
  (rdI h x0 [7] 14).bind fun v50 =>
  (rcv h x0 [7]).bind fun b53 =>
  hb (f_X9_isLetterAt b53 v50 h) fun v51 h52 =>
  iEQ v51 0
    (b_X9_advance_241 h52)
    ((rdI h52 x0 [7] 14).bind fun v55 =>
    (wrI h52 x0 [7] 14 (v55 + 1)).bind fun h56 =>
    r87 x0 h56)
noncomputable def b_X9_advance_87 : Option Nat → HP → Option ((Unit) × HP) := fx (fun _ _ => none) (c_X9_advance_87) FU
theorem C_X9_advance_87 {M : hp_M} {G : va_G} {h0 : HP} (X : hp_X M G h0 "RenamedWordsModel" "advance" cX9_advance 2 none [] 2 59) (r87 : Option Nat → HP → Option ((Unit) × HP)) (hr87 : ∀ (y0 : Option Nat) (h : HP), vv M G h0 2 (hp_End M G h0) jV h 87 [(0, LR y0)] [] (r87 y0 h)) (x0 : Option Nat) (h : HP) : vv M G h0 2 (hp_End M G h0) jV h 87 [(0, LR x0)] [] (c_X9_advance_87 r87 x0 h) := by
  unfold c_X9_advance_87
  refine vv_aload_n (pc := 87) X (kf := 0) (i := 0) rfl 0 rfl dX9_advance_87 ?_
  refine vv_aload_n (pc := 88) X (kf := 0) (i := 0) rfl 0 rfl dX9_advance_88 ?_
  refine vv_getI (pc := 89) X (fun _ z => by cases List.mem_singleton.mp z; exact fl_X9_163_7) dX9_advance_89 (fun v50 => ?_)
  refine vv_rcv (fun b53 t9 c9 fs9 e54 g9 k9 => ?_)
  cases List.mem_singleton.mp k9
  refine vv_callI (pc := 92) (rest := []) (by rw [e54]; rfl) (fun r8 k8 e8 => zz_callV X (m_X9_isLetterAt (hlM X) _ _ _ _ _ e8) g9 rfl rfl q3589 q3591 qs55 q164 q3592 nh_X9 rfl (by decide) (by decide) (Nat.le_of_ble_eq_true rfl) dX9_advance_92) (fun v51 h52 => ?_)
  refine vv_if_eq (pc := 95) (tgt := 241) X dX9_advance_95 rfl ?_ ?_
  · exact vv_sub [] (by rfl) (B_X9_advance_241 X _)
  · refine vv_aload_n (pc := 98) X (kf := 0) (i := 0) rfl 0 rfl dX9_advance_98 ?_
    refine vv_dup (pc := 99) X rfl dX9_advance_99 ?_
    refine vv_getI (pc := 100) X (fun _ z => by cases List.mem_singleton.mp z; exact fl_X9_163_7) dX9_advance_100 (fun v55 => ?_)
    refine vv_iconst (pc := 103) X dX9_advance_103 ?_
    refine vv_iadd (pc := 104) X dX9_advance_104 ?_
    refine vv_putI (pc := 105) (fin := false) X (fun _ z => by cases List.mem_singleton.mp z; exact fl_X9_163_7) (fun z => nomatch z) (fun z => nomatch z) dX9_advance_105 (fun h56 => ?_)
    refine vv_goto (pc := 108) (tgt := 87) X dX9_advance_108 rfl ?_
    exact hr87 _ _
theorem B_X9_advance_87 {M : hp_M} {G : va_G} {h0 : HP} (X : hp_X M G h0 "RenamedWordsModel" "advance" cX9_advance 2 none [] 2 59) : ∀ (x0 : Option Nat) (h : HP), vv M G h0 2 (hp_End M G h0) jV h 87 [(0, LR x0)] [] (b_X9_advance_87 x0 h) := by
  unfold b_X9_advance_87
  generalize FU = n
  induction n with
  | zero => intro x0 h; exact vv_none
  | succ n ih => exact C_X9_advance_87 X _ ih
noncomputable def c_X9_advance_0 (r0 : Option Nat → HP → Option ((Unit) × HP)) (x0 : Option Nat) (h : HP) : Option ((Unit) × HP) :=
  (rdI h x0 [7] 14).bind fun v1 =>
  (rcv h x0 [7]).bind fun b4 =>
  hb (f_X9_byteAt b4 v1 h) fun v2 h3 =>
  iEQ v2 32
    (b_X9_advance_26 r0 x0 h3)
    ((rdI h3 x0 [7] 14).bind fun v8 =>
    (rcv h3 x0 [7]).bind fun b11 =>
    hb (f_X9_byteAt b11 v8 h3) fun v9 h10 =>
    iEQ v9 10
      (b_X9_advance_26 r0 x0 h10)
      ((rdI h10 x0 [7] 14).bind fun v13 =>
      (wrI h10 x0 [7] 13 v13).bind fun h14 =>
      (wrI h14 x0 [7] 16 0).bind fun h15 =>
      (rdI h15 x0 [7] 13).bind fun v16 =>
      (rdI h15 x0 [7] 12).bind fun v17 =>
      iEQ v16 v17
        ((wrI h15 x0 [7] 15 0).bind fun h57 =>
        b_X9_advance_241 h57)
        ((rdI h15 x0 [7] 13).bind fun v18 =>
        (rcv h15 x0 [7]).bind fun b21 =>
        hb (f_X9_isLetterAt b21 v18 h15) fun v19 h20 =>
        iEQ v19 0
          ((rdI h20 x0 [7] 13).bind fun v23 =>
          (rcv h20 x0 [7]).bind fun b26 =>
          hb (f_X9_isDigitAt b26 v23 h20) fun v24 h25 =>
          iEQ v24 0
            ((rdR h25 x0 [7] 11).bind fun v28 =>
            (rdI h25 x0 [7] 13).bind fun v29 =>
            (aldI h25 .int v28 v29).bind fun v30 =>
            iEQ v30 59
              (b_X9_advance_223 x0 x0 h25)
              (iEQ v30 40
                (b_X9_advance_223 x0 x0 h25)
                (iEQ v30 41
                  (b_X9_advance_223 x0 x0 h25)
                  (b_X9_advance_228 x0 4 x0 h25))))
            ((wrI h25 x0 [7] 15 2).bind fun h34 =>
            b_X9_advance_127 x0 h34))
          ((wrI h20 x0 [7] 15 1).bind fun h49 =>
          b_X9_advance_87 x0 h49))))
noncomputable def b_X9_advance_0 : Option Nat → HP → Option ((Unit) × HP) := fx (fun _ _ => none) (c_X9_advance_0) FU
theorem C_X9_advance_0 {M : hp_M} {G : va_G} {h0 : HP} (X : hp_X M G h0 "RenamedWordsModel" "advance" cX9_advance 2 none [] 2 59) (r0 : Option Nat → HP → Option ((Unit) × HP)) (hr0 : ∀ (y0 : Option Nat) (h : HP), vv M G h0 2 (hp_End M G h0) jV h 0 [(0, LR y0)] [] (r0 y0 h)) (x0 : Option Nat) (h : HP) : vv M G h0 2 (hp_End M G h0) jV h 0 [(0, LR x0)] [] (c_X9_advance_0 r0 x0 h) := by
  unfold c_X9_advance_0
  refine vv_aload_n (pc := 0) X (kf := 0) (i := 0) rfl 0 rfl dX9_advance_0 ?_
  refine vv_aload_n (pc := 1) X (kf := 0) (i := 0) rfl 0 rfl dX9_advance_1 ?_
  refine vv_getI (pc := 2) X (fun _ z => by cases List.mem_singleton.mp z; exact fl_X9_163_7) dX9_advance_2 (fun v1 => ?_)
  refine vv_rcv (fun b4 t9 c9 fs9 e5 g9 k9 => ?_)
  cases List.mem_singleton.mp k9
  refine vv_callI (pc := 5) (rest := []) (by rw [e5]; rfl) (fun r8 k8 e8 => zz_callV X (m_X9_byteAt (hlM X) _ _ _ _ _ e8) g9 rfl rfl q3585 q3587 qs54 q164 q3588 nh_X9 rfl (by decide) (by decide) (Nat.le_of_ble_eq_true rfl) dX9_advance_5) (fun v2 h3 => ?_)
  refine vv_bipush (pc := 8) X (by decide) dX9_advance_8 ?_
  refine vv_icmp_eq (pc := 10) (tgt := 26) X dX9_advance_10 rfl ?_ ?_
  · exact B_X9_advance_26 X r0 hr0 _ _
  · refine vv_aload_n (pc := 13) X (kf := 0) (i := 0) rfl 0 rfl dX9_advance_13 ?_
    refine vv_aload_n (pc := 14) X (kf := 0) (i := 0) rfl 0 rfl dX9_advance_14 ?_
    refine vv_getI (pc := 15) X (fun _ z => by cases List.mem_singleton.mp z; exact fl_X9_163_7) dX9_advance_15 (fun v8 => ?_)
    refine vv_rcv (fun b11 t9 c9 fs9 e12 g9 k9 => ?_)
    cases List.mem_singleton.mp k9
    refine vv_callI (pc := 18) (rest := []) (by rw [e12]; rfl) (fun r8 k8 e8 => zz_callV X (m_X9_byteAt (hlM X) _ _ _ _ _ e8) g9 rfl rfl q3585 q3587 qs54 q164 q3588 nh_X9 rfl (by decide) (by decide) (Nat.le_of_ble_eq_true rfl) dX9_advance_18) (fun v9 h10 => ?_)
    refine vv_bipush (pc := 21) X (by decide) dX9_advance_21 ?_
    refine vv_icmp_ne (pc := 23) (tgt := 39) X dX9_advance_23 rfl ?_ ?_
    · refine vv_aload_n (pc := 39) X (kf := 0) (i := 0) rfl 0 rfl dX9_advance_39 ?_
      refine vv_aload_n (pc := 40) X (kf := 0) (i := 0) rfl 0 rfl dX9_advance_40 ?_
      refine vv_getI (pc := 41) X (fun _ z => by cases List.mem_singleton.mp z; exact fl_X9_163_7) dX9_advance_41 (fun v13 => ?_)
      refine vv_putI (pc := 44) (fin := false) X (fun _ z => by cases List.mem_singleton.mp z; exact fl_X9_166_7) (fun z => nomatch z) (fun z => nomatch z) dX9_advance_44 (fun h14 => ?_)
      refine vv_aload_n (pc := 47) X (kf := 0) (i := 0) rfl 0 rfl dX9_advance_47 ?_
      refine vv_iconst (pc := 48) X dX9_advance_48 ?_
      refine vv_putI (pc := 49) (fin := false) X (fun _ z => by cases List.mem_singleton.mp z; exact fl_X9_169_7) (fun z => nomatch z) (fun z => nomatch z) dX9_advance_49 (fun h15 => ?_)
      refine vv_aload_n (pc := 52) X (kf := 0) (i := 0) rfl 0 rfl dX9_advance_52 ?_
      refine vv_getI (pc := 53) X (fun _ z => by cases List.mem_singleton.mp z; exact fl_X9_166_7) dX9_advance_53 (fun v16 => ?_)
      refine vv_aload_n (pc := 56) X (kf := 0) (i := 0) rfl 0 rfl dX9_advance_56 ?_
      refine vv_getI (pc := 57) X (fun _ z => by cases List.mem_singleton.mp z; exact fl_X9_148_7) dX9_advance_57 (fun v17 => ?_)
      refine vv_icmp_ne (pc := 60) (tgt := 71) X dX9_advance_60 rfl ?_ ?_
      · refine vv_aload_n (pc := 71) X (kf := 0) (i := 0) rfl 0 rfl dX9_advance_71 ?_
        refine vv_aload_n (pc := 72) X (kf := 0) (i := 0) rfl 0 rfl dX9_advance_72 ?_
        refine vv_getI (pc := 73) X (fun _ z => by cases List.mem_singleton.mp z; exact fl_X9_166_7) dX9_advance_73 (fun v18 => ?_)
        refine vv_rcv (fun b21 t9 c9 fs9 e22 g9 k9 => ?_)
        cases List.mem_singleton.mp k9
        refine vv_callI (pc := 76) (rest := []) (by rw [e22]; rfl) (fun r8 k8 e8 => zz_callV X (m_X9_isLetterAt (hlM X) _ _ _ _ _ e8) g9 rfl rfl q3589 q3591 qs55 q164 q3592 nh_X9 rfl (by decide) (by decide) (Nat.le_of_ble_eq_true rfl) dX9_advance_76) (fun v19 h20 => ?_)
        refine vv_if_eq (pc := 79) (tgt := 111) X dX9_advance_79 rfl ?_ ?_
        · refine vv_aload_n (pc := 111) X (kf := 0) (i := 0) rfl 0 rfl dX9_advance_111 ?_
          refine vv_aload_n (pc := 112) X (kf := 0) (i := 0) rfl 0 rfl dX9_advance_112 ?_
          refine vv_getI (pc := 113) X (fun _ z => by cases List.mem_singleton.mp z; exact fl_X9_166_7) dX9_advance_113 (fun v23 => ?_)
          refine vv_rcv (fun b26 t9 c9 fs9 e27 g9 k9 => ?_)
          cases List.mem_singleton.mp k9
          refine vv_callI (pc := 116) (rest := []) (by rw [e27]; rfl) (fun r8 k8 e8 => zz_callV X (m_X9_isDigitAt (hlM X) _ _ _ _ _ e8) g9 rfl rfl q3596 q3598 qs56 q164 q3599 nh_X9 rfl (by decide) (by decide) (Nat.le_of_ble_eq_true rfl) dX9_advance_116) (fun v24 h25 => ?_)
          refine vv_if_eq (pc := 119) (tgt := 194) X dX9_advance_119 rfl ?_ ?_
          · refine vv_aload_n (pc := 194) X (kf := 0) (i := 0) rfl 0 rfl dX9_advance_194 ?_
            refine vv_getR (pc := 195) X (fun _ z => by cases List.mem_singleton.mp z; exact fl_X9_38_7) dX9_advance_195 (fun v28 => ?_)
            refine vv_aload_n (pc := 198) X (kf := 0) (i := 0) rfl 0 rfl dX9_advance_198 ?_
            refine vv_getI (pc := 199) X (fun _ z => by cases List.mem_singleton.mp z; exact fl_X9_166_7) dX9_advance_199 (fun v29 => ?_)
            refine vv_iaload (pc := 202) X dX9_advance_202 (fun v30 => ?_)
            refine vv_istore_n (pc := 203) (lv' := [(1, LI v30), (0, LR x0)]) X (kf := 1) (i := 1) rfl (by decide) rfl dX9_advance_203 ?_
            refine vv_aload_n (pc := 204) X (kf := 0) (i := 0) rfl 1 rfl dX9_advance_204 ?_
            refine vv_iload_n (pc := 205) X (kf := 1) (i := 1) rfl 0 rfl dX9_advance_205 ?_
            refine vv_bipush (pc := 206) X (by decide) dX9_advance_206 ?_
            refine vv_icmp_eq (pc := 208) (tgt := 223) X dX9_advance_208 rfl ?_ ?_
            · exact vv_sub [1] (by rfl) (B_X9_advance_223 X _ _ _)
            · refine vv_iload_n (pc := 211) X (kf := 1) (i := 1) rfl 0 rfl dX9_advance_211 ?_
              refine vv_bipush (pc := 212) X (by decide) dX9_advance_212 ?_
              refine vv_icmp_eq (pc := 214) (tgt := 223) X dX9_advance_214 rfl ?_ ?_
              · exact vv_sub [1] (by rfl) (B_X9_advance_223 X _ _ _)
              · refine vv_iload_n (pc := 217) X (kf := 1) (i := 1) rfl 0 rfl dX9_advance_217 ?_
                refine vv_bipush (pc := 218) X (by decide) dX9_advance_218 ?_
                refine vv_icmp_ne (pc := 220) (tgt := 227) X dX9_advance_220 rfl ?_ ?_
                · refine vv_iconst (pc := 227) X dX9_advance_227 ?_
                  exact vv_sub [1] (by rfl) (B_X9_advance_228 X _ _ _ _)
                · exact vv_sub [1] (by rfl) (B_X9_advance_223 X _ _ _)
          · refine vv_aload_n (pc := 122) X (kf := 0) (i := 0) rfl 0 rfl dX9_advance_122 ?_
            refine vv_iconst (pc := 123) X dX9_advance_123 ?_
            refine vv_putI (pc := 124) (fin := false) X (fun _ z => by cases List.mem_singleton.mp z; exact fl_X9_172_7) (fun z => nomatch z) (fun z => nomatch z) dX9_advance_124 (fun h34 => ?_)
            exact B_X9_advance_127 X _ _
        · refine vv_aload_n (pc := 82) X (kf := 0) (i := 0) rfl 0 rfl dX9_advance_82 ?_
          refine vv_iconst (pc := 83) X dX9_advance_83 ?_
          refine vv_putI (pc := 84) (fin := false) X (fun _ z => by cases List.mem_singleton.mp z; exact fl_X9_172_7) (fun z => nomatch z) (fun z => nomatch z) dX9_advance_84 (fun h49 => ?_)
          exact B_X9_advance_87 X _ _
      · refine vv_aload_n (pc := 63) X (kf := 0) (i := 0) rfl 0 rfl dX9_advance_63 ?_
        refine vv_iconst (pc := 64) X dX9_advance_64 ?_
        refine vv_putI (pc := 65) (fin := false) X (fun _ z => by cases List.mem_singleton.mp z; exact fl_X9_172_7) (fun z => nomatch z) (fun z => nomatch z) dX9_advance_65 (fun h57 => ?_)
        refine vv_goto (pc := 68) (tgt := 241) X dX9_advance_68 rfl ?_
        exact vv_sub [] (by rfl) (B_X9_advance_241 X _)
    · exact B_X9_advance_26 X r0 hr0 _ _
theorem B_X9_advance_0 {M : hp_M} {G : va_G} {h0 : HP} (X : hp_X M G h0 "RenamedWordsModel" "advance" cX9_advance 2 none [] 2 59) : ∀ (x0 : Option Nat) (h : HP), vv M G h0 2 (hp_End M G h0) jV h 0 [(0, LR x0)] [] (b_X9_advance_0 x0 h) := by
  unfold b_X9_advance_0
  generalize FU = n
  induction n with
  | zero => intro x0 h; exact vv_none
  | succ n ih => exact C_X9_advance_0 X _ ih
noncomputable def f_X9_advance (a0 : Nat) (h : HP) : Option ((Unit) × HP) :=
  b_X9_advance_0 (some a0) h
theorem A_X9_advance {M : hp_M} {G : va_G} {h0 : HP} (X : hp_X M G h0 "RenamedWordsModel" "advance" cX9_advance 2 none [] 2 59) (a0 : Nat) (h : HP) : vv M G h0 2 (hp_End M G h0) jV h 0 [(0, LR (some a0))] [] (f_X9_advance a0 h) := by
  unfold f_X9_advance
  exact B_X9_advance_0 X _ _
theorem m_X9_advance {l : Launch} (hl : l.stackTraces = false) {G : va_G} (a0 : Nat) (h : HP) : ∀ r hf, f_X9_advance a0 h = some (r, hf) → Ct l yX9_advance (ws_ yX9_advance cX9_advance 2 none) 2 59 G h [.ref a0] (jV r) hf :=
  zz_ofW hl (by decide +kernel) (lv := [(0, LR (some a0))]) (by simp [lv_args, lvL, lvV, zz_rfc, zz_rfs, zz_ci, zz_cr, zz_cj, zz_cf, zz_cd]) (by simp [lg_sl, zz_rfc, zz_ci, zz_cr, zz_cj, zz_cf, zz_cd]) (fun _ X => A_X9_advance X a0 h)
-- X9_length RenamedWordsModel.length()I
noncomputable def f_X9_length (a0 : Nat) (h : HP) : Option ((Int) × HP) :=
  (rdI h (some a0) [7] 14).bind fun v1 =>
  (rdI h (some a0) [7] 13).bind fun v2 =>
  some ((v1 - v2), h)
theorem A_X9_length {M : hp_M} {G : va_G} {h0 : HP} (X : hp_X M G h0 "RenamedWordsModel" "length" cX9_length 1 (some .int) [] 0 0) (a0 : Nat) (h : HP) : vv M G h0 1 (hp_End M G h0) jI h 0 [(0, LR (some a0))] [] (f_X9_length a0 h) := by
  unfold f_X9_length
  refine vv_aload_n (pc := 0) X (kf := 0) (i := 0) rfl 0 rfl dX9_length_0 ?_
  refine vv_getI (pc := 1) X (fun _ z => by cases List.mem_singleton.mp z; exact fl_X9_163_7) dX9_length_1 (fun v1 => ?_)
  refine vv_aload_n (pc := 4) X (kf := 0) (i := 0) rfl 0 rfl dX9_length_4 ?_
  refine vv_getI (pc := 5) X (fun _ z => by cases List.mem_singleton.mp z; exact fl_X9_166_7) dX9_length_5 (fun v2 => ?_)
  refine vv_isub (pc := 8) X dX9_length_8 ?_
  exact vv_iretI X rfl rfl dX9_length_9
theorem m_X9_length {l : Launch} (hl : l.stackTraces = false) {G : va_G} (a0 : Nat) (h : HP) : ∀ r hf, f_X9_length a0 h = some (r, hf) → Ct l yX9_length (ws_ yX9_length cX9_length 1 (some .int)) 0 0 G h [.ref a0] (jI r) hf :=
  zz_ofW hl (by decide +kernel) (lv := [(0, LR (some a0))]) (by simp [lv_args, lvL, lvV, zz_rfc, zz_rfs, zz_ci, zz_cr, zz_cj, zz_cf, zz_cd]) (by simp [lg_sl, zz_rfc, zz_ci, zz_cr, zz_cj, zz_cf, zz_cd]) (fun _ X => A_X9_length X a0 h)
