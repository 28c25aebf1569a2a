/-! STAGE 1c: functions and contracts (printed by gen/mkfuncs.py). -/
set_option maxRecDepth 100000
set_option linter.unusedVariables false
-- X9_isNewWindow RenamedWordsModel.isNewWindow(II)Z
noncomputable def c_X9_isNewWindow_2 (r2 : Option Nat → Int → Int → Int → HP → Option ((Int) × HP)) (x0 : Option Nat) (x1 : Int) (x2 : Int) (x3 : Int) (h : HP) : Option ((Int) × HP) :=
  iLE x1 x3
    (some (1, h))
    (hb (f_X9_textFrom x3 h) fun v1 h2 =>
    hb (f_X9_textFrom x1 h2) fun v3 h4 =>
    (rcv h4 x0 [7]).bind fun b7 =>
    hb (f_X9_areAlike b7 v1 v3 x2 h4) fun v5 h6 =>
    iEQ v5 0
      (r2 x0 x1 x2 (x3 + 1) h6)
      (some (0, h6)))
noncomputable def b_X9_isNewWindow_2 : Option Nat → Int → Int → Int → HP → Option ((Int) × HP) := fx (fun _ _ _ _ _ => none) (c_X9_isNewWindow_2) FU
theorem C_X9_isNewWindow_2 {M : hp_M} {G : va_G} {h0 : HP} (X : hp_X M G h0 "RenamedWordsModel" "isNewWindow" cX9_isNewWindow 4 (some .boolean) [] 5 154) (r2 : Option Nat → Int → Int → Int → HP → Option ((Int) × HP)) (hr2 : ∀ (y0 : Option Nat) (y1 : Int) (y2 : Int) (y3 : Int) (h : HP), vv M G h0 4 (hp_End M G h0) jI h 2 [(0, LR y0), (1, LI y1), (2, LI y2), (3, LI y3)] [] (r2 y0 y1 y2 y3 h)) (x0 : Option Nat) (x1 : Int) (x2 : Int) (x3 : Int) (h : HP) : vv M G h0 4 (hp_End M G h0) jI h 2 [(0, LR x0), (1, LI x1), (2, LI x2), (3, LI x3)] [] (c_X9_isNewWindow_2 r2 x0 x1 x2 x3 h) := by
  unfold c_X9_isNewWindow_2
  refine vv_iload_n (pc := 2) X (kf := 3) (i := 3) rfl 3 rfl dX9_isNewWindow_2 ?_
  refine vv_iload_n (pc := 3) X (kf := 1) (i := 1) rfl 1 rfl dX9_isNewWindow_3 ?_
  refine vv_icmp_ge (pc := 4) (tgt := 31) X dX9_isNewWindow_4 rfl ?_ ?_
  · refine vv_iconst (pc := 31) X dX9_isNewWindow_31 ?_
    exact vv_iret1 X rfl rfl dX9_isNewWindow_32
  · refine vv_aload_n (pc := 7) X (kf := 0) (i := 0) rfl 0 rfl dX9_isNewWindow_7 ?_
    refine vv_iload_n (pc := 8) X (kf := 3) (i := 3) rfl 3 rfl dX9_isNewWindow_8 ?_
    refine vv_callI (pc := 9) (rest := [LR x0]) (by rfl) (fun r8 k8 e8 => zz_callS X (m_X9_textFrom (hlM X) _ _ _ _ e8) q3774 q3775 q164 q3776 nh_X9 rfl (by decide) (by decide) (Nat.le_of_ble_eq_true rfl) dX9_isNewWindow_9) (fun v1 h2 => ?_)
    refine vv_iload_n (pc := 12) X (kf := 1) (i := 1) rfl 1 rfl dX9_isNewWindow_12 ?_
    refine vv_callI (pc := 13) (rest := [LI v1, LR x0]) (by rfl) (fun r8 k8 e8 => zz_callS X (m_X9_textFrom (hlM X) _ _ _ _ e8) q3774 q3775 q164 q3776 nh_X9 rfl (by decide) (by decide) (Nat.le_of_ble_eq_true rfl) dX9_isNewWindow_13) (fun v3 h4 => ?_)
    refine vv_iload_n (pc := 16) X (kf := 2) (i := 2) rfl 2 rfl dX9_isNewWindow_16 ?_
    refine vv_rcv (fun b7 t9 c9 fs9 e8 g9 k9 => ?_)
    cases List.mem_singleton.mp k9
    refine vv_callI (pc := 17) (rest := []) (by rw [e8]; rfl) (fun r8 k8 e8 => zz_callV X (m_X9_areAlike (hlM X) _ _ _ _ _ _ _ e8) g9 rfl rfl q3884 q3886 qs115 q164 q3887 nh_X9 rfl (by decide) (by decide) (Nat.le_of_ble_eq_true rfl) dX9_isNewWindow_17) (fun v5 h6 => ?_)
    refine vv_if_eq (pc := 20) (tgt := 25) X dX9_isNewWindow_20 rfl ?_ ?_
    · refine vv_iinc (pc := 25) (lv' := [(3, LI (x3 + 1)), (0, LR x0), (1, LI x1), (2, LI x2)]) X 3 rfl (by decide) rfl dX9_isNewWindow_25 ?_
      refine vv_goto (pc := 28) (tgt := 2) X dX9_isNewWindow_28 rfl ?_
      exact vv_sub [1, 2, 3, 0] (by rfl) (hr2 _ _ _ _ _)
    · refine vv_iconst (pc := 23) X dX9_isNewWindow_23 ?_
      exact vv_iret0 X rfl rfl dX9_isNewWindow_24
theorem B_X9_isNewWindow_2 {M : hp_M} {G : va_G} {h0 : HP} (X : hp_X M G h0 "RenamedWordsModel" "isNewWindow" cX9_isNewWindow 4 (some .boolean) [] 5 154) : ∀ (x0 : Option Nat) (x1 : Int) (x2 : Int) (x3 : Int) (h : HP), vv M G h0 4 (hp_End M G h0) jI h 2 [(0, LR x0), (1, LI x1), (2, LI x2), (3, LI x3)] [] (b_X9_isNewWindow_2 x0 x1 x2 x3 h) := by
  unfold b_X9_isNewWindow_2
  generalize FU = n
  induction n with
  | zero => intro x0 x1 x2 x3 h; exact vv_none
  | succ n ih => exact C_X9_isNewWindow_2 X _ ih
noncomputable def f_X9_isNewWindow (a0 : Nat) (a1 : Int) (a2 : Int) (h : HP) : Option ((Int) × HP) :=
  b_X9_isNewWindow_2 (some a0) a1 a2 0 h
theorem A_X9_isNewWindow {M : hp_M} {G : va_G} {h0 : HP} (X : hp_X M G h0 "RenamedWordsModel" "isNewWindow" cX9_isNewWindow 4 (some .boolean) [] 5 154) (a0 : Nat) (a1 : Int) (a2 : Int) (h : HP) : vv M G h0 4 (hp_End M G h0) jI h 0 [(0, LR (some a0)), (1, LI a1), (2, LI a2)] [] (f_X9_isNewWindow a0 a1 a2 h) := by
  unfold f_X9_isNewWindow
  refine vv_iconst (pc := 0) X dX9_isNewWindow_0 ?_
  refine vv_istore_n (pc := 1) (lv' := [(3, LI 0), (0, LR (some a0)), (1, LI a1), (2, LI a2)]) X (kf := 3) (i := 3) rfl (by decide) rfl dX9_isNewWindow_1 ?_
  exact vv_sub [1, 2, 3, 0] (by rfl) (B_X9_isNewWindow_2 X _ _ _ _ _)
theorem m_X9_isNewWindow {l : Launch} (hl : l.stackTraces = false) {G : va_G} (a0 : Nat) (a1 : Int) (a2 : Int) (h : HP) : ∀ r hf, f_X9_isNewWindow a0 a1 a2 h = some (r, hf) → Ct l yX9_isNewWindow (ws_ yX9_isNewWindow cX9_isNewWindow 4 (some .boolean)) 5 154 G h [.ref a0, .int (iI a1), .int (iI a2)] (jI r) hf :=
  zz_ofW hl (by decide +kernel) (lv := [(0, LR (some a0)), (1, LI a1), (2, LI a2)]) (by simp [lv_args, lvL, lvV, zz_rfc, zz_rfs, zz_ci, zz_cr, zz_cj, zz_cf, zz_cd]) (by simp [lg_sl, zz_rfc, zz_ci, zz_cr, zz_cj, zz_cf, zz_cd]) (fun _ X => A_X9_isNewWindow X a0 a1 a2 h)
-- X9_classes RenamedWordsModel.classes(I)I
noncomputable def c_X9_classes_35 (r35 : Option Nat → Int → Int → Int → HP → Option ((Int) × HP)) (x0 : Option Nat) (x1 : Int) (x2 : Int) (x3 : Int) (h : HP) : Option ((Int) × HP) :=
  (rdR h x0 [7] 0).bind fun v8 =>
  (aldI h .int v8 1).bind fun v9 =>
  iLT v9 (x3 + x1)
    (some (x2, h))
    ((rcv h x0 [7]).bind fun b12 =>
    hb (f_X9_isNewWindow b12 x3 x1 h) fun v10 h11 =>
    hb (f_X9_one v10 h11) fun v14 h15 =>
    r35 x0 x1 (x2 + v14) (x3 + 1) h15)
noncomputable def b_X9_classes_35 : Option Nat → Int → Int → Int → HP → Option ((Int) × HP) := fx (fun _ _ _ _ _ => none) (c_X9_classes_35) FU
theorem C_X9_classes_35 {M : hp_M} {G : va_G} {h0 : HP} (X : hp_X M G h0 "RenamedWordsModel" "classes" cX9_classes 4 (some .int) [] 6 185) (r35 : Option Nat → Int → Int → Int → HP → Option ((Int) × HP)) (hr35 : ∀ (y0 : Option Nat) (y1 : Int) (y2 : Int) (y3 : Int) (h : HP), vv M G h0 4 (hp_End M G h0) jI h 35 [(0, LR y0), (1, LI y1), (2, LI y2), (3, LI y3)] [] (r35 y0 y1 y2 y3 h)) (x0 : Option Nat) (x1 : Int) (x2 : Int) (x3 : Int) (h : HP) : vv M G h0 4 (hp_End M G h0) jI h 35 [(0, LR x0), (1, LI x1), (2, LI x2), (3, LI x3)] [] (c_X9_classes_35 r35 x0 x1 x2 x3 h) := by
  unfold c_X9_classes_35
  refine vv_iload_n (pc := 35) X (kf := 3) (i := 3) rfl 3 rfl dX9_classes_35 ?_
  refine vv_iload_n (pc := 36) X (kf := 1) (i := 1) rfl 1 rfl dX9_classes_36 ?_
  refine vv_iadd (pc := 37) X dX9_classes_37 ?_
  refine vv_aload_n (pc := 38) X (kf := 0) (i := 0) rfl 0 rfl dX9_classes_38 ?_
  refine vv_getR (pc := 39) X (fun _ z => by cases List.mem_singleton.mp z; exact fl_X9_9_7) dX9_classes_39 (fun v8 => ?_)
  refine vv_iconst (pc := 42) X dX9_classes_42 ?_
  refine vv_iaload (pc := 43) X dX9_classes_43 (fun v9 => ?_)
  refine vv_icmp_gt (pc := 44) (tgt := 65) X dX9_classes_44 rfl ?_ ?_
  · refine vv_iload_n (pc := 65) X (kf := 2) (i := 2) rfl 2 rfl dX9_classes_65 ?_
    exact vv_iretI X rfl rfl dX9_classes_66
  · refine vv_iload_n (pc := 47) X (kf := 2) (i := 2) rfl 2 rfl dX9_classes_47 ?_
    refine vv_aload_n (pc := 48) X (kf := 0) (i := 0) rfl 0 rfl dX9_classes_48 ?_
    refine vv_iload_n (pc := 49) X (kf := 3) (i := 3) rfl 3 rfl dX9_classes_49 ?_
    refine vv_iload_n (pc := 50) X (kf := 1) (i := 1) rfl 1 rfl dX9_classes_50 ?_
    refine vv_rcv (fun b12 t9 c9 fs9 e13 g9 k9 => ?_)
    cases List.mem_singleton.mp k9
    refine vv_callI (pc := 51) (rest := [LI x2]) (by rw [e13]; rfl) (fun r8 k8 e8 => zz_callV X (m_X9_isNewWindow (hlM X) _ _ _ _ _ _ e8) g9 rfl rfl q3983 q3985 qs123 q164 q3986 nh_X9 rfl (by decide) (by decide) (Nat.le_of_ble_eq_true rfl) dX9_classes_51) (fun v10 h11 => ?_)
    refine vv_callI (pc := 54) (rest := [LI x2]) (by rfl) (fun r8 k8 e8 => zz_callS X (m_X9_one (hlM X) _ _ _ _ e8) q3559 q3560 q164 q3561 nh_X9 rfl (by decide) (by decide) (Nat.le_of_ble_eq_true rfl) dX9_classes_54) (fun v14 h15 => ?_)
    refine vv_iadd (pc := 57) X dX9_classes_57 ?_
    refine vv_istore_n (pc := 58) (lv' := [(2, LI (x2 + v14)), (0, LR x0), (1, LI x1), (3, LI x3)]) X (kf := 2) (i := 2) rfl (by decide) rfl dX9_classes_58 ?_
    refine vv_iinc (pc := 59) (lv' := [(3, LI (x3 + 1)), (2, LI (x2 + v14)), (0, LR x0), (1, LI x1)]) X 3 rfl (by decide) rfl dX9_classes_59 ?_
    refine vv_goto (pc := 62) (tgt := 35) X dX9_classes_62 rfl ?_
    exact vv_sub [2, 3, 1, 0] (by rfl) (hr35 _ _ _ _ _)
theorem B_X9_classes_35 {M : hp_M} {G : va_G} {h0 : HP} (X : hp_X M G h0 "RenamedWordsModel" "classes" cX9_classes 4 (some .int) [] 6 185) : ∀ (x0 : Option Nat) (x1 : Int) (x2 : Int) (x3 : Int) (h : HP), vv M G h0 4 (hp_End M G h0) jI h 35 [(0, LR x0), (1, LI x1), (2, LI x2), (3, LI x3)] [] (b_X9_classes_35 x0 x1 x2 x3 h) := by
  unfold b_X9_classes_35
  generalize FU = n
  induction n with
  | zero => intro x0 x1 x2 x3 h; exact vv_none
  | succ n ih => exact C_X9_classes_35 X _ ih
noncomputable def b_X9_classes_22 (x0 : Option Nat) (x1 : Int) (s0 : Int) (s1 : Option Nat) (h : HP) : Option ((Int) × HP) :=
  (rcv h s1 [7]).bind fun b6 =>
  hb (f_X9_fails b6 s0 1 h) fun v4 h5 =>
  iEQ v4 0
    (b_X9_classes_35 x0 x1 0 0 h5)
    (some (0, h5))
theorem B_X9_classes_22 {M : hp_M} {G : va_G} {h0 : HP} (X : hp_X M G h0 "RenamedWordsModel" "classes" cX9_classes 4 (some .int) [] 6 185) (x0 : Option Nat) (x1 : Int) (s0 : Int) (s1 : Option Nat) (h : HP) : vv M G h0 4 (hp_End M G h0) jI h 22 [(0, LR x0), (1, LI x1)] [LI s0, LR s1] (b_X9_classes_22 x0 x1 s0 s1 h) := by
  unfold b_X9_classes_22
  refine vv_iconst (pc := 22) X dX9_classes_22 ?_
  refine vv_rcv (fun b6 t9 c9 fs9 e7 g9 k9 => ?_)
  cases List.mem_singleton.mp k9
  refine vv_callI (pc := 23) (rest := []) (by rw [e7]; rfl) (fun r8 k8 e8 => zz_callV X (m_X9_fails (hlM X) _ _ _ _ _ _ e8) g9 rfl rfl q3841 q3843 qs109 q164 q3844 nh_X9 rfl (by decide) (by decide) (Nat.le_of_ble_eq_true rfl) dX9_classes_23) (fun v4 h5 => ?_)
  refine vv_if_eq (pc := 26) (tgt := 31) X dX9_classes_26 rfl ?_ ?_
  · refine vv_iconst (pc := 31) X dX9_classes_31 ?_
    refine vv_istore_n (pc := 32) (lv' := [(2, LI 0), (0, LR x0), (1, LI x1)]) X (kf := 2) (i := 2) rfl (by decide) rfl dX9_classes_32 ?_
    refine vv_iconst (pc := 33) X dX9_classes_33 ?_
    refine vv_istore_n (pc := 34) (lv' := [(3, LI 0), (2, LI 0), (0, LR x0), (1, LI x1)]) X (kf := 3) (i := 3) rfl (by decide) rfl dX9_classes_34 ?_
    exact vv_sub [2, 3, 1, 0] (by rfl) (B_X9_classes_35 X _ _ _ _ _)
  · refine vv_iconst (pc := 29) X dX9_classes_29 ?_
    exact vv_iretI X rfl rfl dX9_classes_30
noncomputable def f_X9_classes (a0 : Nat) (a1 : Int) (h : HP) : Option ((Int) × HP) :=
  (wrI h (some a0) [7] 7 0).bind fun h1 =>
  hb (f_X9_in a1 1 200 h1) fun v2 h3 =>
  iEQ v2 0
    (b_X9_classes_22 (some a0) a1 1 (some a0) h3)
    (b_X9_classes_22 (some a0) a1 0 (some a0) h3)
theorem A_X9_classes {M : hp_M} {G : va_G} {h0 : HP} (X : hp_X M G h0 "RenamedWordsModel" "classes" cX9_classes 4 (some .int) [] 6 185) (a0 : Nat) (a1 : Int) (h : HP) : vv M G h0 4 (hp_End M G h0) jI h 0 [(0, LR (some a0)), (1, LI a1)] [] (f_X9_classes a0 a1 h) := by
  unfold f_X9_classes
  refine vv_aload_n (pc := 0) X (kf := 0) (i := 0) rfl 0 rfl dX9_classes_0 ?_
  refine vv_iconst (pc := 1) X dX9_classes_1 ?_
  refine vv_putI (pc := 2) (fin := false) X (fun _ z => by cases List.mem_singleton.mp z; exact fl_X9_69_7) (fun z => nomatch z) (fun z => nomatch z) dX9_classes_2 (fun h1 => ?_)
  refine vv_aload_n (pc := 5) X (kf := 0) (i := 0) rfl 0 rfl dX9_classes_5 ?_
  refine vv_iload_n (pc := 6) X (kf := 1) (i := 1) rfl 1 rfl dX9_classes_6 ?_
  refine vv_iconst (pc := 7) X dX9_classes_7 ?_
  refine vv_sipush (pc := 8) X (by decide) dX9_classes_8 ?_
  refine vv_callI (pc := 11) (rest := [LR (some a0)]) (by rfl) (fun r8 k8 e8 => zz_callS X (m_X9_in (hlM X) _ _ _ _ _ _ e8) q3593 q3594 q164 q3595 nh_X9 rfl (by decide) (by decide) (Nat.le_of_ble_eq_true rfl) dX9_classes_11) (fun v2 h3 => ?_)
  refine vv_if_ne (pc := 14) (tgt := 21) X dX9_classes_14 rfl ?_ ?_
  · refine vv_iconst (pc := 21) X dX9_classes_21 ?_
    exact B_X9_classes_22 X _ _ _ _ _
  · refine vv_iconst (pc := 17) X dX9_classes_17 ?_
    refine vv_goto (pc := 18) (tgt := 22) X dX9_classes_18 rfl ?_
    exact B_X9_classes_22 X _ _ _ _ _
theorem m_X9_classes {l : Launch} (hl : l.stackTraces = false) {G : va_G} (a0 : Nat) (a1 : Int) (h : HP) : ∀ r hf, f_X9_classes a0 a1 h = some (r, hf) → Ct l yX9_classes (ws_ yX9_classes cX9_classes 4 (some .int)) 6 185 G h [.ref a0, .int (iI a1)] (jI r) hf :=
  zz_ofW hl (by decide +kernel) (lv := [(0, LR (some a0)), (1, LI a1)]) (by simp [lv_args, lvL, lvV, zz_rfc, zz_rfs, zz_ci, zz_cr, zz_cj, zz_cf, zz_cd]) (by simp [lg_sl, zz_rfc, zz_ci, zz_cr, zz_cj, zz_cf, zz_cd]) (fun _ X => A_X9_classes X a0 a1 h)
-- X2_longestTwin RenamedWords$Desk.longestTwin()I
noncomputable def c_X2_longestTwin_19 (r4 : Option Nat → Int → Int → HP → Option ((Int) × HP)) (r19 : Option Nat → Int → Int → Int → HP → Option ((Int) × HP)) (x0 : Option Nat) (x1 : Int) (x2 : Int) (x3 : Int) (h : HP) : Option ((Int) × HP) :=
  (rdR h x0 [1] 0).bind fun v3 =>
  (rdI h v3 [3] 3).bind fun v4 =>
  iLE v4 x3
    (r4 x0 x1 (x2 + 1) h)
    ((rdR h x0 [1] 0).bind fun v5 =>
    (rdI h v5 [3] 3).bind fun v6 =>
    (rdR h x0 [1] 5).bind fun v7 =>
    (rdR h x0 [1] 0).bind fun v8 =>
    (rcv h v7 [5]).bind fun b11 =>
    hb (f_X7_lays b11 v8 x2 (v6 - x3) h) fun v9 h10 =>
    (rdR h10 x0 [1] 6).bind fun v13 =>
    (rdR h10 x0 [1] 0).bind fun v14 =>
    (rcv h10 v13 [5]).bind fun b17 =>
    hb (f_X7_lays b17 v14 x3 (v6 - x3) h10) fun v15 h16 =>
    (rdI h16 x0 [1] 7).bind fun v19 =>
    hb (f_X1_differsAt v9 v15 (v6 - x3) v19 h16) fun v20 h21 =>
    hb (f_J14_max x1 v20 h21) fun v22 h23 =>
    r19 x0 v22 x2 (x3 + 1) h23)
noncomputable def b_X2_longestTwin_19 (r4 : Option Nat → Int → Int → HP → Option ((Int) × HP)) : Option Nat → Int → Int → Int → HP → Option ((Int) × HP) := fx (fun _ _ _ _ _ => none) (c_X2_longestTwin_19 r4) FU
theorem C_X2_longestTwin_19 {M : hp_M} {G : va_G} {h0 : HP} (X : hp_X M G h0 "RenamedWords$Desk" "longestTwin" cX2_longestTwin 5 (some .int) [] 6 183) (r4 : Option Nat → Int → Int → HP → Option ((Int) × HP)) (hr4 : ∀ (y0 : Option Nat) (y1 : Int) (y2 : Int) (h : HP), vv M G h0 5 (hp_End M G h0) jI h 4 [(0, LR y0), (1, LI y1), (2, LI y2)] [] (r4 y0 y1 y2 h)) (r19 : Option Nat → Int → Int → Int → HP → Option ((Int) × HP)) (hr19 : ∀ (y0 : Option Nat) (y1 : Int) (y2 : Int) (y3 : Int) (h : HP), vv M G h0 5 (hp_End M G h0) jI h 19 [(0, LR y0), (1, LI y1), (2, LI y2), (3, LI y3)] [] (r19 y0 y1 y2 y3 h)) (x0 : Option Nat) (x1 : Int) (x2 : Int) (x3 : Int) (h : HP) : vv M G h0 5 (hp_End M G h0) jI h 19 [(0, LR x0), (1, LI x1), (2, LI x2), (3, LI x3)] [] (c_X2_longestTwin_19 r4 r19 x0 x1 x2 x3 h) := by
  unfold c_X2_longestTwin_19
  refine vv_iload_n (pc := 19) X (kf := 3) (i := 3) rfl 3 rfl dX2_longestTwin_19 ?_
  refine vv_aload_n (pc := 20) X (kf := 0) (i := 0) rfl 0 rfl dX2_longestTwin_20 ?_
  refine vv_getR (pc := 21) X (fun _ z => by cases List.mem_singleton.mp z; exact fl_X2_12_1) dX2_longestTwin_21 (fun v3 => ?_)
  refine vv_getI (pc := 24) X (fun _ z => by cases List.mem_singleton.mp z; exact fl_X2_123_3) dX2_longestTwin_24 (fun v4 => ?_)
  refine vv_icmp_ge (pc := 27) (tgt := 89) X dX2_longestTwin_27 rfl ?_ ?_
  · refine vv_iinc (pc := 89) (lv' := [(2, LI (x2 + 1)), (0, LR x0), (1, LI x1), (3, LI x3)]) X 2 rfl (by decide) rfl dX2_longestTwin_89 ?_
    refine vv_goto (pc := 92) (tgt := 4) X dX2_longestTwin_92 rfl ?_
    exact vv_sub [1, 2, 0] (by rfl) (hr4 _ _ _ _)
  · refine vv_aload_n (pc := 30) X (kf := 0) (i := 0) rfl 0 rfl dX2_longestTwin_30 ?_
    refine vv_getR (pc := 31) X (fun _ z => by cases List.mem_singleton.mp z; exact fl_X2_12_1) dX2_longestTwin_31 (fun v5 => ?_)
    refine vv_getI (pc := 34) X (fun _ z => by cases List.mem_singleton.mp z; exact fl_X2_123_3) dX2_longestTwin_34 (fun v6 => ?_)
    refine vv_iload_n (pc := 37) X (kf := 3) (i := 3) rfl 3 rfl dX2_longestTwin_37 ?_
    refine vv_isub (pc := 38) X dX2_longestTwin_38 ?_
    refine vv_istore (pc := 39) (lv' := [(4, LI (v6 - x3)), (0, LR x0), (1, LI x1), (2, LI x2), (3, LI x3)]) X (by decide) rfl dX2_longestTwin_39 ?_
    refine vv_iload_n (pc := 41) X (kf := 1) (i := 1) rfl 2 rfl dX2_longestTwin_41 ?_
    refine vv_aload_n (pc := 42) X (kf := 0) (i := 0) rfl 1 rfl dX2_longestTwin_42 ?_
    refine vv_getR (pc := 43) X (fun _ z => by cases List.mem_singleton.mp z; exact fl_X2_38_1) dX2_longestTwin_43 (fun v7 => ?_)
    refine vv_aload_n (pc := 46) X (kf := 0) (i := 0) rfl 1 rfl dX2_longestTwin_46 ?_
    refine vv_getR (pc := 47) X (fun _ z => by cases List.mem_singleton.mp z; exact fl_X2_12_1) dX2_longestTwin_47 (fun v8 => ?_)
    refine vv_iload_n (pc := 50) X (kf := 2) (i := 2) rfl 3 rfl dX2_longestTwin_50 ?_
    refine vv_iload (pc := 51) X 0 rfl dX2_longestTwin_51 ?_
    refine vv_rcv (fun b11 t9 c9 fs9 e12 g9 k9 => ?_)
    cases List.mem_singleton.mp k9
    refine vv_callR (pc := 53) (rest := [LI x1]) (by rw [e12]; rfl) (fun r8 k8 e8 => zz_callV X (m_X7_lays (hlM X) _ _ _ _ _ _ _ e8) g9 rfl rfl q2604 q2605 q2606 q159 q2607 nh_X7 rfl (by decide) (by decide) (Nat.le_of_ble_eq_true rfl) dX2_longestTwin_53) (fun v9 h10 => ?_)
    refine vv_aload_n (pc := 56) X (kf := 0) (i := 0) rfl 1 rfl dX2_longestTwin_56 ?_
    refine vv_getR (pc := 57) X (fun _ z => by cases List.mem_singleton.mp z; exact fl_X2_42_1) dX2_longestTwin_57 (fun v13 => ?_)
    refine vv_aload_n (pc := 60) X (kf := 0) (i := 0) rfl 1 rfl dX2_longestTwin_60 ?_
    refine vv_getR (pc := 61) X (fun _ z => by cases List.mem_singleton.mp z; exact fl_X2_12_1) dX2_longestTwin_61 (fun v14 => ?_)
    refine vv_iload_n (pc := 64) X (kf := 3) (i := 3) rfl 4 rfl dX2_longestTwin_64 ?_
    refine vv_iload (pc := 65) X 0 rfl dX2_longestTwin_65 ?_
    refine vv_rcv (fun b17 t9 c9 fs9 e18 g9 k9 => ?_)
    cases List.mem_singleton.mp k9
    refine vv_callR (pc := 67) (rest := [LR v9, LI x1]) (by rw [e18]; rfl) (fun r8 k8 e8 => zz_callV X (m_X7_lays (hlM X) _ _ _ _ _ _ _ e8) g9 rfl rfl q2604 q2605 q2606 q159 q2607 nh_X7 rfl (by decide) (by decide) (Nat.le_of_ble_eq_true rfl) dX2_longestTwin_67) (fun v15 h16 => ?_)
    refine vv_iload (pc := 70) X 0 rfl dX2_longestTwin_70 ?_
    refine vv_aload_n (pc := 72) X (kf := 0) (i := 0) rfl 1 rfl dX2_longestTwin_72 ?_
    refine vv_getI (pc := 73) X (fun _ z => by cases List.mem_singleton.mp z; exact fl_X2_108_1) dX2_longestTwin_73 (fun v19 => ?_)
    refine vv_callI (pc := 76) (rest := [LI x1]) (by rfl) (fun r8 k8 e8 => zz_callSN X (m_X1_differsAt (hlM X) _ _ _ _ _ _ _ e8) q2952 q2622 q132 q2623 nh_X1 rfl (by decide) (by decide) (Nat.le_of_ble_eq_true rfl) dX2_longestTwin_76) (fun v20 h21 => ?_)
    refine vv_callI (pc := 79) (rest := []) (by rfl) (fun r8 k8 e8 => zz_callS X (m_J14_max (hlM X) _ _ _ _ _ e8) q2953 q374 q149 q375 nh_J14 rfl (by decide) (by decide) (Nat.le_of_ble_eq_true rfl) dX2_longestTwin_79) (fun v22 h23 => ?_)
    refine vv_istore_n (pc := 82) (lv' := [(1, LI v22), (4, LI (v6 - x3)), (0, LR x0), (2, LI x2), (3, LI x3)]) X (kf := 1) (i := 1) rfl (by decide) rfl dX2_longestTwin_82 ?_
    refine vv_iinc (pc := 83) (lv' := [(3, LI (x3 + 1)), (1, LI v22), (4, LI (v6 - x3)), (0, LR x0), (2, LI x2)]) X 4 rfl (by decide) rfl dX2_longestTwin_83 ?_
    refine vv_goto (pc := 86) (tgt := 19) X dX2_longestTwin_86 rfl ?_
    exact vv_sub [3, 1, 4, 0] (by rfl) (hr19 _ _ _ _ _)
theorem B_X2_longestTwin_19 {M : hp_M} {G : va_G} {h0 : HP} (X : hp_X M G h0 "RenamedWords$Desk" "longestTwin" cX2_longestTwin 5 (some .int) [] 6 183) (r4 : Option Nat → Int → Int → HP → Option ((Int) × HP)) (hr4 : ∀ (y0 : Option Nat) (y1 : Int) (y2 : Int) (h : HP), vv M G h0 5 (hp_End M G h0) jI h 4 [(0, LR y0), (1, LI y1), (2, LI y2)] [] (r4 y0 y1 y2 h)) : ∀ (x0 : Option Nat) (x1 : Int) (x2 : Int) (x3 : Int) (h : HP), vv M G h0 5 (hp_End M G h0) jI h 19 [(0, LR x0), (1, LI x1), (2, LI x2), (3, LI x3)] [] (b_X2_longestTwin_19 r4 x0 x1 x2 x3 h) := by
  unfold b_X2_longestTwin_19
  generalize FU = n
  induction n with
  | zero => intro x0 x1 x2 x3 h; exact vv_none
  | succ n ih => exact C_X2_longestTwin_19 X r4 hr4 _ ih
noncomputable def c_X2_longestTwin_4 (r4 : Option Nat → Int → Int → HP → Option ((Int) × HP)) (x0 : Option Nat) (x1 : Int) (x2 : Int) (h : HP) : Option ((Int) × HP) :=
  (rdR h x0 [1] 0).bind fun v1 =>
  (rdI h v1 [3] 3).bind fun v2 =>
  iLE v2 x2
    (some (x1, h))
    (b_X2_longestTwin_19 r4 x0 x1 x2 (x2 + 1) h)
noncomputable def b_X2_longestTwin_4 : Option Nat → Int → Int → HP → Option ((Int) × HP) := fx (fun _ _ _ _ => none) (c_X2_longestTwin_4) FU
theorem C_X2_longestTwin_4 {M : hp_M} {G : va_G} {h0 : HP} (X : hp_X M G h0 "RenamedWords$Desk" "longestTwin" cX2_longestTwin 5 (some .int) [] 6 183) (r4 : Option Nat → Int → Int → HP → Option ((Int) × HP)) (hr4 : ∀ (y0 : Option Nat) (y1 : Int) (y2 : Int) (h : HP), vv M G h0 5 (hp_End M G h0) jI h 4 [(0, LR y0), (1, LI y1), (2, LI y2)] [] (r4 y0 y1 y2 h)) (x0 : Option Nat) (x1 : Int) (x2 : Int) (h : HP) : vv M G h0 5 (hp_End M G h0) jI h 4 [(0, LR x0), (1, LI x1), (2, LI x2)] [] (c_X2_longestTwin_4 r4 x0 x1 x2 h) := by
  unfold c_X2_longestTwin_4
  refine vv_iload_n (pc := 4) X (kf := 2) (i := 2) rfl 2 rfl dX2_longestTwin_4 ?_
  refine vv_aload_n (pc := 5) X (kf := 0) (i := 0) rfl 0 rfl dX2_longestTwin_5 ?_
  refine vv_getR (pc := 6) X (fun _ z => by cases List.mem_singleton.mp z; exact fl_X2_12_1) dX2_longestTwin_6 (fun v1 => ?_)
  refine vv_getI (pc := 9) X (fun _ z => by cases List.mem_singleton.mp z; exact fl_X2_123_3) dX2_longestTwin_9 (fun v2 => ?_)
  refine vv_icmp_ge (pc := 12) (tgt := 95) X dX2_longestTwin_12 rfl ?_ ?_
  · refine vv_iload_n (pc := 95) X (kf := 1) (i := 1) rfl 1 rfl dX2_longestTwin_95 ?_
    exact vv_iretI X rfl rfl dX2_longestTwin_96
  · refine vv_iload_n (pc := 15) X (kf := 2) (i := 2) rfl 2 rfl dX2_longestTwin_15 ?_
    refine vv_iconst (pc := 16) X dX2_longestTwin_16 ?_
    refine vv_iadd (pc := 17) X dX2_longestTwin_17 ?_
    refine vv_istore_n (pc := 18) (lv' := [(3, LI (x2 + 1)), (0, LR x0), (1, LI x1), (2, LI x2)]) X (kf := 3) (i := 3) rfl (by decide) rfl dX2_longestTwin_18 ?_
    exact vv_sub [1, 2, 3, 0] (by rfl) (B_X2_longestTwin_19 X r4 hr4 _ _ _ _ _)
theorem B_X2_longestTwin_4 {M : hp_M} {G : va_G} {h0 : HP} (X : hp_X M G h0 "RenamedWords$Desk" "longestTwin" cX2_longestTwin 5 (some .int) [] 6 183) : ∀ (x0 : Option Nat) (x1 : Int) (x2 : Int) (h : HP), vv M G h0 5 (hp_End M G h0) jI h 4 [(0, LR x0), (1, LI x1), (2, LI x2)] [] (b_X2_longestTwin_4 x0 x1 x2 h) := by
  unfold b_X2_longestTwin_4
  generalize FU = n
  induction n with
  | zero => intro x0 x1 x2 h; exact vv_none
  | succ n ih => exact C_X2_longestTwin_4 X _ ih
noncomputable def f_X2_longestTwin (a0 : Nat) (h : HP) : Option ((Int) × HP) :=
  b_X2_longestTwin_4 (some a0) 0 0 h
theorem A_X2_longestTwin {M : hp_M} {G : va_G} {h0 : HP} (X : hp_X M G h0 "RenamedWords$Desk" "longestTwin" cX2_longestTwin 5 (some .int) [] 6 183) (a0 : Nat) (h : HP) : vv M G h0 5 (hp_End M G h0) jI h 0 [(0, LR (some a0))] [] (f_X2_longestTwin a0 h) := by
  unfold f_X2_longestTwin
  refine vv_iconst (pc := 0) X dX2_longestTwin_0 ?_
  refine vv_istore_n (pc := 1) (lv' := [(1, LI 0), (0, LR (some a0))]) X (kf := 1) (i := 1) rfl (by decide) rfl dX2_longestTwin_1 ?_
  refine vv_iconst (pc := 2) X dX2_longestTwin_2 ?_
  refine vv_istore_n (pc := 3) (lv' := [(2, LI 0), (1, LI 0), (0, LR (some a0))]) X (kf := 2) (i := 2) rfl (by decide) rfl dX2_longestTwin_3 ?_
  exact vv_sub [2, 1, 0] (by rfl) (B_X2_longestTwin_4 X _ _ _ _)
theorem m_X2_longestTwin {l : Launch} (hl : l.stackTraces = false) {G : va_G} (a0 : Nat) (h : HP) : ∀ r hf, f_X2_longestTwin a0 h = some (r, hf) → Ct l yX2_longestTwin (ws_ yX2_longestTwin cX2_longestTwin 5 (some .int)) 6 183 G h [.ref a0] (jI r) hf :=
  zz_ofW hl (by decide +kernel) (lv := [(0, LR (some a0))]) (by simp [lv_args, lvL, lvV, zz_rfc, zz_rfs, zz_ci, zz_cr, zz_cj, zz_cf, zz_cd]) (by simp [lg_sl, zz_rfc, zz_ci, zz_cr, zz_cj, zz_cf, zz_cd]) (fun _ X => A_X2_longestTwin X a0 h)
-- X1_longestTwin RenamedWords.longestTwin()I
noncomputable def f_X1_longestTwin (a0 : Nat) (h : HP) : Option ((Int) × HP) :=
  (rdR h (some a0) [0] 0).bind fun v1 =>
  (rcv h v1 [1]).bind fun b4 =>
  hb (f_X2_longestTwin b4 h) fun v2 h3 =>
  some (v2, h3)
theorem A_X1_longestTwin {M : hp_M} {G : va_G} {h0 : HP} (X : hp_X M G h0 "RenamedWords" "longestTwin" cX1_longestTwin 1 (some .int) [] 7 215) (a0 : Nat) (h : HP) : vv M G h0 1 (hp_End M G h0) jI h 0 [(0, LR (some a0))] [] (f_X1_longestTwin a0 h) := by
  unfold f_X1_longestTwin
  refine vv_aload_n (pc := 0) X (kf := 0) (i := 0) rfl 0 rfl dX1_longestTwin_0 ?_
  refine vv_getR (pc := 1) X (fun _ z => by cases List.mem_singleton.mp z; exact fl_X1_35_0) dX1_longestTwin_1 (fun v1 => ?_)
  refine vv_rcv (fun b4 t9 c9 fs9 e5 g9 k9 => ?_)
  cases List.mem_singleton.mp k9
  refine vv_callI (pc := 4) (rest := []) (by rw [e5]; rfl) (fun r8 k8 e8 => zz_callV X (m_X2_longestTwin (hlM X) _ _ _ _ e8) g9 rfl rfl q2948 q2949 q2950 q133 q2951 nh_X2 rfl (by decide) (by decide) (Nat.le_of_ble_eq_true rfl) dX1_longestTwin_4) (fun v2 h3 => ?_)
  exact vv_iretI X rfl rfl dX1_longestTwin_7
theorem m_X1_longestTwin {l : Launch} (hl : l.stackTraces = false) {G : va_G} (a0 : Nat) (h : HP) : ∀ r hf, f_X1_longestTwin a0 h = some (r, hf) → Ct l yX1_longestTwin (ws_ yX1_longestTwin cX1_longestTwin 1 (some .int)) 7 215 G h [.ref a0] (jI r) hf :=
  zz_ofW hl (by decide +kernel) (lv := [(0, LR (some a0))]) (by simp [lv_args, lvL, lvV, zz_rfc, zz_rfs, zz_ci, zz_cr, zz_cj, zz_cf, zz_cd]) (by simp [lg_sl, zz_rfc, zz_ci, zz_cr, zz_cj, zz_cf, zz_cd]) (fun _ X => A_X1_longestTwin X a0 h)
-- X9_longestTwin RenamedWordsModel.longestTwin()I
noncomputable def c_X9_longestTwin_23 (r9 : Option Nat → Int → Int → HP → Option ((Int) × HP)) (r23 : Option Nat → Int → Int → Int → HP → Option ((Int) × HP)) (x0 : Option Nat) (x1 : Int) (x2 : Int) (x3 : Int) (h : HP) : Option ((Int) × HP) :=
  (rdR h x0 [7] 0).bind fun v4 =>
  (aldI h .int v4 1).bind fun v5 =>
  iLE v5 x3
    (r9 x0 x1 (x2 + 1) h)
    (hb (f_X9_textFrom x2 h) fun v6 h7 =>
    hb (f_X9_textFrom x3 h7) fun v8 h9 =>
    (rdR h9 x0 [7] 0).bind fun v10 =>
    (aldI h9 .int v10 1).bind fun v11 =>
    (rcv h9 x0 [7]).bind fun b14 =>
    hb (f_X9_alikeFrom b14 v6 v8 (v11 - x3) h9) fun v12 h13 =>
    hb (f_J14_max x1 v12 h13) fun v16 h17 =>
    r23 x0 v16 x2 (x3 + 1) h17)
noncomputable def b_X9_longestTwin_23 (r9 : Option Nat → Int → Int → HP → Option ((Int) × HP)) : Option Nat → Int → Int → Int → HP → Option ((Int) × HP) := fx (fun _ _ _ _ _ => none) (c_X9_longestTwin_23 r9) FU
theorem C_X9_longestTwin_23 {M : hp_M} {G : va_G} {h0 : HP} (X : hp_X M G h0 "RenamedWordsModel" "longestTwin" cX9_longestTwin 4 (some .int) [] 4 123) (r9 : Option Nat → Int → Int → HP → Option ((Int) × HP)) (hr9 : ∀ (y0 : Option Nat) (y1 : Int) (y2 : Int) (h : HP), vv M G h0 4 (hp_End M G h0) jI h 9 [(0, LR y0), (1, LI y1), (2, LI y2)] [] (r9 y0 y1 y2 h)) (r23 : Option Nat → Int → Int → Int → HP → Option ((Int) × HP)) (hr23 : ∀ (y0 : Option Nat) (y1 : Int) (y2 : Int) (y3 : Int) (h : HP), vv M G h0 4 (hp_End M G h0) jI h 23 [(0, LR y0), (1, LI y1), (2, LI y2), (3, LI y3)] [] (r23 y0 y1 y2 y3 h)) (x0 : Option Nat) (x1 : Int) (x2 : Int) (x3 : Int) (h : HP) : vv M G h0 4 (hp_End M G h0) jI h 23 [(0, LR x0), (1, LI x1), (2, LI x2), (3, LI x3)] [] (c_X9_longestTwin_23 r9 r23 x0 x1 x2 x3 h) := by
  unfold c_X9_longestTwin_23
  refine vv_iload_n (pc := 23) X (kf := 3) (i := 3) rfl 3 rfl dX9_longestTwin_23 ?_
  refine vv_aload_n (pc := 24) X (kf := 0) (i := 0) rfl 0 rfl dX9_longestTwin_24 ?_
  refine vv_getR (pc := 25) X (fun _ z => by cases List.mem_singleton.mp z; exact fl_X9_9_7) dX9_longestTwin_25 (fun v4 => ?_)
  refine vv_iconst (pc := 28) X dX9_longestTwin_28 ?_
  refine vv_iaload (pc := 29) X dX9_longestTwin_29 (fun v5 => ?_)
  refine vv_icmp_ge (pc := 30) (tgt := 64) X dX9_longestTwin_30 rfl ?_ ?_
  · refine vv_iinc (pc := 64) (lv' := [(2, LI (x2 + 1)), (0, LR x0), (1, LI x1), (3, LI x3)]) X 2 rfl (by decide) rfl dX9_longestTwin_64 ?_
    refine vv_goto (pc := 67) (tgt := 9) X dX9_longestTwin_67 rfl ?_
    exact vv_sub [1, 2, 0] (by rfl) (hr9 _ _ _ _)
  · refine vv_iload_n (pc := 33) X (kf := 1) (i := 1) rfl 1 rfl dX9_longestTwin_33 ?_
    refine vv_aload_n (pc := 34) X (kf := 0) (i := 0) rfl 0 rfl dX9_longestTwin_34 ?_
    refine vv_iload_n (pc := 35) X (kf := 2) (i := 2) rfl 2 rfl dX9_longestTwin_35 ?_
    refine vv_callI (pc := 36) (rest := [LR x0, LI x1]) (by rfl) (fun r8 k8 e8 => zz_callS X (m_X9_textFrom (hlM X) _ _ _ _ e8) q3774 q3775 q164 q3776 nh_X9 rfl (by decide) (by decide) (Nat.le_of_ble_eq_true rfl) dX9_longestTwin_36) (fun v6 h7 => ?_)
    refine vv_iload_n (pc := 39) X (kf := 3) (i := 3) rfl 3 rfl dX9_longestTwin_39 ?_
    refine vv_callI (pc := 40) (rest := [LI v6, LR x0, LI x1]) (by rfl) (fun r8 k8 e8 => zz_callS X (m_X9_textFrom (hlM X) _ _ _ _ e8) q3774 q3775 q164 q3776 nh_X9 rfl (by decide) (by decide) (Nat.le_of_ble_eq_true rfl) dX9_longestTwin_40) (fun v8 h9 => ?_)
    refine vv_aload_n (pc := 43) X (kf := 0) (i := 0) rfl 0 rfl dX9_longestTwin_43 ?_
    refine vv_getR (pc := 44) X (fun _ z => by cases List.mem_singleton.mp z; exact fl_X9_9_7) dX9_longestTwin_44 (fun v10 => ?_)
    refine vv_iconst (pc := 47) X dX9_longestTwin_47 ?_
    refine vv_iaload (pc := 48) X dX9_longestTwin_48 (fun v11 => ?_)
    refine vv_iload_n (pc := 49) X (kf := 3) (i := 3) rfl 3 rfl dX9_longestTwin_49 ?_
    refine vv_isub (pc := 50) X dX9_longestTwin_50 ?_
    refine vv_rcv (fun b14 t9 c9 fs9 e15 g9 k9 => ?_)
    cases List.mem_singleton.mp k9
    refine vv_callI (pc := 51) (rest := [LI x1]) (by rw [e15]; rfl) (fun r8 k8 e8 => zz_callV X (m_X9_alikeFrom (hlM X) _ _ _ _ _ _ _ e8) g9 rfl rfl q3781 q3783 qs95 q164 q3784 nh_X9 rfl (by decide) (by decide) (Nat.le_of_ble_eq_true rfl) dX9_longestTwin_51) (fun v12 h13 => ?_)
    refine vv_callI (pc := 54) (rest := []) (by rfl) (fun r8 k8 e8 => zz_callS X (m_J14_max (hlM X) _ _ _ _ _ e8) q3978 q374 q149 q375 nh_J14 rfl (by decide) (by decide) (Nat.le_of_ble_eq_true rfl) dX9_longestTwin_54) (fun v16 h17 => ?_)
    refine vv_istore_n (pc := 57) (lv' := [(1, LI v16), (0, LR x0), (2, LI x2), (3, LI x3)]) X (kf := 1) (i := 1) rfl (by decide) rfl dX9_longestTwin_57 ?_
    refine vv_iinc (pc := 58) (lv' := [(3, LI (x3 + 1)), (1, LI v16), (0, LR x0), (2, LI x2)]) X 3 rfl (by decide) rfl dX9_longestTwin_58 ?_
    refine vv_goto (pc := 61) (tgt := 23) X dX9_longestTwin_61 rfl ?_
    exact vv_sub [2, 1, 3, 0] (by rfl) (hr23 _ _ _ _ _)
theorem B_X9_longestTwin_23 {M : hp_M} {G : va_G} {h0 : HP} (X : hp_X M G h0 "RenamedWordsModel" "longestTwin" cX9_longestTwin 4 (some .int) [] 4 123) (r9 : Option Nat → Int → Int → HP → Option ((Int) × HP)) (hr9 : ∀ (y0 : Option Nat) (y1 : Int) (y2 : Int) (h : HP), vv M G h0 4 (hp_End M G h0) jI h 9 [(0, LR y0), (1, LI y1), (2, LI y2)] [] (r9 y0 y1 y2 h)) : ∀ (x0 : Option Nat) (x1 : Int) (x2 : Int) (x3 : Int) (h : HP), vv M G h0 4 (hp_End M G h0) jI h 23 [(0, LR x0), (1, LI x1), (2, LI x2), (3, LI x3)] [] (b_X9_longestTwin_23 r9 x0 x1 x2 x3 h) := by
  unfold b_X9_longestTwin_23
  generalize FU = n
  induction n with
  | zero => intro x0 x1 x2 x3 h; exact vv_none
  | succ n ih => exact C_X9_longestTwin_23 X r9 hr9 _ ih
noncomputable def c_X9_longestTwin_9 (r9 : Option Nat → Int → Int → HP → Option ((Int) × HP)) (x0 : Option Nat) (x1 : Int) (x2 : Int) (h : HP) : Option ((Int) × HP) :=
  (rdR h x0 [7] 0).bind fun v2 =>
  (aldI h .int v2 1).bind fun v3 =>
  iLE v3 x2
    (some (x1, h))
    (b_X9_longestTwin_23 r9 x0 x1 x2 (x2 + 1) h)
noncomputable def b_X9_longestTwin_9 : Option Nat → Int → Int → HP → Option ((Int) × HP) := fx (fun _ _ _ _ => none) (c_X9_longestTwin_9) FU
theorem C_X9_longestTwin_9 {M : hp_M} {G : va_G} {h0 : HP} (X : hp_X M G h0 "RenamedWordsModel" "longestTwin" cX9_longestTwin 4 (some .int) [] 4 123) (r9 : Option Nat → Int → Int → HP → Option ((Int) × HP)) (hr9 : ∀ (y0 : Option Nat) (y1 : Int) (y2 : Int) (h : HP), vv M G h0 4 (hp_End M G h0) jI h 9 [(0, LR y0), (1, LI y1), (2, LI y2)] [] (r9 y0 y1 y2 h)) (x0 : Option Nat) (x1 : Int) (x2 : Int) (h : HP) : vv M G h0 4 (hp_End M G h0) jI h 9 [(0, LR x0), (1, LI x1), (2, LI x2)] [] (c_X9_longestTwin_9 r9 x0 x1 x2 h) := by
  unfold c_X9_longestTwin_9
  refine vv_iload_n (pc := 9) X (kf := 2) (i := 2) rfl 2 rfl dX9_longestTwin_9 ?_
  refine vv_aload_n (pc := 10) X (kf := 0) (i := 0) rfl 0 rfl dX9_longestTwin_10 ?_
  refine vv_getR (pc := 11) X (fun _ z => by cases List.mem_singleton.mp z; exact fl_X9_9_7) dX9_longestTwin_11 (fun v2 => ?_)
  refine vv_iconst (pc := 14) X dX9_longestTwin_14 ?_
  refine vv_iaload (pc := 15) X dX9_longestTwin_15 (fun v3 => ?_)
  refine vv_icmp_ge (pc := 16) (tgt := 70) X dX9_longestTwin_16 rfl ?_ ?_
  · refine vv_iload_n (pc := 70) X (kf := 1) (i := 1) rfl 1 rfl dX9_longestTwin_70 ?_
    exact vv_iretI X rfl rfl dX9_longestTwin_71
  · refine vv_iload_n (pc := 19) X (kf := 2) (i := 2) rfl 2 rfl dX9_longestTwin_19 ?_
    refine vv_iconst (pc := 20) X dX9_longestTwin_20 ?_
    refine vv_iadd (pc := 21) X dX9_longestTwin_21 ?_
    refine vv_istore_n (pc := 22) (lv' := [(3, LI (x2 + 1)), (0, LR x0), (1, LI x1), (2, LI x2)]) X (kf := 3) (i := 3) rfl (by decide) rfl dX9_longestTwin_22 ?_
    exact vv_sub [1, 2, 3, 0] (by rfl) (B_X9_longestTwin_23 X r9 hr9 _ _ _ _ _)
theorem B_X9_longestTwin_9 {M : hp_M} {G : va_G} {h0 : HP} (X : hp_X M G h0 "RenamedWordsModel" "longestTwin" cX9_longestTwin 4 (some .int) [] 4 123) : ∀ (x0 : Option Nat) (x1 : Int) (x2 : Int) (h : HP), vv M G h0 4 (hp_End M G h0) jI h 9 [(0, LR x0), (1, LI x1), (2, LI x2)] [] (b_X9_longestTwin_9 x0 x1 x2 h) := by
  unfold b_X9_longestTwin_9
  generalize FU = n
  induction n with
  | zero => intro x0 x1 x2 h; exact vv_none
  | succ n ih => exact C_X9_longestTwin_9 X _ ih
noncomputable def f_X9_longestTwin (a0 : Nat) (h : HP) : Option ((Int) × HP) :=
  (wrI h (some a0) [7] 7 0).bind fun h1 =>
  b_X9_longestTwin_9 (some a0) 0 0 h1
theorem A_X9_longestTwin {M : hp_M} {G : va_G} {h0 : HP} (X : hp_X M G h0 "RenamedWordsModel" "longestTwin" cX9_longestTwin 4 (some .int) [] 4 123) (a0 : Nat) (h : HP) : vv M G h0 4 (hp_End M G h0) jI h 0 [(0, LR (some a0))] [] (f_X9_longestTwin a0 h) := by
  unfold f_X9_longestTwin
  refine vv_aload_n (pc := 0) X (kf := 0) (i := 0) rfl 0 rfl dX9_longestTwin_0 ?_
  refine vv_iconst (pc := 1) X dX9_longestTwin_1 ?_
  refine vv_putI (pc := 2) (fin := false) X (fun _ z => by cases List.mem_singleton.mp z; exact fl_X9_69_7) (fun z => nomatch z) (fun z => nomatch z) dX9_longestTwin_2 (fun h1 => ?_)
  refine vv_iconst (pc := 5) X dX9_longestTwin_5 ?_
  refine vv_istore_n (pc := 6) (lv' := [(1, LI 0), (0, LR (some a0))]) X (kf := 1) (i := 1) rfl (by decide) rfl dX9_longestTwin_6 ?_
  refine vv_iconst (pc := 7) X dX9_longestTwin_7 ?_
  refine vv_istore_n (pc := 8) (lv' := [(2, LI 0), (1, LI 0), (0, LR (some a0))]) X (kf := 2) (i := 2) rfl (by decide) rfl dX9_longestTwin_8 ?_
  exact vv_sub [2, 1, 0] (by rfl) (B_X9_longestTwin_9 X _ _ _ _)
theorem m_X9_longestTwin {l : Launch} (hl : l.stackTraces = false) {G : va_G} (a0 : Nat) (h : HP) : ∀ r hf, f_X9_longestTwin a0 h = some (r, hf) → Ct l yX9_longestTwin (ws_ yX9_longestTwin cX9_longestTwin 4 (some .int)) 4 123 G h [.ref a0] (jI r) hf :=
  zz_ofW hl (by decide +kernel) (lv := [(0, LR (some a0))]) (by simp [lv_args, lvL, lvV, zz_rfc, zz_rfs, zz_ci, zz_cr, zz_cj, zz_cf, zz_cd]) (by simp [lg_sl, zz_rfc, zz_ci, zz_cr, zz_cj, zz_cf, zz_cd]) (fun _ X => A_X9_longestTwin X a0 h)
-- X2_hitsIf RenamedWords$Desk.hitsIf(III)I
noncomputable def f_X2_hitsIf (a0 : Nat) (a1 : Int) (a2 : Int) (a3 : Int) (h : HP) : Option ((Int) × HP) :=
  (rdR h (some a0) [1] 0).bind fun v1 =>
  (rcv h v1 [3]).bind fun b4 =>
  hb (f_X5_puts b4 a2 a3 h) fun v2 h3 =>
  (rcv h3 (some a0) [1]).bind fun b8 =>
  hb (f_X2_hits b8 a1 h3) fun v6 h7 =>
  (rdR h7 (some a0) [1] 0).bind fun v10 =>
  (rcv h7 v10 [3]).bind fun b13 =>
  hb (f_X5_puts b13 a2 v2 h7) fun v11 h12 =>
  some (v6, h12)
theorem A_X2_hitsIf {M : hp_M} {G : va_G} {h0 : HP} (X : hp_X M G h0 "RenamedWords$Desk" "hitsIf" cX2_hitsIf 7 (some .int) [] 9 275) (a0 : Nat) (a1 : Int) (a2 : Int) (a3 : Int) (h : HP) : vv M G h0 7 (hp_End M G h0) jI h 0 [(0, LR (some a0)), (1, LI a1), (2, LI a2), (3, LI a3)] [] (f_X2_hitsIf a0 a1 a2 a3 h) := by
  unfold f_X2_hitsIf
  refine vv_aload_n (pc := 0) X (kf := 0) (i := 0) rfl 0 rfl dX2_hitsIf_0 ?_
  refine vv_getR (pc := 1) X (fun _ z => by cases List.mem_singleton.mp z; exact fl_X2_12_1) dX2_hitsIf_1 (fun v1 => ?_)
  refine vv_iload_n (pc := 4) X (kf := 2) (i := 2) rfl 2 rfl dX2_hitsIf_4 ?_
  refine vv_iload_n (pc := 5) X (kf := 3) (i := 3) rfl 3 rfl dX2_hitsIf_5 ?_
  refine vv_rcv (fun b4 t9 c9 fs9 e5 g9 k9 => ?_)
  cases List.mem_singleton.mp k9
  refine vv_callI (pc := 6) (rest := []) (by rw [e5]; rfl) (fun r8 k8 e8 => zz_callV X (m_X5_puts (hlM X) _ _ _ _ _ _ e8) g9 rfl rfl q2588 q2589 q2590 q157 q2591 nh_X5 rfl (by decide) (by decide) (Nat.le_of_ble_eq_true rfl) dX2_hitsIf_6) (fun v2 h3 => ?_)
  refine vv_istore (pc := 9) (lv' := [(4, LI v2), (0, LR (some a0)), (1, LI a1), (2, LI a2), (3, LI a3)]) X (by decide) rfl dX2_hitsIf_9 ?_
  refine vv_aload_n (pc := 11) X (kf := 0) (i := 0) rfl 1 rfl dX2_hitsIf_11 ?_
  refine vv_iload_n (pc := 12) X (kf := 1) (i := 1) rfl 2 rfl dX2_hitsIf_12 ?_
  refine vv_rcv (fun b8 t9 c9 fs9 e9 g9 k9 => ?_)
  cases List.mem_singleton.mp k9
  refine vv_callI (pc := 13) (rest := []) (by rw [e9]; rfl) (fun r8 k8 e8 => zz_callV X (m_X2_hits (hlM X) _ _ _ _ _ e8) g9 rfl rfl q2808 q2809 q2810 q133 q2811 nh_X2 rfl (by decide) (by decide) (Nat.le_of_ble_eq_true rfl) dX2_hitsIf_13) (fun v6 h7 => ?_)
  refine vv_istore (pc := 16) (lv' := [(5, LI v6), (4, LI v2), (0, LR (some a0)), (1, LI a1), (2, LI a2), (3, LI a3)]) X (by decide) rfl dX2_hitsIf_16 ?_
  refine vv_aload_n (pc := 18) X (kf := 0) (i := 0) rfl 2 rfl dX2_hitsIf_18 ?_
  refine vv_getR (pc := 19) X (fun _ z => by cases List.mem_singleton.mp z; exact fl_X2_12_1) dX2_hitsIf_19 (fun v10 => ?_)
  refine vv_iload_n (pc := 22) X (kf := 2) (i := 2) rfl 4 rfl dX2_hitsIf_22 ?_
  refine vv_iload (pc := 23) X 1 rfl dX2_hitsIf_23 ?_
  refine vv_rcv (fun b13 t9 c9 fs9 e14 g9 k9 => ?_)
  cases List.mem_singleton.mp k9
  refine vv_callI (pc := 25) (rest := []) (by rw [e14]; rfl) (fun r8 k8 e8 => zz_callV X (m_X5_puts (hlM X) _ _ _ _ _ _ e8) g9 rfl rfl q2588 q2589 q2590 q157 q2591 nh_X5 rfl (by decide) (by decide) (Nat.le_of_ble_eq_true rfl) dX2_hitsIf_25) (fun v11 h12 => ?_)
  refine vv_istore (pc := 28) (lv' := [(6, LI v11), (5, LI v6), (4, LI v2), (0, LR (some a0)), (1, LI a1), (2, LI a2), (3, LI a3)]) X (by decide) rfl dX2_hitsIf_28 ?_
  refine vv_iload (pc := 30) X 1 rfl dX2_hitsIf_30 ?_
  exact vv_iretI X rfl rfl dX2_hitsIf_32
theorem m_X2_hitsIf {l : Launch} (hl : l.stackTraces = false) {G : va_G} (a0 : Nat) (a1 : Int) (a2 : Int) (a3 : Int) (h : HP) : ∀ r hf, f_X2_hitsIf a0 a1 a2 a3 h = some (r, hf) → Ct l yX2_hitsIf (ws_ yX2_hitsIf cX2_hitsIf 7 (some .int)) 9 275 G h [.ref a0, .int (iI a1), .int (iI a2), .int (iI a3)] (jI r) hf :=
  zz_ofW hl (by decide +kernel) (lv := [(0, LR (some a0)), (1, LI a1), (2, LI a2), (3, LI a3)]) (by simp [lv_args, lvL, lvV, zz_rfc, zz_rfs, zz_ci, zz_cr, zz_cj, zz_cf, zz_cd]) (by simp [lg_sl, zz_rfc, zz_ci, zz_cr, zz_cj, zz_cf, zz_cd]) (fun _ X => A_X2_hitsIf X a0 a1 a2 a3 h)
-- X1_hitsIf RenamedWords.hitsIf(III)I
noncomputable def f_X1_hitsIf (a0 : Nat) (a1 : Int) (a2 : Int) (a3 : Int) (h : HP) : Option ((Nat ⊕ Int) × HP) :=
  (rcv h (some a0) [0]).bind fun b3 =>
  hbx (f_X1_at b3 a1 a2 h) (fun q5 h6 =>
      some (.inl q5, h6)) fun _ h2 =>
  hb (f_X1_isLetter a3 h2) fun v7 h8 =>
  hbx (f_X1_argument v7 h8) (fun q11 h12 =>
      some (.inl q11, h12)) fun _ h10 =>
  (rdR h10 (some a0) [0] 0).bind fun v13 =>
  (rcv h10 v13 [1]).bind fun b16 =>
  hb (f_X2_hitsIf b16 a1 a2 a3 h10) fun v14 h15 =>
  some (.inr v14, h15)
theorem A_X1_hitsIf {M : hp_M} {G : va_G} {h0 : HP} (X : hp_X M G h0 "RenamedWords" "hitsIf" cX1_hitsIf 4 (some .int) [] 10 309) (a0 : Nat) (a1 : Int) (a2 : Int) (a3 : Int) (h : HP) : vv M G h0 4 (hp_End M G h0) xI h 0 [(0, LR (some a0)), (1, LI a1), (2, LI a2), (3, LI a3)] [] (f_X1_hitsIf a0 a1 a2 a3 h) := by
  unfold f_X1_hitsIf
  refine vv_aload_n (pc := 0) X (kf := 0) (i := 0) rfl 0 rfl dX1_hitsIf_0 ?_
  refine vv_iload_n (pc := 1) X (kf := 1) (i := 1) rfl 1 rfl dX1_hitsIf_1 ?_
  refine vv_iload_n (pc := 2) X (kf := 2) (i := 2) rfl 2 rfl dX1_hitsIf_2 ?_
  refine vv_rcv (fun b3 t9 c9 fs9 e4 g9 k9 => ?_)
  cases List.mem_singleton.mp k9
  refine vv_xallV (pc := 3) (rest := []) (by rw [e4]; rfl) (fun r8 k8 e8 => zz_callV X (m_X1_at (hlM X) _ _ _ _ _ _ e8) g9 rfl rfl q3200 q3202 qs48 q132 q3203 nh_X1 rfl (by decide) (by decide) (Nat.le_of_ble_eq_true rfl) dX1_hitsIf_3) (fun v1 h2 => ?_) (fun q5 h6 => ?_)
  · refine vv_iload_n (pc := 6) X (kf := 3) (i := 3) rfl 3 rfl dX1_hitsIf_6 ?_
    refine vv_callI (pc := 7) (rest := []) (by rfl) (fun r8 k8 e8 => zz_callS X (m_X1_isLetter (hlM X) _ _ _ _ e8) q3243 q3244 q132 q3245 nh_X1 rfl (by decide) (by decide) (Nat.le_of_ble_eq_true rfl) dX1_hitsIf_7) (fun v7 h8 => ?_)
    refine vv_xallV (pc := 10) (rest := []) (by rfl) (fun r8 k8 e8 => zz_callS X (m_X1_argument (hlM X) _ _ _ _ e8) q3090 q3091 q132 q3092 nh_X1 rfl (by decide) (by decide) (Nat.le_of_ble_eq_true rfl) dX1_hitsIf_10) (fun v9 h10 => ?_) (fun q11 h12 => ?_)
    · refine vv_aload_n (pc := 13) X (kf := 0) (i := 0) rfl 0 rfl dX1_hitsIf_13 ?_
      refine vv_getR (pc := 14) X (fun _ z => by cases List.mem_singleton.mp z; exact fl_X1_35_0) dX1_hitsIf_14 (fun v13 => ?_)
      refine vv_iload_n (pc := 17) X (kf := 1) (i := 1) rfl 1 rfl dX1_hitsIf_17 ?_
      refine vv_iload_n (pc := 18) X (kf := 2) (i := 2) rfl 2 rfl dX1_hitsIf_18 ?_
      refine vv_iload_n (pc := 19) X (kf := 3) (i := 3) rfl 3 rfl dX1_hitsIf_19 ?_
      refine vv_rcv (fun b16 t9 c9 fs9 e17 g9 k9 => ?_)
      cases List.mem_singleton.mp k9
      refine vv_callI (pc := 20) (rest := []) (by rw [e17]; rfl) (fun r8 k8 e8 => zz_callV X (m_X2_hitsIf (hlM X) _ _ _ _ _ _ _ e8) g9 rfl rfl q3310 q3311 q3312 q133 q3313 nh_X2 rfl (by decide) (by decide) (Nat.le_of_ble_eq_true rfl) dX1_hitsIf_20) (fun v14 h15 => ?_)
      exact vv_iretI X rfl rfl dX1_hitsIf_23
    · exact vvx_out X (by decide) rfl
  · exact vvx_out X (by decide) rfl
theorem m_X1_hitsIf {l : Launch} (hl : l.stackTraces = false) {G : va_G} (a0 : Nat) (a1 : Int) (a2 : Int) (a3 : Int) (h : HP) : ∀ r hf, f_X1_hitsIf a0 a1 a2 a3 h = some (r, hf) → Ct l yX1_hitsIf (ws_ yX1_hitsIf cX1_hitsIf 4 (some .int)) 10 309 G h [.ref a0, .int (iI a1), .int (iI a2), .int (iI a3)] (xI r) hf :=
  zz_ofW hl (by decide +kernel) (lv := [(0, LR (some a0)), (1, LI a1), (2, LI a2), (3, LI a3)]) (by simp [lv_args, lvL, lvV, zz_rfc, zz_rfs, zz_ci, zz_cr, zz_cj, zz_cf, zz_cd]) (by simp [lg_sl, zz_rfc, zz_ci, zz_cr, zz_cj, zz_cf, zz_cd]) (fun _ X => A_X1_hitsIf X a0 a1 a2 a3 h)
-- X0_hitsIf RenamedWordsLaw.hitsIf(LRenamedWords;III[J)I
noncomputable def b_X0_hitsIf_19 (s0 : Option Nat) (h : HP) : Option ((Int) × HP) :=
  some (2, h)
theorem B_X0_hitsIf_19 {M : hp_M} {G : va_G} {h0 : HP} (X : hp_X M G h0 "RenamedWordsLaw" "hitsIf" cX0_hitsIf 6 (some .int) (tableOf [(0, 12, 15, 18), (0, 12, 19, 13)]) 11 340) (s0 : Option Nat) (h : HP) : vv M G h0 6 (hp_End M G h0) jI h 19 [] [LR s0] (b_X0_hitsIf_19 s0 h) := by
  unfold b_X0_hitsIf_19
  refine vv_astore (pc := 19) (lv' := [(5, LR s0)]) X (by decide) rfl dX0_hitsIf_19 ?_
  refine vv_iconst (pc := 21) X dX0_hitsIf_21 ?_
  exact vv_iretI X rfl rfl dX0_hitsIf_22
noncomputable def b_X0_hitsIf_15 (s0 : Option Nat) (h : HP) : Option ((Int) × HP) :=
  some (1, h)
theorem B_X0_hitsIf_15 {M : hp_M} {G : va_G} {h0 : HP} (X : hp_X M G h0 "RenamedWordsLaw" "hitsIf" cX0_hitsIf 6 (some .int) (tableOf [(0, 12, 15, 18), (0, 12, 19, 13)]) 11 340) (s0 : Option Nat) (h : HP) : vv M G h0 6 (hp_End M G h0) jI h 15 [] [LR s0] (b_X0_hitsIf_15 s0 h) := by
  unfold b_X0_hitsIf_15
  refine vv_astore (pc := 15) (lv' := [(5, LR s0)]) X (by decide) rfl dX0_hitsIf_15 ?_
  refine vv_iconst (pc := 17) X dX0_hitsIf_17 ?_
  exact vv_iretI X rfl rfl dX0_hitsIf_18
noncomputable def f_X0_hitsIf (a1 : Option Nat) (a2 : Int) (a3 : Int) (a4 : Int) (a5 : Option Nat) (h : HP) : Option ((Int) × HP) :=
  (rcv h a1 [0]).bind fun b3 =>
  hbx (f_X1_hitsIf b3 a2 a3 a4 h) (fun q5 h6 =>
      (clsOf h6 q5).bind fun c7 =>
      if c7 = 35 then
        b_X0_hitsIf_15 (some q5) h6
      else
        if c7 = 36 then
          b_X0_hitsIf_19 (some q5) h6
        else
          none) fun v1 h2 =>
  (astJ h2 a5 0 (iL v1)).bind fun h8 =>
  some (0, h8)
theorem A_X0_hitsIf {M : hp_M} {G : va_G} {h0 : HP} (X : hp_X M G h0 "RenamedWordsLaw" "hitsIf" cX0_hitsIf 6 (some .int) (tableOf [(0, 12, 15, 18), (0, 12, 19, 13)]) 11 340) (a1 : Option Nat) (a2 : Int) (a3 : Int) (a4 : Int) (a5 : Option Nat) (h : HP) : vv M G h0 6 (hp_End M G h0) jI h 0 [(0, LR a1), (1, LI a2), (2, LI a3), (3, LI a4), (4, LR a5)] [] (f_X0_hitsIf a1 a2 a3 a4 a5 h) := by
  unfold f_X0_hitsIf
  refine vv_aload (pc := 0) X 4 rfl dX0_hitsIf_0 ?_
  refine vv_iconst (pc := 2) X dX0_hitsIf_2 ?_
  refine vv_aload_n (pc := 3) X (kf := 0) (i := 0) rfl 0 rfl dX0_hitsIf_3 ?_
  refine vv_iload_n (pc := 4) X (kf := 1) (i := 1) rfl 1 rfl dX0_hitsIf_4 ?_
  refine vv_iload_n (pc := 5) X (kf := 2) (i := 2) rfl 2 rfl dX0_hitsIf_5 ?_
  refine vv_iload_n (pc := 6) X (kf := 3) (i := 3) rfl 3 rfl dX0_hitsIf_6 ?_
  refine vv_rcv (fun b3 t9 c9 fs9 e4 g9 k9 => ?_)
  cases List.mem_singleton.mp k9
  refine vv_xallI (pc := 7) (rest := [LI 0, LR a5]) (by rw [e4]; rfl) (fun r8 k8 e8 => zz_callV X (m_X1_hitsIf (hlM X) _ _ _ _ _ _ _ e8) g9 rfl rfl q3306 q3307 q3308 q132 q3309 nh_X1 rfl (by decide) (by decide) (Nat.le_of_ble_eq_true rfl) dX0_hitsIf_7) (fun v1 h2 => ?_) (fun q5 h6 => ?_)
  · refine vv_i2l (pc := 10) X dX0_hitsIf_10 ?_
    refine vv_lastore (pc := 11) X dX0_hitsIf_11 (fun h8 => ?_)
    refine vv_goto (pc := 12) (tgt := 23) X dX0_hitsIf_12 rfl ?_
    refine vv_iconst (pc := 23) X dX0_hitsIf_23 ?_
    exact vv_iretI X rfl rfl dX0_hitsIf_24
  · refine vvx_cls (fun _ c7 _ g9 => ?_)
    refine vvx_if (fun e9 => ?_) (fun _ => ?_)
    · subst e9
      refine vvx_catch X g9 rfl [] ⟨0, 12, 15, 18⟩ [⟨0, 12, 19, 13⟩] rfl (fun z hz => nomatch hz) rfl (by decide) q3041 q2274 ?_
      exact vv_sub [] (by rfl) (B_X0_hitsIf_15 X _ _)
    · refine vvx_if (fun e9 => ?_) (fun _ => ?_)
      · subst e9
        refine vvx_catch X g9 rfl [⟨0, 12, 15, 18⟩] ⟨0, 12, 19, 13⟩ [] rfl (fun z hz => by rcases List.mem_cons.mp hz with rfl | hz; exact Or.inr ⟨by decide, _, q3041, List.mem_of_getElem? (i := 0) rfl⟩; exact nomatch hz) rfl (by decide) q3013 q275 ?_
        exact vv_sub [] (by rfl) (B_X0_hitsIf_19 X _ _)
      · exact vvx_none
theorem m_X0_hitsIf {l : Launch} (hl : l.stackTraces = false) {G : va_G} (a1 : Option Nat) (a2 : Int) (a3 : Int) (a4 : Int) (a5 : Option Nat) (h : HP) : ∀ r hf, f_X0_hitsIf a1 a2 a3 a4 a5 h = some (r, hf) → Ct l yX0_hitsIf (wsW_ yX0_hitsIf cX0_hitsIf 6 (some .int) [(0, 12, 15, 18), (0, 12, 19, 13)]) 11 340 G h [va_rf a1, .int (iI a2), .int (iI a3), .int (iI a4), va_rf a5] (jI r) hf :=
  zz_ofWH hl (by decide +kernel) (lv := [(0, LR a1), (1, LI a2), (2, LI a3), (3, LI a4), (4, LR a5)]) (by simp [lv_args, lvL, lvV, zz_rfc, zz_rfs, zz_ci, zz_cr, zz_cj, zz_cf, zz_cd]) (by simp [lg_sl, zz_rfc, zz_ci, zz_cr, zz_cj, zz_cf, zz_cd]) (fun _ X => A_X0_hitsIf X a1 a2 a3 a4 a5 h)
-- X9_hitsWith RenamedWordsModel.hitsWith(III)I
noncomputable def f_X9_hitsWith (a0 : Nat) (a1 : Int) (a2 : Int) (a3 : Int) (h : HP) : Option ((Int) × HP) :=
  (rdR h (some a0) [7] 0).bind fun v1 =>
  (aldI h .int v1 (16 + a2)).bind fun v2 =>
  (rdR h (some a0) [7] 0).bind fun v3 =>
  (astI h .int v3 (16 + a2) a3).bind fun h4 =>
  (rcv h4 (some a0) [7]).bind fun b7 =>
  hb (f_X9_hits b7 a1 h4) fun v5 h6 =>
  (rdR h6 (some a0) [7] 0).bind fun v9 =>
  (astI h6 .int v9 (16 + a2) v2).bind fun h10 =>
  some (v5, h10)
theorem A_X9_hitsWith {M : hp_M} {G : va_G} {h0 : HP} (X : hp_X M G h0 "RenamedWordsModel" "hitsWith" cX9_hitsWith 6 (some .int) [] 7 214) (a0 : Nat) (a1 : Int) (a2 : Int) (a3 : Int) (h : HP) : vv M G h0 6 (hp_End M G h0) jI h 0 [(0, LR (some a0)), (1, LI a1), (2, LI a2), (3, LI a3)] [] (f_X9_hitsWith a0 a1 a2 a3 h) := by
  unfold f_X9_hitsWith
  refine vv_aload_n (pc := 0) X (kf := 0) (i := 0) rfl 0 rfl dX9_hitsWith_0 ?_
  refine vv_getR (pc := 1) X (fun _ z => by cases List.mem_singleton.mp z; exact fl_X9_9_7) dX9_hitsWith_1 (fun v1 => ?_)
  refine vv_bipush (pc := 4) X (by decide) dX9_hitsWith_4 ?_
  refine vv_iload_n (pc := 6) X (kf := 2) (i := 2) rfl 2 rfl dX9_hitsWith_6 ?_
  refine vv_iadd (pc := 7) X dX9_hitsWith_7 ?_
  refine vv_iaload (pc := 8) X dX9_hitsWith_8 (fun v2 => ?_)
  refine vv_istore (pc := 9) (lv' := [(4, LI v2), (0, LR (some a0)), (1, LI a1), (2, LI a2), (3, LI a3)]) X (by decide) rfl dX9_hitsWith_9 ?_
  refine vv_aload_n (pc := 11) X (kf := 0) (i := 0) rfl 1 rfl dX9_hitsWith_11 ?_
  refine vv_getR (pc := 12) X (fun _ z => by cases List.mem_singleton.mp z; exact fl_X9_9_7) dX9_hitsWith_12 (fun v3 => ?_)
  refine vv_bipush (pc := 15) X (by decide) dX9_hitsWith_15 ?_
  refine vv_iload_n (pc := 17) X (kf := 2) (i := 2) rfl 3 rfl dX9_hitsWith_17 ?_
  refine vv_iadd (pc := 18) X dX9_hitsWith_18 ?_
  refine vv_iload_n (pc := 19) X (kf := 3) (i := 3) rfl 4 rfl dX9_hitsWith_19 ?_
  refine vv_iastore (pc := 20) X dX9_hitsWith_20 (fun h4 => ?_)
  refine vv_aload_n (pc := 21) X (kf := 0) (i := 0) rfl 1 rfl dX9_hitsWith_21 ?_
  refine vv_iload_n (pc := 22) X (kf := 1) (i := 1) rfl 2 rfl dX9_hitsWith_22 ?_
  refine vv_rcv (fun b7 t9 c9 fs9 e8 g9 k9 => ?_)
  cases List.mem_singleton.mp k9
  refine vv_callI (pc := 23) (rest := []) (by rw [e8]; rfl) (fun r8 k8 e8 => zz_callV X (m_X9_hits (hlM X) _ _ _ _ _ e8) g9 rfl rfl q3829 q3831 qs107 q164 q3832 nh_X9 rfl (by decide) (by decide) (Nat.le_of_ble_eq_true rfl) dX9_hitsWith_23) (fun v5 h6 => ?_)
  refine vv_istore (pc := 26) (lv' := [(5, LI v5), (4, LI v2), (0, LR (some a0)), (1, LI a1), (2, LI a2), (3, LI a3)]) X (by decide) rfl dX9_hitsWith_26 ?_
  refine vv_aload_n (pc := 28) X (kf := 0) (i := 0) rfl 2 rfl dX9_hitsWith_28 ?_
  refine vv_getR (pc := 29) X (fun _ z => by cases List.mem_singleton.mp z; exact fl_X9_9_7) dX9_hitsWith_29 (fun v9 => ?_)
  refine vv_bipush (pc := 32) X (by decide) dX9_hitsWith_32 ?_
  refine vv_iload_n (pc := 34) X (kf := 2) (i := 2) rfl 4 rfl dX9_hitsWith_34 ?_
  refine vv_iadd (pc := 35) X dX9_hitsWith_35 ?_
  refine vv_iload (pc := 36) X 1 rfl dX9_hitsWith_36 ?_
  refine vv_iastore (pc := 38) X dX9_hitsWith_38 (fun h10 => ?_)
  refine vv_iload (pc := 39) X 0 rfl dX9_hitsWith_39 ?_
  exact vv_iretI X rfl rfl dX9_hitsWith_41
theorem m_X9_hitsWith {l : Launch} (hl : l.stackTraces = false) {G : va_G} (a0 : Nat) (a1 : Int) (a2 : Int) (a3 : Int) (h : HP) : ∀ r hf, f_X9_hitsWith a0 a1 a2 a3 h = some (r, hf) → Ct l yX9_hitsWith (ws_ yX9_hitsWith cX9_hitsWith 6 (some .int)) 7 214 G h [.ref a0, .int (iI a1), .int (iI a2), .int (iI a3)] (jI r) hf :=
  zz_ofW hl (by decide +kernel) (lv := [(0, LR (some a0)), (1, LI a1), (2, LI a2), (3, LI a3)]) (by simp [lv_args, lvL, lvV, zz_rfc, zz_rfs, zz_ci, zz_cr, zz_cj, zz_cf, zz_cd]) (by simp [lg_sl, zz_rfc, zz_ci, zz_cr, zz_cj, zz_cf, zz_cd]) (fun _ X => A_X9_hitsWith X a0 a1 a2 a3 h)
-- X9_hitsIf RenamedWordsModel.hitsIf(III)I
noncomputable def b_X9_hitsIf_34 (s0 : Int) (h : HP) : Option ((Int) × HP) :=
  some (s0, h)
theorem B_X9_hitsIf_34 {M : hp_M} {G : va_G} {h0 : HP} (X : hp_X M G h0 "RenamedWordsModel" "hitsIf" cX9_hitsIf 4 (some .int) [] 8 247) (s0 : Int) (h : HP) : vv M G h0 4 (hp_End M G h0) jI h 34 [] [LI s0] (b_X9_hitsIf_34 s0 h) := by
  unfold b_X9_hitsIf_34
  exact vv_iretI X rfl rfl dX9_hitsIf_34
noncomputable def b_X9_hitsIf_23 (h : HP) : Option ((Int) × HP) :=
  b_X9_hitsIf_34 0 h
theorem B_X9_hitsIf_23 {M : hp_M} {G : va_G} {h0 : HP} (X : hp_X M G h0 "RenamedWordsModel" "hitsIf" cX9_hitsIf 4 (some .int) [] 8 247) (h : HP) : vv M G h0 4 (hp_End M G h0) jI h 23 [] [] (b_X9_hitsIf_23 h) := by
  unfold b_X9_hitsIf_23
  refine vv_iconst (pc := 23) X dX9_hitsIf_23 ?_
  refine vv_goto (pc := 24) (tgt := 34) X dX9_hitsIf_24 rfl ?_
  exact B_X9_hitsIf_34 X _ _
noncomputable def f_X9_hitsIf (a0 : Nat) (a1 : Int) (a2 : Int) (a3 : Int) (h : HP) : Option ((Int) × HP) :=
  (wrI h (some a0) [7] 7 0).bind fun h1 =>
  (rcv h1 (some a0) [7]).bind fun b4 =>
  hb (f_X9_noThere b4 a1 a2 h1) fun v2 h3 =>
  iEQ v2 0
    ((rcv h3 (some a0) [7]).bind fun b8 =>
    hb (f_X9_noLetter b8 a3 2 h3) fun v6 h7 =>
    iEQ v6 0
      ((rcv h7 (some a0) [7]).bind fun b12 =>
      hb (f_X9_hitsWith b12 a1 a2 a3 h7) fun v10 h11 =>
      b_X9_hitsIf_34 v10 h11)
      (b_X9_hitsIf_23 h7))
    (b_X9_hitsIf_23 h3)
theorem A_X9_hitsIf {M : hp_M} {G : va_G} {h0 : HP} (X : hp_X M G h0 "RenamedWordsModel" "hitsIf" cX9_hitsIf 4 (some .int) [] 8 247) (a0 : Nat) (a1 : Int) (a2 : Int) (a3 : Int) (h : HP) : vv M G h0 4 (hp_End M G h0) jI h 0 [(0, LR (some a0)), (1, LI a1), (2, LI a2), (3, LI a3)] [] (f_X9_hitsIf a0 a1 a2 a3 h) := by
  unfold f_X9_hitsIf
  refine vv_aload_n (pc := 0) X (kf := 0) (i := 0) rfl 0 rfl dX9_hitsIf_0 ?_
  refine vv_iconst (pc := 1) X dX9_hitsIf_1 ?_
  refine vv_putI (pc := 2) (fin := false) X (fun _ z => by cases List.mem_singleton.mp z; exact fl_X9_69_7) (fun z => nomatch z) (fun z => nomatch z) dX9_hitsIf_2 (fun h1 => ?_)
  refine vv_aload_n (pc := 5) X (kf := 0) (i := 0) rfl 0 rfl dX9_hitsIf_5 ?_
  refine vv_iload_n (pc := 6) X (kf := 1) (i := 1) rfl 1 rfl dX9_hitsIf_6 ?_
  refine vv_iload_n (pc := 7) X (kf := 2) (i := 2) rfl 2 rfl dX9_hitsIf_7 ?_
  refine vv_rcv (fun b4 t9 c9 fs9 e5 g9 k9 => ?_)
  cases List.mem_singleton.mp k9
  refine vv_callI (pc := 8) (rest := []) (by rw [e5]; rfl) (fun r8 k8 e8 => zz_callV X (m_X9_noThere (hlM X) _ _ _ _ _ _ e8) g9 rfl rfl q3942 q3944 qs120 q164 q3945 nh_X9 rfl (by decide) (by decide) (Nat.le_of_ble_eq_true rfl) dX9_hitsIf_8) (fun v2 h3 => ?_)
  refine vv_if_ne (pc := 11) (tgt := 23) X dX9_hitsIf_11 rfl ?_ ?_
  · exact vv_sub [] (by rfl) (B_X9_hitsIf_23 X _)
  · refine vv_aload_n (pc := 14) X (kf := 0) (i := 0) rfl 0 rfl dX9_hitsIf_14 ?_
    refine vv_iload_n (pc := 15) X (kf := 3) (i := 3) rfl 3 rfl dX9_hitsIf_15 ?_
    refine vv_iconst (pc := 16) X dX9_hitsIf_16 ?_
    refine vv_rcv (fun b8 t9 c9 fs9 e9 g9 k9 => ?_)
    cases List.mem_singleton.mp k9
    refine vv_callI (pc := 17) (rest := []) (by rw [e9]; rfl) (fun r8 k8 e8 => zz_callV X (m_X9_noLetter (hlM X) _ _ _ _ _ _ e8) g9 rfl rfl q3958 q3960 qs121 q164 q3961 nh_X9 rfl (by decide) (by decide) (Nat.le_of_ble_eq_true rfl) dX9_hitsIf_17) (fun v6 h7 => ?_)
    refine vv_if_eq (pc := 20) (tgt := 27) X dX9_hitsIf_20 rfl ?_ ?_
    · refine vv_aload_n (pc := 27) X (kf := 0) (i := 0) rfl 0 rfl dX9_hitsIf_27 ?_
      refine vv_iload_n (pc := 28) X (kf := 1) (i := 1) rfl 1 rfl dX9_hitsIf_28 ?_
      refine vv_iload_n (pc := 29) X (kf := 2) (i := 2) rfl 2 rfl dX9_hitsIf_29 ?_
      refine vv_iload_n (pc := 30) X (kf := 3) (i := 3) rfl 3 rfl dX9_hitsIf_30 ?_
      refine vv_rcv (fun b12 t9 c9 fs9 e13 g9 k9 => ?_)
      cases List.mem_singleton.mp k9
      refine vv_callI (pc := 31) (rest := []) (by rw [e13]; rfl) (fun r8 k8 e8 => zz_callV X (m_X9_hitsWith (hlM X) _ _ _ _ _ _ _ e8) g9 rfl rfl q3995 q3997 qs124 q164 q3998 nh_X9 rfl (by decide) (by decide) (Nat.le_of_ble_eq_true rfl) dX9_hitsIf_31) (fun v10 h11 => ?_)
      exact vv_sub [] (by rfl) (B_X9_hitsIf_34 X _ _)
    · exact vv_sub [] (by rfl) (B_X9_hitsIf_23 X _)
theorem m_X9_hitsIf {l : Launch} (hl : l.stackTraces = false) {G : va_G} (a0 : Nat) (a1 : Int) (a2 : Int) (a3 : Int) (h : HP) : ∀ r hf, f_X9_hitsIf a0 a1 a2 a3 h = some (r, hf) → Ct l yX9_hitsIf (ws_ yX9_hitsIf cX9_hitsIf 4 (some .int)) 8 247 G h [.ref a0, .int (iI a1), .int (iI a2), .int (iI a3)] (jI r) hf :=
  zz_ofW hl (by decide +kernel) (lv := [(0, LR (some a0)), (1, LI a1), (2, LI a2), (3, LI a3)]) (by simp [lv_args, lvL, lvV, zz_rfc, zz_rfs, zz_ci, zz_cr, zz_cj, zz_cf, zz_cd]) (by simp [lg_sl, zz_rfc, zz_ci, zz_cr, zz_cj, zz_cf, zz_cd]) (fun _ X => A_X9_hitsIf X a0 a1 a2 a3 h)
