/-! STAGE 1c: functions and contracts (printed by gen/mkfuncs.py). -/
set_option maxRecDepth 100000
set_option linter.unusedVariables false
-- X9_backOf RenamedWordsModel.backOf(II)I
noncomputable def c_X9_backOf_22 (r22 : Option Nat → Int → Int → Int → Int → HP → Option ((Int) × HP)) (x0 : Option Nat) (x1 : Int) (x2 : Int) (x3 : Int) (x4 : Int) (h : HP) : Option ((Int) × HP) :=
  iLT x2 x4
    (some (0, h))
    ((rdR h x0 [7] 0).bind fun v7 =>
    (aldI h .int v7 ((x1 + x2) - x4)).bind fun v8 =>
    iEQ v8 x3
      (some (x4, h))
      (r22 x0 x1 x2 x3 (x4 + 1) h))
noncomputable def b_X9_backOf_22 : Option Nat → Int → Int → Int → Int → HP → Option ((Int) × HP) := fx (fun _ _ _ _ _ _ => none) (c_X9_backOf_22) FU
theorem C_X9_backOf_22 {M : hp_M} {G : va_G} {h0 : HP} (X : hp_X M G h0 "RenamedWordsModel" "backOf" cX9_backOf 5 (some .int) [] 1 29) (r22 : Option Nat → Int → Int → Int → Int → HP → Option ((Int) × HP)) (hr22 : ∀ (y0 : Option Nat) (y1 : Int) (y2 : Int) (y3 : Int) (y4 : Int) (h : HP), vv M G h0 5 (hp_End M G h0) jI h 22 [(0, LR y0), (1, LI y1), (2, LI y2), (3, LI y3), (4, LI y4)] [] (r22 y0 y1 y2 y3 y4 h)) (x0 : Option Nat) (x1 : Int) (x2 : Int) (x3 : Int) (x4 : Int) (h : HP) : vv M G h0 5 (hp_End M G h0) jI h 22 [(0, LR x0), (1, LI x1), (2, LI x2), (3, LI x3), (4, LI x4)] [] (c_X9_backOf_22 r22 x0 x1 x2 x3 x4 h) := by
  unfold c_X9_backOf_22
  refine vv_iload (pc := 22) X 4 rfl dX9_backOf_22 ?_
  refine vv_iload_n (pc := 24) X (kf := 2) (i := 2) rfl 2 rfl dX9_backOf_24 ?_
  refine vv_icmp_gt (pc := 25) (tgt := 52) X dX9_backOf_25 rfl ?_ ?_
  · refine vv_iconst (pc := 52) X dX9_backOf_52 ?_
    exact vv_iretI X rfl rfl dX9_backOf_53
  · refine vv_aload_n (pc := 28) X (kf := 0) (i := 0) rfl 0 rfl dX9_backOf_28 ?_
    refine vv_getR (pc := 29) X (fun _ z => by cases List.mem_singleton.mp z; exact fl_X9_9_7) dX9_backOf_29 (fun v7 => ?_)
    refine vv_iload_n (pc := 32) X (kf := 1) (i := 1) rfl 1 rfl dX9_backOf_32 ?_
    refine vv_iload_n (pc := 33) X (kf := 2) (i := 2) rfl 2 rfl dX9_backOf_33 ?_
    refine vv_iadd (pc := 34) X dX9_backOf_34 ?_
    refine vv_iload (pc := 35) X 4 rfl dX9_backOf_35 ?_
    refine vv_isub (pc := 37) X dX9_backOf_37 ?_
    refine vv_iaload (pc := 38) X dX9_backOf_38 (fun v8 => ?_)
    refine vv_iload_n (pc := 39) X (kf := 3) (i := 3) rfl 3 rfl dX9_backOf_39 ?_
    refine vv_icmp_ne (pc := 40) (tgt := 46) X dX9_backOf_40 rfl ?_ ?_
    · refine vv_iinc (pc := 46) (lv' := [(4, LI (x4 + 1)), (0, LR x0), (1, LI x1), (2, LI x2), (3, LI x3)]) X 4 rfl (by decide) rfl dX9_backOf_46 ?_
      refine vv_goto (pc := 49) (tgt := 22) X dX9_backOf_49 rfl ?_
      exact vv_sub [1, 2, 3, 4, 0] (by rfl) (hr22 _ _ _ _ _ _)
    · refine vv_iload (pc := 43) X 4 rfl dX9_backOf_43 ?_
      exact vv_iretI X rfl rfl dX9_backOf_45
theorem B_X9_backOf_22 {M : hp_M} {G : va_G} {h0 : HP} (X : hp_X M G h0 "RenamedWordsModel" "backOf" cX9_backOf 5 (some .int) [] 1 29) : ∀ (x0 : Option Nat) (x1 : Int) (x2 : Int) (x3 : Int) (x4 : Int) (h : HP), vv M G h0 5 (hp_End M G h0) jI h 22 [(0, LR x0), (1, LI x1), (2, LI x2), (3, LI x3), (4, LI x4)] [] (b_X9_backOf_22 x0 x1 x2 x3 x4 h) := by
  unfold b_X9_backOf_22
  generalize FU = n
  induction n with
  | zero => intro x0 x1 x2 x3 x4 h; exact vv_none
  | succ n ih => exact C_X9_backOf_22 X _ ih
noncomputable def f_X9_backOf (a0 : Nat) (a1 : Int) (a2 : Int) (h : HP) : Option ((Int) × HP) :=
  (rdR h (some a0) [7] 0).bind fun v1 =>
  (aldI h .int v1 (a1 + a2)).bind fun v2 =>
  (rcv h (some a0) [7]).bind fun b5 =>
  hb (f_X9_isFirm b5 v2 h) fun v3 h4 =>
  iEQ v3 0
    (b_X9_backOf_22 (some a0) a1 a2 v2 1 h4)
    (some (0, h4))
theorem A_X9_backOf {M : hp_M} {G : va_G} {h0 : HP} (X : hp_X M G h0 "RenamedWordsModel" "backOf" cX9_backOf 5 (some .int) [] 1 29) (a0 : Nat) (a1 : Int) (a2 : Int) (h : HP) : vv M G h0 5 (hp_End M G h0) jI h 0 [(0, LR (some a0)), (1, LI a1), (2, LI a2)] [] (f_X9_backOf a0 a1 a2 h) := by
  unfold f_X9_backOf
  refine vv_aload_n (pc := 0) X (kf := 0) (i := 0) rfl 0 rfl dX9_backOf_0 ?_
  refine vv_getR (pc := 1) X (fun _ z => by cases List.mem_singleton.mp z; exact fl_X9_9_7) dX9_backOf_1 (fun v1 => ?_)
  refine vv_iload_n (pc := 4) X (kf := 1) (i := 1) rfl 1 rfl dX9_backOf_4 ?_
  refine vv_iload_n (pc := 5) X (kf := 2) (i := 2) rfl 2 rfl dX9_backOf_5 ?_
  refine vv_iadd (pc := 6) X dX9_backOf_6 ?_
  refine vv_iaload (pc := 7) X dX9_backOf_7 (fun v2 => ?_)
  refine vv_istore_n (pc := 8) (lv' := [(3, LI v2), (0, LR (some a0)), (1, LI a1), (2, LI a2)]) X (kf := 3) (i := 3) rfl (by decide) rfl dX9_backOf_8 ?_
  refine vv_aload_n (pc := 9) X (kf := 0) (i := 0) rfl 1 rfl dX9_backOf_9 ?_
  refine vv_iload_n (pc := 10) X (kf := 3) (i := 3) rfl 0 rfl dX9_backOf_10 ?_
  refine vv_rcv (fun b5 t9 c9 fs9 e6 g9 k9 => ?_)
  cases List.mem_singleton.mp k9
  refine vv_callI (pc := 11) (rest := []) (by rw [e6]; rfl) (fun r8 k8 e8 => zz_callV X (m_X9_isFirm (hlM X) _ _ _ _ _ e8) g9 rfl rfl q3789 q3791 qs97 q164 q3792 nh_X9 rfl (by decide) (by decide) (Nat.le_of_ble_eq_true rfl) dX9_backOf_11) (fun v3 h4 => ?_)
  refine vv_if_eq (pc := 14) (tgt := 19) X dX9_backOf_14 rfl ?_ ?_
  · refine vv_iconst (pc := 19) X dX9_backOf_19 ?_
    refine vv_istore (pc := 20) (lv' := [(4, LI 1), (3, LI v2), (0, LR (some a0)), (1, LI a1), (2, LI a2)]) X (by decide) rfl dX9_backOf_20 ?_
    exact vv_sub [2, 3, 4, 1, 0] (by rfl) (B_X9_backOf_22 X _ _ _ _ _ _)
  · refine vv_iconst (pc := 17) X dX9_backOf_17 ?_
    exact vv_iretI X rfl rfl dX9_backOf_18
theorem m_X9_backOf {l : Launch} (hl : l.stackTraces = false) {G : va_G} (a0 : Nat) (a1 : Int) (a2 : Int) (h : HP) : ∀ r hf, f_X9_backOf a0 a1 a2 h = some (r, hf) → Ct l yX9_backOf (ws_ yX9_backOf cX9_backOf 5 (some .int)) 1 29 G h [.ref a0, .int (iI a1), .int (iI a2)] (jI r) hf :=
  zz_ofW hl (by decide +kernel) (lv := [(0, LR (some a0)), (1, LI a1), (2, LI a2)]) (by simp [lv_args, lvL, lvV, zz_rfc, zz_rfs, zz_ci, zz_cr, zz_cj, zz_cf, zz_cd]) (by simp [lg_sl, zz_rfc, zz_ci, zz_cr, zz_cj, zz_cf, zz_cd]) (fun _ X => A_X9_backOf X a0 a1 a2 h)
-- X9_signOf RenamedWordsModel.signOf(II)I
noncomputable def b_X9_signOf_34 (s0 : Int) (h : HP) : Option ((Int) × HP) :=
  some (s0, h)
theorem B_X9_signOf_34 {M : hp_M} {G : va_G} {h0 : HP} (X : hp_X M G h0 "RenamedWordsModel" "signOf" cX9_signOf 3 (some .int) [] 2 61) (s0 : Int) (h : HP) : vv M G h0 3 (hp_End M G h0) jI h 34 [] [LI s0] (b_X9_signOf_34 s0 h) := by
  unfold b_X9_signOf_34
  exact vv_iretI X rfl rfl dX9_signOf_34
noncomputable def f_X9_signOf (a0 : Nat) (a1 : Int) (a2 : Int) (h : HP) : Option ((Int) × HP) :=
  (rdR h (some a0) [7] 0).bind fun v1 =>
  (aldI h .int v1 (a1 + a2)).bind fun v2 =>
  (rcv h (some a0) [7]).bind fun b5 =>
  hb (f_X9_isFirm b5 v2 h) fun v3 h4 =>
  iEQ v3 0
    ((rcv h4 (some a0) [7]).bind fun b9 =>
    hb (f_X9_backOf b9 a1 a2 h4) fun v7 h8 =>
    b_X9_signOf_34 v7 h8)
    ((rdR h4 (some a0) [7] 0).bind fun v11 =>
    (aldI h4 .int v11 (a1 + a2)).bind fun v12 =>
    b_X9_signOf_34 ((-1) - v12) h4)
theorem A_X9_signOf {M : hp_M} {G : va_G} {h0 : HP} (X : hp_X M G h0 "RenamedWordsModel" "signOf" cX9_signOf 3 (some .int) [] 2 61) (a0 : Nat) (a1 : Int) (a2 : Int) (h : HP) : vv M G h0 3 (hp_End M G h0) jI h 0 [(0, LR (some a0)), (1, LI a1), (2, LI a2)] [] (f_X9_signOf a0 a1 a2 h) := by
  unfold f_X9_signOf
  refine vv_aload_n (pc := 0) X (kf := 0) (i := 0) rfl 0 rfl dX9_signOf_0 ?_
  refine vv_aload_n (pc := 1) X (kf := 0) (i := 0) rfl 0 rfl dX9_signOf_1 ?_
  refine vv_getR (pc := 2) X (fun _ z => by cases List.mem_singleton.mp z; exact fl_X9_9_7) dX9_signOf_2 (fun v1 => ?_)
  refine vv_iload_n (pc := 5) X (kf := 1) (i := 1) rfl 1 rfl dX9_signOf_5 ?_
  refine vv_iload_n (pc := 6) X (kf := 2) (i := 2) rfl 2 rfl dX9_signOf_6 ?_
  refine vv_iadd (pc := 7) X dX9_signOf_7 ?_
  refine vv_iaload (pc := 8) X dX9_signOf_8 (fun v2 => ?_)
  refine vv_rcv (fun b5 t9 c9 fs9 e6 g9 k9 => ?_)
  cases List.mem_singleton.mp k9
  refine vv_callI (pc := 9) (rest := []) (by rw [e6]; rfl) (fun r8 k8 e8 => zz_callV X (m_X9_isFirm (hlM X) _ _ _ _ _ e8) g9 rfl rfl q3789 q3791 qs97 q164 q3792 nh_X9 rfl (by decide) (by decide) (Nat.le_of_ble_eq_true rfl) dX9_signOf_9) (fun v3 h4 => ?_)
  refine vv_if_eq (pc := 12) (tgt := 28) X dX9_signOf_12 rfl ?_ ?_
  · refine vv_aload_n (pc := 28) X (kf := 0) (i := 0) rfl 0 rfl dX9_signOf_28 ?_
    refine vv_iload_n (pc := 29) X (kf := 1) (i := 1) rfl 1 rfl dX9_signOf_29 ?_
    refine vv_iload_n (pc := 30) X (kf := 2) (i := 2) rfl 2 rfl dX9_signOf_30 ?_
    refine vv_rcv (fun b9 t9 c9 fs9 e10 g9 k9 => ?_)
    cases List.mem_singleton.mp k9
    refine vv_callI (pc := 31) (rest := []) (by rw [e10]; rfl) (fun r8 k8 e8 => zz_callV X (m_X9_backOf (hlM X) _ _ _ _ _ _ e8) g9 rfl rfl q3793 q3795 qs98 q164 q3796 nh_X9 rfl (by decide) (by decide) (Nat.le_of_ble_eq_true rfl) dX9_signOf_31) (fun v7 h8 => ?_)
    exact vv_sub [] (by rfl) (B_X9_signOf_34 X _ _)
  · refine vv_iconst (pc := 15) X dX9_signOf_15 ?_
    refine vv_aload_n (pc := 16) X (kf := 0) (i := 0) rfl 0 rfl dX9_signOf_16 ?_
    refine vv_getR (pc := 17) X (fun _ z => by cases List.mem_singleton.mp z; exact fl_X9_9_7) dX9_signOf_17 (fun v11 => ?_)
    refine vv_iload_n (pc := 20) X (kf := 1) (i := 1) rfl 1 rfl dX9_signOf_20 ?_
    refine vv_iload_n (pc := 21) X (kf := 2) (i := 2) rfl 2 rfl dX9_signOf_21 ?_
    refine vv_iadd (pc := 22) X dX9_signOf_22 ?_
    refine vv_iaload (pc := 23) X dX9_signOf_23 (fun v12 => ?_)
    refine vv_isub (pc := 24) X dX9_signOf_24 ?_
    refine vv_goto (pc := 25) (tgt := 34) X dX9_signOf_25 rfl ?_
    exact vv_sub [] (by rfl) (B_X9_signOf_34 X _ _)
theorem m_X9_signOf {l : Launch} (hl : l.stackTraces = false) {G : va_G} (a0 : Nat) (a1 : Int) (a2 : Int) (h : HP) : ∀ r hf, f_X9_signOf a0 a1 a2 h = some (r, hf) → Ct l yX9_signOf (ws_ yX9_signOf cX9_signOf 3 (some .int)) 2 61 G h [.ref a0, .int (iI a1), .int (iI a2)] (jI r) hf :=
  zz_ofW hl (by decide +kernel) (lv := [(0, LR (some a0)), (1, LI a1), (2, LI a2)]) (by simp [lv_args, lvL, lvV, zz_rfc, zz_rfs, zz_ci, zz_cr, zz_cj, zz_cf, zz_cd]) (by simp [lg_sl, zz_rfc, zz_ci, zz_cr, zz_cj, zz_cf, zz_cd]) (fun _ X => A_X9_signOf X a0 a1 a2 h)
-- X9_alikeFrom RenamedWordsModel.alikeFrom(III)I
noncomputable def b_X9_alikeFrom_32 (x4 : Int) (h : HP) : Option ((Int) × HP) :=
  some (x4, h)
theorem B_X9_alikeFrom_32 {M : hp_M} {G : va_G} {h0 : HP} (X : hp_X M G h0 "RenamedWordsModel" "alikeFrom" cX9_alikeFrom 5 (some .int) [] 3 91) (x4 : Int) (h : HP) : vv M G h0 5 (hp_End M G h0) jI h 32 [(4, LI x4)] [] (b_X9_alikeFrom_32 x4 h) := by
  unfold b_X9_alikeFrom_32
  refine vv_iload (pc := 32) X 0 rfl dX9_alikeFrom_32 ?_
  exact vv_iretI X rfl rfl dX9_alikeFrom_34
noncomputable def c_X9_alikeFrom_3 (r3 : Option Nat → Int → Int → Int → Int → HP → Option ((Int) × HP)) (x0 : Option Nat) (x1 : Int) (x2 : Int) (x3 : Int) (x4 : Int) (h : HP) : Option ((Int) × HP) :=
  iLE x3 x4
    (b_X9_alikeFrom_32 x4 h)
    ((rcv h x0 [7]).bind fun b3 =>
    hb (f_X9_signOf b3 x1 x4 h) fun v1 h2 =>
    (rcv h2 x0 [7]).bind fun b7 =>
    hb (f_X9_signOf b7 x2 x4 h2) fun v5 h6 =>
    iEQ v1 v5
      (r3 x0 x1 x2 x3 (x4 + 1) h6)
      (b_X9_alikeFrom_32 x4 h6))
noncomputable def b_X9_alikeFrom_3 : Option Nat → Int → Int → Int → Int → HP → Option ((Int) × HP) := fx (fun _ _ _ _ _ _ => none) (c_X9_alikeFrom_3) FU
theorem C_X9_alikeFrom_3 {M : hp_M} {G : va_G} {h0 : HP} (X : hp_X M G h0 "RenamedWordsModel" "alikeFrom" cX9_alikeFrom 5 (some .int) [] 3 91) (r3 : Option Nat → Int → Int → Int → Int → HP → Option ((Int) × HP)) (hr3 : ∀ (y0 : Option Nat) (y1 : Int) (y2 : Int) (y3 : Int) (y4 : Int) (h : HP), vv M G h0 5 (hp_End M G h0) jI h 3 [(0, LR y0), (1, LI y1), (2, LI y2), (3, LI y3), (4, LI y4)] [] (r3 y0 y1 y2 y3 y4 h)) (x0 : Option Nat) (x1 : Int) (x2 : Int) (x3 : Int) (x4 : Int) (h : HP) : vv M G h0 5 (hp_End M G h0) jI h 3 [(0, LR x0), (1, LI x1), (2, LI x2), (3, LI x3), (4, LI x4)] [] (c_X9_alikeFrom_3 r3 x0 x1 x2 x3 x4 h) := by
  unfold c_X9_alikeFrom_3
  refine vv_iload (pc := 3) X 4 rfl dX9_alikeFrom_3 ?_
  refine vv_iload_n (pc := 5) X (kf := 3) (i := 3) rfl 3 rfl dX9_alikeFrom_5 ?_
  refine vv_icmp_ge (pc := 6) (tgt := 32) X dX9_alikeFrom_6 rfl ?_ ?_
  · exact vv_sub [4] (by rfl) (B_X9_alikeFrom_32 X _ _)
  · refine vv_aload_n (pc := 9) X (kf := 0) (i := 0) rfl 0 rfl dX9_alikeFrom_9 ?_
    refine vv_iload_n (pc := 10) X (kf := 1) (i := 1) rfl 1 rfl dX9_alikeFrom_10 ?_
    refine vv_iload (pc := 11) X 4 rfl dX9_alikeFrom_11 ?_
    refine vv_rcv (fun b3 t9 c9 fs9 e4 g9 k9 => ?_)
    cases List.mem_singleton.mp k9
    refine vv_callI (pc := 13) (rest := []) (by rw [e4]; rfl) (fun r8 k8 e8 => zz_callV X (m_X9_signOf (hlM X) _ _ _ _ _ _ e8) g9 rfl rfl q3785 q3787 qs96 q164 q3788 nh_X9 rfl (by decide) (by decide) (Nat.le_of_ble_eq_true rfl) dX9_alikeFrom_13) (fun v1 h2 => ?_)
    refine vv_aload_n (pc := 16) X (kf := 0) (i := 0) rfl 0 rfl dX9_alikeFrom_16 ?_
    refine vv_iload_n (pc := 17) X (kf := 2) (i := 2) rfl 2 rfl dX9_alikeFrom_17 ?_
    refine vv_iload (pc := 18) X 4 rfl dX9_alikeFrom_18 ?_
    refine vv_rcv (fun b7 t9 c9 fs9 e8 g9 k9 => ?_)
    cases List.mem_singleton.mp k9
    refine vv_callI (pc := 20) (rest := [LI v1]) (by rw [e8]; rfl) (fun r8 k8 e8 => zz_callV X (m_X9_signOf (hlM X) _ _ _ _ _ _ e8) g9 rfl rfl q3785 q3787 qs96 q164 q3788 nh_X9 rfl (by decide) (by decide) (Nat.le_of_ble_eq_true rfl) dX9_alikeFrom_20) (fun v5 h6 => ?_)
    refine vv_icmp_ne (pc := 23) (tgt := 32) X dX9_alikeFrom_23 rfl ?_ ?_
    · exact vv_sub [4] (by rfl) (B_X9_alikeFrom_32 X _ _)
    · refine vv_iinc (pc := 26) (lv' := [(4, LI (x4 + 1)), (0, LR x0), (1, LI x1), (2, LI x2), (3, LI x3)]) X 4 rfl (by decide) rfl dX9_alikeFrom_26 ?_
      refine vv_goto (pc := 29) (tgt := 3) X dX9_alikeFrom_29 rfl ?_
      exact vv_sub [1, 2, 3, 4, 0] (by rfl) (hr3 _ _ _ _ _ _)
theorem B_X9_alikeFrom_3 {M : hp_M} {G : va_G} {h0 : HP} (X : hp_X M G h0 "RenamedWordsModel" "alikeFrom" cX9_alikeFrom 5 (some .int) [] 3 91) : ∀ (x0 : Option Nat) (x1 : Int) (x2 : Int) (x3 : Int) (x4 : Int) (h : HP), vv M G h0 5 (hp_End M G h0) jI h 3 [(0, LR x0), (1, LI x1), (2, LI x2), (3, LI x3), (4, LI x4)] [] (b_X9_alikeFrom_3 x0 x1 x2 x3 x4 h) := by
  unfold b_X9_alikeFrom_3
  generalize FU = n
  induction n with
  | zero => intro x0 x1 x2 x3 x4 h; exact vv_none
  | succ n ih => exact C_X9_alikeFrom_3 X _ ih
noncomputable def f_X9_alikeFrom (a0 : Nat) (a1 : Int) (a2 : Int) (a3 : Int) (h : HP) : Option ((Int) × HP) :=
  b_X9_alikeFrom_3 (some a0) a1 a2 a3 0 h
theorem A_X9_alikeFrom {M : hp_M} {G : va_G} {h0 : HP} (X : hp_X M G h0 "RenamedWordsModel" "alikeFrom" cX9_alikeFrom 5 (some .int) [] 3 91) (a0 : Nat) (a1 : Int) (a2 : Int) (a3 : Int) (h : HP) : vv M G h0 5 (hp_End M G h0) jI h 0 [(0, LR (some a0)), (1, LI a1), (2, LI a2), (3, LI a3)] [] (f_X9_alikeFrom a0 a1 a2 a3 h) := by
  unfold f_X9_alikeFrom
  refine vv_iconst (pc := 0) X dX9_alikeFrom_0 ?_
  refine vv_istore (pc := 1) (lv' := [(4, LI 0), (0, LR (some a0)), (1, LI a1), (2, LI a2), (3, LI a3)]) X (by decide) rfl dX9_alikeFrom_1 ?_
  exact vv_sub [1, 2, 3, 4, 0] (by rfl) (B_X9_alikeFrom_3 X _ _ _ _ _ _)
theorem m_X9_alikeFrom {l : Launch} (hl : l.stackTraces = false) {G : va_G} (a0 : Nat) (a1 : Int) (a2 : Int) (a3 : Int) (h : HP) : ∀ r hf, f_X9_alikeFrom a0 a1 a2 a3 h = some (r, hf) → Ct l yX9_alikeFrom (ws_ yX9_alikeFrom cX9_alikeFrom 5 (some .int)) 3 91 G h [.ref a0, .int (iI a1), .int (iI a2), .int (iI a3)] (jI r) hf :=
  zz_ofW hl (by decide +kernel) (lv := [(0, LR (some a0)), (1, LI a1), (2, LI a2), (3, LI a3)]) (by simp [lv_args, lvL, lvV, zz_rfc, zz_rfs, zz_ci, zz_cr, zz_cj, zz_cf, zz_cd]) (by simp [lg_sl, zz_rfc, zz_ci, zz_cr, zz_cj, zz_cf, zz_cd]) (fun _ X => A_X9_alikeFrom X a0 a1 a2 a3 h)
-- X9_matched RenamedWordsModel.matched(II)I
noncomputable def f_X9_matched (a0 : Nat) (a1 : Int) (a2 : Int) (h : HP) : Option ((Int) × HP) :=
  hb (f_X9_patternFrom a1 h) fun v1 h2 =>
  hb (f_X9_textFrom a2 h2) fun v3 h4 =>
  (rcv h4 (some a0) [7]).bind fun b7 =>
  hb (f_X9_of b7 a1 0 h4) fun v5 h6 =>
  (rdR h6 (some a0) [7] 0).bind fun v9 =>
  (aldI h6 .int v9 1).bind fun v10 =>
  hb (f_J14_min v5 (v10 - a2) h6) fun v11 h12 =>
  (rcv h12 (some a0) [7]).bind fun b15 =>
  hb (f_X9_alikeFrom b15 v1 v3 v11 h12) fun v13 h14 =>
  some (v13, h14)
theorem A_X9_matched {M : hp_M} {G : va_G} {h0 : HP} (X : hp_X M G h0 "RenamedWordsModel" "matched" cX9_matched 3 (some .int) [] 4 123) (a0 : Nat) (a1 : Int) (a2 : Int) (h : HP) : vv M G h0 3 (hp_End M G h0) jI h 0 [(0, LR (some a0)), (1, LI a1), (2, LI a2)] [] (f_X9_matched a0 a1 a2 h) := by
  unfold f_X9_matched
  refine vv_aload_n (pc := 0) X (kf := 0) (i := 0) rfl 0 rfl dX9_matched_0 ?_
  refine vv_iload_n (pc := 1) X (kf := 1) (i := 1) rfl 1 rfl dX9_matched_1 ?_
  refine vv_callI (pc := 2) (rest := [LR (some a0)]) (by rfl) (fun r8 k8 e8 => zz_callS X (m_X9_patternFrom (hlM X) _ _ _ _ e8) q3771 q3772 q164 q3773 nh_X9 rfl (by decide) (by decide) (Nat.le_of_ble_eq_true rfl) dX9_matched_2) (fun v1 h2 => ?_)
  refine vv_iload_n (pc := 5) X (kf := 2) (i := 2) rfl 2 rfl dX9_matched_5 ?_
  refine vv_callI (pc := 6) (rest := [LI v1, LR (some a0)]) (by rfl) (fun r8 k8 e8 => zz_callS X (m_X9_textFrom (hlM X) _ _ _ _ e8) q3774 q3775 q164 q3776 nh_X9 rfl (by decide) (by decide) (Nat.le_of_ble_eq_true rfl) dX9_matched_6) (fun v3 h4 => ?_)
  refine vv_aload_n (pc := 9) X (kf := 0) (i := 0) rfl 0 rfl dX9_matched_9 ?_
  refine vv_iload_n (pc := 10) X (kf := 1) (i := 1) rfl 1 rfl dX9_matched_10 ?_
  refine vv_iconst (pc := 11) X dX9_matched_11 ?_
  refine vv_rcv (fun b7 t9 c9 fs9 e8 g9 k9 => ?_)
  cases List.mem_singleton.mp k9
  refine vv_callI (pc := 12) (rest := [LI v3, LI v1, LR (some a0)]) (by rw [e8]; rfl) (fun r8 k8 e8 => zz_callV X (m_X9_of (hlM X) _ _ _ _ _ _ e8) g9 rfl rfl q3777 q3779 qs94 q164 q3780 nh_X9 rfl (by decide) (by decide) (Nat.le_of_ble_eq_true rfl) dX9_matched_12) (fun v5 h6 => ?_)
  refine vv_aload_n (pc := 15) X (kf := 0) (i := 0) rfl 0 rfl dX9_matched_15 ?_
  refine vv_getR (pc := 16) X (fun _ z => by cases List.mem_singleton.mp z; exact fl_X9_9_7) dX9_matched_16 (fun v9 => ?_)
  refine vv_iconst (pc := 19) X dX9_matched_19 ?_
  refine vv_iaload (pc := 20) X dX9_matched_20 (fun v10 => ?_)
  refine vv_iload_n (pc := 21) X (kf := 2) (i := 2) rfl 2 rfl dX9_matched_21 ?_
  refine vv_isub (pc := 22) X dX9_matched_22 ?_
  refine vv_callI (pc := 23) (rest := [LI v3, LI v1, LR (some a0)]) (by rfl) (fun r8 k8 e8 => zz_callS X (m_J14_min (hlM X) _ _ _ _ _ e8) q3714 q392 q149 q393 nh_J14 rfl (by decide) (by decide) (Nat.le_of_ble_eq_true rfl) dX9_matched_23) (fun v11 h12 => ?_)
  refine vv_rcv (fun b15 t9 c9 fs9 e16 g9 k9 => ?_)
  cases List.mem_singleton.mp k9
  refine vv_callI (pc := 26) (rest := []) (by rw [e16]; rfl) (fun r8 k8 e8 => zz_callV X (m_X9_alikeFrom (hlM X) _ _ _ _ _ _ _ e8) g9 rfl rfl q3781 q3783 qs95 q164 q3784 nh_X9 rfl (by decide) (by decide) (Nat.le_of_ble_eq_true rfl) dX9_matched_26) (fun v13 h14 => ?_)
  exact vv_iretI X rfl rfl dX9_matched_29
theorem m_X9_matched {l : Launch} (hl : l.stackTraces = false) {G : va_G} (a0 : Nat) (a1 : Int) (a2 : Int) (h : HP) : ∀ r hf, f_X9_matched a0 a1 a2 h = some (r, hf) → Ct l yX9_matched (ws_ yX9_matched cX9_matched 3 (some .int)) 4 123 G h [.ref a0, .int (iI a1), .int (iI a2)] (jI r) hf :=
  zz_ofW hl (by decide +kernel) (lv := [(0, LR (some a0)), (1, LI a1), (2, LI a2)]) (by simp [lv_args, lvL, lvV, zz_rfc, zz_rfs, zz_ci, zz_cr, zz_cj, zz_cf, zz_cd]) (by simp [lg_sl, zz_rfc, zz_ci, zz_cr, zz_cj, zz_cf, zz_cd]) (fun _ X => A_X9_matched X a0 a1 a2 h)
-- X9_isThere RenamedWordsModel.isThere(II)Z
noncomputable def b_X9_isThere_30 (s0 : Int) (h : HP) : Option ((Int) × HP) :=
  rtZ s0 (some (s0, h))
theorem B_X9_isThere_30 {M : hp_M} {G : va_G} {h0 : HP} (X : hp_X M G h0 "RenamedWordsModel" "isThere" cX9_isThere 3 (some .boolean) [] 5 153) (s0 : Int) (h : HP) : vv M G h0 3 (hp_End M G h0) jI h 30 [] [LI s0] (b_X9_isThere_30 s0 h) := by
  unfold b_X9_isThere_30
  exact vv_iretZ X rfl rfl dX9_isThere_30
noncomputable def b_X9_isThere_29 (h : HP) : Option ((Int) × HP) :=
  b_X9_isThere_30 0 h
theorem B_X9_isThere_29 {M : hp_M} {G : va_G} {h0 : HP} (X : hp_X M G h0 "RenamedWordsModel" "isThere" cX9_isThere 3 (some .boolean) [] 5 153) (h : HP) : vv M G h0 3 (hp_End M G h0) jI h 29 [] [] (b_X9_isThere_29 h) := by
  unfold b_X9_isThere_29
  refine vv_iconst (pc := 29) X dX9_isThere_29 ?_
  exact B_X9_isThere_30 X _ _
noncomputable def f_X9_isThere (a0 : Nat) (a1 : Int) (a2 : Int) (h : HP) : Option ((Int) × HP) :=
  (rdR h (some a0) [7] 0).bind fun v1 =>
  (aldI h .int v1 1).bind fun v2 =>
  iLE v2 a2
    (b_X9_isThere_29 h)
    ((rcv h (some a0) [7]).bind fun b5 =>
    hb (f_X9_matched b5 a1 a2 h) fun v3 h4 =>
    (rcv h4 (some a0) [7]).bind fun b9 =>
    hb (f_X9_of b9 a1 0 h4) fun v7 h8 =>
    iEQ v3 v7
      (b_X9_isThere_30 1 h8)
      (b_X9_isThere_29 h8))
theorem A_X9_isThere {M : hp_M} {G : va_G} {h0 : HP} (X : hp_X M G h0 "RenamedWordsModel" "isThere" cX9_isThere 3 (some .boolean) [] 5 153) (a0 : Nat) (a1 : Int) (a2 : Int) (h : HP) : vv M G h0 3 (hp_End M G h0) jI h 0 [(0, LR (some a0)), (1, LI a1), (2, LI a2)] [] (f_X9_isThere a0 a1 a2 h) := by
  unfold f_X9_isThere
  refine vv_iload_n (pc := 0) X (kf := 2) (i := 2) rfl 2 rfl dX9_isThere_0 ?_
  refine vv_aload_n (pc := 1) X (kf := 0) (i := 0) rfl 0 rfl dX9_isThere_1 ?_
  refine vv_getR (pc := 2) X (fun _ z => by cases List.mem_singleton.mp z; exact fl_X9_9_7) dX9_isThere_2 (fun v1 => ?_)
  refine vv_iconst (pc := 5) X dX9_isThere_5 ?_
  refine vv_iaload (pc := 6) X dX9_isThere_6 (fun v2 => ?_)
  refine vv_icmp_ge (pc := 7) (tgt := 29) X dX9_isThere_7 rfl ?_ ?_
  · exact vv_sub [] (by rfl) (B_X9_isThere_29 X _)
  · refine vv_aload_n (pc := 10) X (kf := 0) (i := 0) rfl 0 rfl dX9_isThere_10 ?_
    refine vv_iload_n (pc := 11) X (kf := 1) (i := 1) rfl 1 rfl dX9_isThere_11 ?_
    refine vv_iload_n (pc := 12) X (kf := 2) (i := 2) rfl 2 rfl dX9_isThere_12 ?_
    refine vv_rcv (fun b5 t9 c9 fs9 e6 g9 k9 => ?_)
    cases List.mem_singleton.mp k9
    refine vv_callI (pc := 13) (rest := []) (by rw [e6]; rfl) (fun r8 k8 e8 => zz_callV X (m_X9_matched (hlM X) _ _ _ _ _ _ e8) g9 rfl rfl q3767 q3769 qs93 q164 q3770 nh_X9 rfl (by decide) (by decide) (Nat.le_of_ble_eq_true rfl) dX9_isThere_13) (fun v3 h4 => ?_)
    refine vv_aload_n (pc := 16) X (kf := 0) (i := 0) rfl 0 rfl dX9_isThere_16 ?_
    refine vv_iload_n (pc := 17) X (kf := 1) (i := 1) rfl 1 rfl dX9_isThere_17 ?_
    refine vv_iconst (pc := 18) X dX9_isThere_18 ?_
    refine vv_rcv (fun b9 t9 c9 fs9 e10 g9 k9 => ?_)
    cases List.mem_singleton.mp k9
    refine vv_callI (pc := 19) (rest := [LI v3]) (by rw [e10]; rfl) (fun r8 k8 e8 => zz_callV X (m_X9_of (hlM X) _ _ _ _ _ _ e8) g9 rfl rfl q3777 q3779 qs94 q164 q3780 nh_X9 rfl (by decide) (by decide) (Nat.le_of_ble_eq_true rfl) dX9_isThere_19) (fun v7 h8 => ?_)
    refine vv_icmp_ne (pc := 22) (tgt := 29) X dX9_isThere_22 rfl ?_ ?_
    · exact vv_sub [] (by rfl) (B_X9_isThere_29 X _)
    · refine vv_iconst (pc := 25) X dX9_isThere_25 ?_
      refine vv_goto (pc := 26) (tgt := 30) X dX9_isThere_26 rfl ?_
      exact vv_sub [] (by rfl) (B_X9_isThere_30 X _ _)
theorem m_X9_isThere {l : Launch} (hl : l.stackTraces = false) {G : va_G} (a0 : Nat) (a1 : Int) (a2 : Int) (h : HP) : ∀ r hf, f_X9_isThere a0 a1 a2 h = some (r, hf) → Ct l yX9_isThere (ws_ yX9_isThere cX9_isThere 3 (some .boolean)) 5 153 G h [.ref a0, .int (iI a1), .int (iI a2)] (jI r) hf :=
  zz_ofW hl (by decide +kernel) (lv := [(0, LR (some a0)), (1, LI a1), (2, LI a2)]) (by simp [lv_args, lvL, lvV, zz_rfc, zz_rfs, zz_ci, zz_cr, zz_cj, zz_cf, zz_cd]) (by simp [lg_sl, zz_rfc, zz_ci, zz_cr, zz_cj, zz_cf, zz_cd]) (fun _ X => A_X9_isThere X a0 a1 a2 h)
-- X9_markOf RenamedWordsModel.markOf(III)I
noncomputable def b_X9_markOf_32 (r3 : Option Nat → Int → Int → Int → Int → HP → Option ((Int) × HP)) (x0 : Option Nat) (x1 : Int) (x2 : Int) (x3 : Int) (x4 : Int) (h : HP) : Option ((Int) × HP) :=
  r3 x0 x1 x2 x3 (x4 + 1) h
theorem B_X9_markOf_32 {M : hp_M} {G : va_G} {h0 : HP} (X : hp_X M G h0 "RenamedWordsModel" "markOf" cX9_markOf 5 (some .int) [] 1 29) (r3 : Option Nat → Int → Int → Int → Int → HP → Option ((Int) × HP)) (hr3 : ∀ (y0 : Option Nat) (y1 : Int) (y2 : Int) (y3 : Int) (y4 : Int) (h : HP), vv M G h0 5 (hp_End M G h0) jI h 3 [(0, LR y0), (1, LI y1), (2, LI y2), (3, LI y3), (4, LI y4)] [] (r3 y0 y1 y2 y3 y4 h)) (x0 : Option Nat) (x1 : Int) (x2 : Int) (x3 : Int) (x4 : Int) (h : HP) : vv M G h0 5 (hp_End M G h0) jI h 32 [(0, LR x0), (1, LI x1), (2, LI x2), (3, LI x3), (4, LI x4)] [] (b_X9_markOf_32 r3 x0 x1 x2 x3 x4 h) := by
  unfold b_X9_markOf_32
  refine vv_iinc (pc := 32) (lv' := [(4, LI (x4 + 1)), (0, LR x0), (1, LI x1), (2, LI x2), (3, LI x3)]) X 4 rfl (by decide) rfl dX9_markOf_32 ?_
  refine vv_goto (pc := 35) (tgt := 3) X dX9_markOf_35 rfl ?_
  exact vv_sub [1, 2, 3, 4, 0] (by rfl) (hr3 _ _ _ _ _ _)
noncomputable def c_X9_markOf_3 (r3 : Option Nat → Int → Int → Int → Int → HP → Option ((Int) × HP)) (x0 : Option Nat) (x1 : Int) (x2 : Int) (x3 : Int) (x4 : Int) (h : HP) : Option ((Int) × HP) :=
  iLE x3 x4
    (some ((-1), h))
    ((rcv h x0 [7]).bind fun b3 =>
    hb (f_X9_markPlace b3 x4 h) fun v1 h2 =>
    iEQ v1 x2
      ((rcv h2 x0 [7]).bind fun b7 =>
      hb (f_X9_markPattern b7 x4 h2) fun v5 h6 =>
      iEQ v5 x1
        (some (x4, h6))
        (b_X9_markOf_32 r3 x0 x1 x2 x3 x4 h6))
      (b_X9_markOf_32 r3 x0 x1 x2 x3 x4 h2))
noncomputable def b_X9_markOf_3 : Option Nat → Int → Int → Int → Int → HP → Option ((Int) × HP) := fx (fun _ _ _ _ _ _ => none) (c_X9_markOf_3) FU
theorem C_X9_markOf_3 {M : hp_M} {G : va_G} {h0 : HP} (X : hp_X M G h0 "RenamedWordsModel" "markOf" cX9_markOf 5 (some .int) [] 1 29) (r3 : Option Nat → Int → Int → Int → Int → HP → Option ((Int) × HP)) (hr3 : ∀ (y0 : Option Nat) (y1 : Int) (y2 : Int) (y3 : Int) (y4 : Int) (h : HP), vv M G h0 5 (hp_End M G h0) jI h 3 [(0, LR y0), (1, LI y1), (2, LI y2), (3, LI y3), (4, LI y4)] [] (r3 y0 y1 y2 y3 y4 h)) (x0 : Option Nat) (x1 : Int) (x2 : Int) (x3 : Int) (x4 : Int) (h : HP) : vv M G h0 5 (hp_End M G h0) jI h 3 [(0, LR x0), (1, LI x1), (2, LI x2), (3, LI x3), (4, LI x4)] [] (c_X9_markOf_3 r3 x0 x1 x2 x3 x4 h) := by
  unfold c_X9_markOf_3
  refine vv_iload (pc := 3) X 4 rfl dX9_markOf_3 ?_
  refine vv_iload_n (pc := 5) X (kf := 3) (i := 3) rfl 3 rfl dX9_markOf_5 ?_
  refine vv_icmp_ge (pc := 6) (tgt := 38) X dX9_markOf_6 rfl ?_ ?_
  · refine vv_iconst (pc := 38) X dX9_markOf_38 ?_
    exact vv_iretI X rfl rfl dX9_markOf_39
  · refine vv_aload_n (pc := 9) X (kf := 0) (i := 0) rfl 0 rfl dX9_markOf_9 ?_
    refine vv_iload (pc := 10) X 4 rfl dX9_markOf_10 ?_
    refine vv_rcv (fun b3 t9 c9 fs9 e4 g9 k9 => ?_)
    cases List.mem_singleton.mp k9
    refine vv_callI (pc := 12) (rest := []) (by rw [e4]; rfl) (fun r8 k8 e8 => zz_callV X (m_X9_markPlace (hlM X) _ _ _ _ _ e8) g9 rfl rfl q3747 q3749 qs88 q164 q3750 nh_X9 rfl (by decide) (by decide) (Nat.le_of_ble_eq_true rfl) dX9_markOf_12) (fun v1 h2 => ?_)
    refine vv_iload_n (pc := 15) X (kf := 2) (i := 2) rfl 2 rfl dX9_markOf_15 ?_
    refine vv_icmp_ne (pc := 16) (tgt := 32) X dX9_markOf_16 rfl ?_ ?_
    · exact B_X9_markOf_32 X r3 hr3 _ _ _ _ _ _
    · refine vv_aload_n (pc := 19) X (kf := 0) (i := 0) rfl 0 rfl dX9_markOf_19 ?_
      refine vv_iload (pc := 20) X 4 rfl dX9_markOf_20 ?_
      refine vv_rcv (fun b7 t9 c9 fs9 e8 g9 k9 => ?_)
      cases List.mem_singleton.mp k9
      refine vv_callI (pc := 22) (rest := []) (by rw [e8]; rfl) (fun r8 k8 e8 => zz_callV X (m_X9_markPattern (hlM X) _ _ _ _ _ e8) g9 rfl rfl q3759 q3761 qs91 q164 q3762 nh_X9 rfl (by decide) (by decide) (Nat.le_of_ble_eq_true rfl) dX9_markOf_22) (fun v5 h6 => ?_)
      refine vv_iload_n (pc := 25) X (kf := 1) (i := 1) rfl 1 rfl dX9_markOf_25 ?_
      refine vv_icmp_ne (pc := 26) (tgt := 32) X dX9_markOf_26 rfl ?_ ?_
      · exact B_X9_markOf_32 X r3 hr3 _ _ _ _ _ _
      · refine vv_iload (pc := 29) X 4 rfl dX9_markOf_29 ?_
        exact vv_iretI X rfl rfl dX9_markOf_31
theorem B_X9_markOf_3 {M : hp_M} {G : va_G} {h0 : HP} (X : hp_X M G h0 "RenamedWordsModel" "markOf" cX9_markOf 5 (some .int) [] 1 29) : ∀ (x0 : Option Nat) (x1 : Int) (x2 : Int) (x3 : Int) (x4 : Int) (h : HP), vv M G h0 5 (hp_End M G h0) jI h 3 [(0, LR x0), (1, LI x1), (2, LI x2), (3, LI x3), (4, LI x4)] [] (b_X9_markOf_3 x0 x1 x2 x3 x4 h) := by
  unfold b_X9_markOf_3
  generalize FU = n
  induction n with
  | zero => intro x0 x1 x2 x3 x4 h; exact vv_none
  | succ n ih => exact C_X9_markOf_3 X _ ih
noncomputable def f_X9_markOf (a0 : Nat) (a1 : Int) (a2 : Int) (a3 : Int) (h : HP) : Option ((Int) × HP) :=
  b_X9_markOf_3 (some a0) a1 a2 a3 0 h
theorem A_X9_markOf {M : hp_M} {G : va_G} {h0 : HP} (X : hp_X M G h0 "RenamedWordsModel" "markOf" cX9_markOf 5 (some .int) [] 1 29) (a0 : Nat) (a1 : Int) (a2 : Int) (a3 : Int) (h : HP) : vv M G h0 5 (hp_End M G h0) jI h 0 [(0, LR (some a0)), (1, LI a1), (2, LI a2), (3, LI a3)] [] (f_X9_markOf a0 a1 a2 a3 h) := by
  unfold f_X9_markOf
  refine vv_iconst (pc := 0) X dX9_markOf_0 ?_
  refine vv_istore (pc := 1) (lv' := [(4, LI 0), (0, LR (some a0)), (1, LI a1), (2, LI a2), (3, LI a3)]) X (by decide) rfl dX9_markOf_1 ?_
  exact vv_sub [1, 2, 3, 4, 0] (by rfl) (B_X9_markOf_3 X _ _ _ _ _ _)
theorem m_X9_markOf {l : Launch} (hl : l.stackTraces = false) {G : va_G} (a0 : Nat) (a1 : Int) (a2 : Int) (a3 : Int) (h : HP) : ∀ r hf, f_X9_markOf a0 a1 a2 a3 h = some (r, hf) → Ct l yX9_markOf (ws_ yX9_markOf cX9_markOf 5 (some .int)) 1 29 G h [.ref a0, .int (iI a1), .int (iI a2), .int (iI a3)] (jI r) hf :=
  zz_ofW hl (by decide +kernel) (lv := [(0, LR (some a0)), (1, LI a1), (2, LI a2), (3, LI a3)]) (by simp [lv_args, lvL, lvV, zz_rfc, zz_rfs, zz_ci, zz_cr, zz_cj, zz_cf, zz_cd]) (by simp [lg_sl, zz_rfc, zz_ci, zz_cr, zz_cj, zz_cf, zz_cd]) (fun _ X => A_X9_markOf X a0 a1 a2 a3 h)
-- X9_isRight RenamedWordsModel.isRight(I)Z
noncomputable def b_X9_isRight_41 (s0 : Int) (h : HP) : Option ((Int) × HP) :=
  rtZ s0 (some (s0, h))
theorem B_X9_isRight_41 {M : hp_M} {G : va_G} {h0 : HP} (X : hp_X M G h0 "RenamedWordsModel" "isRight" cX9_isRight 2 (some .boolean) [] 6 183) (s0 : Int) (h : HP) : vv M G h0 2 (hp_End M G h0) jI h 41 [] [LI s0] (b_X9_isRight_41 s0 h) := by
  unfold b_X9_isRight_41
  exact vv_iretZ X rfl rfl dX9_isRight_41
noncomputable def b_X9_isRight_40 (h : HP) : Option ((Int) × HP) :=
  b_X9_isRight_41 0 h
theorem B_X9_isRight_40 {M : hp_M} {G : va_G} {h0 : HP} (X : hp_X M G h0 "RenamedWordsModel" "isRight" cX9_isRight 2 (some .boolean) [] 6 183) (h : HP) : vv M G h0 2 (hp_End M G h0) jI h 40 [] [] (b_X9_isRight_40 h) := by
  unfold b_X9_isRight_40
  refine vv_iconst (pc := 40) X dX9_isRight_40 ?_
  exact B_X9_isRight_41 X _ _
noncomputable def f_X9_isRight (a0 : Nat) (a1 : Int) (h : HP) : Option ((Int) × HP) :=
  (rcv h (some a0) [7]).bind fun b3 =>
  hb (f_X9_markPattern b3 a1 h) fun v1 h2 =>
  (rcv h2 (some a0) [7]).bind fun b7 =>
  hb (f_X9_markPlace b7 a1 h2) fun v5 h6 =>
  (rcv h6 (some a0) [7]).bind fun b11 =>
  hb (f_X9_isThere b11 v1 v5 h6) fun v9 h10 =>
  iEQ v9 0
    (b_X9_isRight_40 h10)
    ((rcv h10 (some a0) [7]).bind fun b15 =>
    hb (f_X9_markPattern b15 a1 h10) fun v13 h14 =>
    (rcv h14 (some a0) [7]).bind fun b19 =>
    hb (f_X9_markPlace b19 a1 h14) fun v17 h18 =>
    (rcv h18 (some a0) [7]).bind fun b23 =>
    hb (f_X9_markOf b23 v13 v17 a1 h18) fun v21 h22 =>
    iEQ v21 (-1)
      (b_X9_isRight_41 1 h22)
      (b_X9_isRight_40 h22))
theorem A_X9_isRight {M : hp_M} {G : va_G} {h0 : HP} (X : hp_X M G h0 "RenamedWordsModel" "isRight" cX9_isRight 2 (some .boolean) [] 6 183) (a0 : Nat) (a1 : Int) (h : HP) : vv M G h0 2 (hp_End M G h0) jI h 0 [(0, LR (some a0)), (1, LI a1)] [] (f_X9_isRight a0 a1 h) := by
  unfold f_X9_isRight
  refine vv_aload_n (pc := 0) X (kf := 0) (i := 0) rfl 0 rfl dX9_isRight_0 ?_
  refine vv_aload_n (pc := 1) X (kf := 0) (i := 0) rfl 0 rfl dX9_isRight_1 ?_
  refine vv_iload_n (pc := 2) X (kf := 1) (i := 1) rfl 1 rfl dX9_isRight_2 ?_
  refine vv_rcv (fun b3 t9 c9 fs9 e4 g9 k9 => ?_)
  cases List.mem_singleton.mp k9
  refine vv_callI (pc := 3) (rest := [LR (some a0)]) (by rw [e4]; rfl) (fun r8 k8 e8 => zz_callV X (m_X9_markPattern (hlM X) _ _ _ _ _ e8) g9 rfl rfl q3759 q3761 qs91 q164 q3762 nh_X9 rfl (by decide) (by decide) (Nat.le_of_ble_eq_true rfl) dX9_isRight_3) (fun v1 h2 => ?_)
  refine vv_aload_n (pc := 6) X (kf := 0) (i := 0) rfl 0 rfl dX9_isRight_6 ?_
  refine vv_iload_n (pc := 7) X (kf := 1) (i := 1) rfl 1 rfl dX9_isRight_7 ?_
  refine vv_rcv (fun b7 t9 c9 fs9 e8 g9 k9 => ?_)
  cases List.mem_singleton.mp k9
  refine vv_callI (pc := 8) (rest := [LI v1, LR (some a0)]) (by rw [e8]; rfl) (fun r8 k8 e8 => zz_callV X (m_X9_markPlace (hlM X) _ _ _ _ _ e8) g9 rfl rfl q3747 q3749 qs88 q164 q3750 nh_X9 rfl (by decide) (by decide) (Nat.le_of_ble_eq_true rfl) dX9_isRight_8) (fun v5 h6 => ?_)
  refine vv_rcv (fun b11 t9 c9 fs9 e12 g9 k9 => ?_)
  cases List.mem_singleton.mp k9
  refine vv_callI (pc := 11) (rest := []) (by rw [e12]; rfl) (fun r8 k8 e8 => zz_callV X (m_X9_isThere (hlM X) _ _ _ _ _ _ e8) g9 rfl rfl q3763 q3765 qs92 q164 q3766 nh_X9 rfl (by decide) (by decide) (Nat.le_of_ble_eq_true rfl) dX9_isRight_11) (fun v9 h10 => ?_)
  refine vv_if_eq (pc := 14) (tgt := 40) X dX9_isRight_14 rfl ?_ ?_
  · exact vv_sub [] (by rfl) (B_X9_isRight_40 X _)
  · refine vv_aload_n (pc := 17) X (kf := 0) (i := 0) rfl 0 rfl dX9_isRight_17 ?_
    refine vv_aload_n (pc := 18) X (kf := 0) (i := 0) rfl 0 rfl dX9_isRight_18 ?_
    refine vv_iload_n (pc := 19) X (kf := 1) (i := 1) rfl 1 rfl dX9_isRight_19 ?_
    refine vv_rcv (fun b15 t9 c9 fs9 e16 g9 k9 => ?_)
    cases List.mem_singleton.mp k9
    refine vv_callI (pc := 20) (rest := [LR (some a0)]) (by rw [e16]; rfl) (fun r8 k8 e8 => zz_callV X (m_X9_markPattern (hlM X) _ _ _ _ _ e8) g9 rfl rfl q3759 q3761 qs91 q164 q3762 nh_X9 rfl (by decide) (by decide) (Nat.le_of_ble_eq_true rfl) dX9_isRight_20) (fun v13 h14 => ?_)
    refine vv_aload_n (pc := 23) X (kf := 0) (i := 0) rfl 0 rfl dX9_isRight_23 ?_
    refine vv_iload_n (pc := 24) X (kf := 1) (i := 1) rfl 1 rfl dX9_isRight_24 ?_
    refine vv_rcv (fun b19 t9 c9 fs9 e20 g9 k9 => ?_)
    cases List.mem_singleton.mp k9
    refine vv_callI (pc := 25) (rest := [LI v13, LR (some a0)]) (by rw [e20]; rfl) (fun r8 k8 e8 => zz_callV X (m_X9_markPlace (hlM X) _ _ _ _ _ e8) g9 rfl rfl q3747 q3749 qs88 q164 q3750 nh_X9 rfl (by decide) (by decide) (Nat.le_of_ble_eq_true rfl) dX9_isRight_25) (fun v17 h18 => ?_)
    refine vv_iload_n (pc := 28) X (kf := 1) (i := 1) rfl 1 rfl dX9_isRight_28 ?_
    refine vv_rcv (fun b23 t9 c9 fs9 e24 g9 k9 => ?_)
    cases List.mem_singleton.mp k9
    refine vv_callI (pc := 29) (rest := []) (by rw [e24]; rfl) (fun r8 k8 e8 => zz_callV X (m_X9_markOf (hlM X) _ _ _ _ _ _ _ e8) g9 rfl rfl q3797 q3799 qs99 q164 q3800 nh_X9 rfl (by decide) (by decide) (Nat.le_of_ble_eq_true rfl) dX9_isRight_29) (fun v21 h22 => ?_)
    refine vv_iconst (pc := 32) X dX9_isRight_32 ?_
    refine vv_icmp_ne (pc := 33) (tgt := 40) X dX9_isRight_33 rfl ?_ ?_
    · exact vv_sub [] (by rfl) (B_X9_isRight_40 X _)
    · refine vv_iconst (pc := 36) X dX9_isRight_36 ?_
      refine vv_goto (pc := 37) (tgt := 41) X dX9_isRight_37 rfl ?_
      exact vv_sub [] (by rfl) (B_X9_isRight_41 X _ _)
theorem m_X9_isRight {l : Launch} (hl : l.stackTraces = false) {G : va_G} (a0 : Nat) (a1 : Int) (h : HP) : ∀ r hf, f_X9_isRight a0 a1 h = some (r, hf) → Ct l yX9_isRight (ws_ yX9_isRight cX9_isRight 2 (some .boolean)) 6 183 G h [.ref a0, .int (iI a1)] (jI r) hf :=
  zz_ofW hl (by decide +kernel) (lv := [(0, LR (some a0)), (1, LI a1)]) (by simp [lv_args, lvL, lvV, zz_rfc, zz_rfs, zz_ci, zz_cr, zz_cj, zz_cf, zz_cd]) (by simp [lg_sl, zz_rfc, zz_ci, zz_cr, zz_cj, zz_cf, zz_cd]) (fun _ X => A_X9_isRight X a0 a1 h)
-- X9_takesOut RenamedWordsModel.takesOut(I)V
noncomputable def c_X9_takesOut_18 (r18 : Option Nat → Int → HP → Option ((Unit) × HP)) (x0 : Option Nat) (x2 : Int) (h : HP) : Option ((Unit) × HP) :=
  (rdR h x0 [7] 0).bind fun v4 =>
  (aldI h .int v4 3).bind fun v5 =>
  iLE (456 + (2 * v5)) x2
    (some ((), h))
    ((rdR h x0 [7] 0).bind fun v6 =>
    (rdR h x0 [7] 0).bind fun v7 =>
    (aldI h .int v7 (x2 + 2)).bind fun v8 =>
    (astI h .int v6 x2 v8).bind fun h9 =>
    r18 x0 (x2 + 1) h9)
noncomputable def b_X9_takesOut_18 : Option Nat → Int → HP → Option ((Unit) × HP) := fx (fun _ _ _ => none) (c_X9_takesOut_18) FU
theorem C_X9_takesOut_18 {M : hp_M} {G : va_G} {h0 : HP} (X : hp_X M G h0 "RenamedWordsModel" "takesOut" cX9_takesOut 3 none [] 0 0) (r18 : Option Nat → Int → HP → Option ((Unit) × HP)) (hr18 : ∀ (y0 : Option Nat) (y2 : Int) (h : HP), vv M G h0 3 (hp_End M G h0) jV h 18 [(0, LR y0), (2, LI y2)] [] (r18 y0 y2 h)) (x0 : Option Nat) (x2 : Int) (h : HP) : vv M G h0 3 (hp_End M G h0) jV h 18 [(0, LR x0), (2, LI x2)] [] (c_X9_takesOut_18 r18 x0 x2 h) := by
  unfold c_X9_takesOut_18
  refine vv_iload_n (pc := 18) X (kf := 2) (i := 2) rfl 1 rfl dX9_takesOut_18 ?_
  refine vv_sipush (pc := 19) X (by decide) dX9_takesOut_19 ?_
  refine vv_iconst (pc := 22) X dX9_takesOut_22 ?_
  refine vv_aload_n (pc := 23) X (kf := 0) (i := 0) rfl 0 rfl dX9_takesOut_23 ?_
  refine vv_getR (pc := 24) X (fun _ z => by cases List.mem_singleton.mp z; exact fl_X9_9_7) dX9_takesOut_24 (fun v4 => ?_)
  refine vv_iconst (pc := 27) X dX9_takesOut_27 ?_
  refine vv_iaload (pc := 28) X dX9_takesOut_28 (fun v5 => ?_)
  refine vv_imul (pc := 29) X dX9_takesOut_29 ?_
  refine vv_iadd (pc := 30) X dX9_takesOut_30 ?_
  refine vv_icmp_ge (pc := 31) (tgt := 54) X dX9_takesOut_31 rfl ?_ ?_
  · exact vv_vreturn X rfl rfl dX9_takesOut_54
  · refine vv_aload_n (pc := 34) X (kf := 0) (i := 0) rfl 0 rfl dX9_takesOut_34 ?_
    refine vv_getR (pc := 35) X (fun _ z => by cases List.mem_singleton.mp z; exact fl_X9_9_7) dX9_takesOut_35 (fun v6 => ?_)
    refine vv_iload_n (pc := 38) X (kf := 2) (i := 2) rfl 1 rfl dX9_takesOut_38 ?_
    refine vv_aload_n (pc := 39) X (kf := 0) (i := 0) rfl 0 rfl dX9_takesOut_39 ?_
    refine vv_getR (pc := 40) X (fun _ z => by cases List.mem_singleton.mp z; exact fl_X9_9_7) dX9_takesOut_40 (fun v7 => ?_)
    refine vv_iload_n (pc := 43) X (kf := 2) (i := 2) rfl 1 rfl dX9_takesOut_43 ?_
    refine vv_iconst (pc := 44) X dX9_takesOut_44 ?_
    refine vv_iadd (pc := 45) X dX9_takesOut_45 ?_
    refine vv_iaload (pc := 46) X dX9_takesOut_46 (fun v8 => ?_)
    refine vv_iastore (pc := 47) X dX9_takesOut_47 (fun h9 => ?_)
    refine vv_iinc (pc := 48) (lv' := [(2, LI (x2 + 1)), (0, LR x0)]) X 1 rfl (by decide) rfl dX9_takesOut_48 ?_
    refine vv_goto (pc := 51) (tgt := 18) X dX9_takesOut_51 rfl ?_
    exact vv_sub [1, 0] (by rfl) (hr18 _ _ _)
theorem B_X9_takesOut_18 {M : hp_M} {G : va_G} {h0 : HP} (X : hp_X M G h0 "RenamedWordsModel" "takesOut" cX9_takesOut 3 none [] 0 0) : ∀ (x0 : Option Nat) (x2 : Int) (h : HP), vv M G h0 3 (hp_End M G h0) jV h 18 [(0, LR x0), (2, LI x2)] [] (b_X9_takesOut_18 x0 x2 h) := by
  unfold b_X9_takesOut_18
  generalize FU = n
  induction n with
  | zero => intro x0 x2 h; exact vv_none
  | succ n ih => exact C_X9_takesOut_18 X _ ih
noncomputable def f_X9_takesOut (a0 : Nat) (a1 : Int) (h : HP) : Option ((Unit) × HP) :=
  (rdR h (some a0) [7] 0).bind fun v1 =>
  (aldI h .int v1 3).bind fun v2 =>
  (astI h .int v1 3 (v2 - 1)).bind fun h3 =>
  b_X9_takesOut_18 (some a0) (456 + (2 * a1)) h3
theorem A_X9_takesOut {M : hp_M} {G : va_G} {h0 : HP} (X : hp_X M G h0 "RenamedWordsModel" "takesOut" cX9_takesOut 3 none [] 0 0) (a0 : Nat) (a1 : Int) (h : HP) : vv M G h0 3 (hp_End M G h0) jV h 0 [(0, LR (some a0)), (1, LI a1)] [] (f_X9_takesOut a0 a1 h) := by
  unfold f_X9_takesOut
  refine vv_aload_n (pc := 0) X (kf := 0) (i := 0) rfl 0 rfl dX9_takesOut_0 ?_
  refine vv_getR (pc := 1) X (fun _ z => by cases List.mem_singleton.mp z; exact fl_X9_9_7) dX9_takesOut_1 (fun v1 => ?_)
  refine vv_iconst (pc := 4) X dX9_takesOut_4 ?_
  refine vv_dup2 (pc := 5) X rfl rfl dX9_takesOut_5 ?_
  refine vv_iaload (pc := 6) X dX9_takesOut_6 (fun v2 => ?_)
  refine vv_iconst (pc := 7) X dX9_takesOut_7 ?_
  refine vv_isub (pc := 8) X dX9_takesOut_8 ?_
  refine vv_iastore (pc := 9) X dX9_takesOut_9 (fun h3 => ?_)
  refine vv_sipush (pc := 10) X (by decide) dX9_takesOut_10 ?_
  refine vv_iconst (pc := 13) X dX9_takesOut_13 ?_
  refine vv_iload_n (pc := 14) X (kf := 1) (i := 1) rfl 1 rfl dX9_takesOut_14 ?_
  refine vv_imul (pc := 15) X dX9_takesOut_15 ?_
  refine vv_iadd (pc := 16) X dX9_takesOut_16 ?_
  refine vv_istore_n (pc := 17) (lv' := [(2, LI (456 + (2 * a1))), (0, LR (some a0)), (1, LI a1)]) X (kf := 2) (i := 2) rfl (by decide) rfl dX9_takesOut_17 ?_
  exact vv_sub [1, 0] (by rfl) (B_X9_takesOut_18 X _ _ _)
theorem m_X9_takesOut {l : Launch} (hl : l.stackTraces = false) {G : va_G} (a0 : Nat) (a1 : Int) (h : HP) : ∀ r hf, f_X9_takesOut a0 a1 h = some (r, hf) → Ct l yX9_takesOut (ws_ yX9_takesOut cX9_takesOut 3 none) 0 0 G h [.ref a0, .int (iI a1)] (jV r) hf :=
  zz_ofW hl (by decide +kernel) (lv := [(0, LR (some a0)), (1, LI a1)]) (by simp [lv_args, lvL, lvV, zz_rfc, zz_rfs, zz_ci, zz_cr, zz_cj, zz_cf, zz_cd]) (by simp [lg_sl, zz_rfc, zz_ci, zz_cr, zz_cj, zz_cf, zz_cd]) (fun _ X => A_X9_takesOut X a0 a1 h)
-- X9_cleans RenamedWordsModel.cleans()V
noncomputable def b_X9_cleans_33 (r2 : Option Nat → Int → HP → Option ((Unit) × HP)) (x0 : Option Nat) (x1 : Int) (x2 : Int) (h : HP) : Option ((Unit) × HP) :=
  hb (f_X9_one x2 h) fun v7 h8 =>
  r2 x0 (x1 + v7) h8
theorem B_X9_cleans_33 {M : hp_M} {G : va_G} {h0 : HP} (X : hp_X M G h0 "RenamedWordsModel" "cleans" cX9_cleans 3 none [] 7 212) (r2 : Option Nat → Int → HP → Option ((Unit) × HP)) (hr2 : ∀ (y0 : Option Nat) (y1 : Int) (h : HP), vv M G h0 3 (hp_End M G h0) jV h 2 [(0, LR y0), (1, LI y1)] [] (r2 y0 y1 h)) (x0 : Option Nat) (x1 : Int) (x2 : Int) (h : HP) : vv M G h0 3 (hp_End M G h0) jV h 33 [(0, LR x0), (1, LI x1), (2, LI x2)] [] (b_X9_cleans_33 r2 x0 x1 x2 h) := by
  unfold b_X9_cleans_33
  refine vv_iload_n (pc := 33) X (kf := 1) (i := 1) rfl 1 rfl dX9_cleans_33 ?_
  refine vv_iload_n (pc := 34) X (kf := 2) (i := 2) rfl 2 rfl dX9_cleans_34 ?_
  refine vv_callI (pc := 35) (rest := [LI x1]) (by rfl) (fun r8 k8 e8 => zz_callS X (m_X9_one (hlM X) _ _ _ _ e8) q3559 q3560 q164 q3561 nh_X9 rfl (by decide) (by decide) (Nat.le_of_ble_eq_true rfl) dX9_cleans_35) (fun v7 h8 => ?_)
  refine vv_iadd (pc := 38) X dX9_cleans_38 ?_
  refine vv_istore_n (pc := 39) (lv' := [(1, LI (x1 + v7)), (0, LR x0), (2, LI x2)]) X (kf := 1) (i := 1) rfl (by decide) rfl dX9_cleans_39 ?_
  refine vv_goto (pc := 40) (tgt := 2) X dX9_cleans_40 rfl ?_
  exact vv_sub [1, 0] (by rfl) (hr2 _ _ _)
noncomputable def c_X9_cleans_2 (r2 : Option Nat → Int → HP → Option ((Unit) × HP)) (x0 : Option Nat) (x1 : Int) (h : HP) : Option ((Unit) × HP) :=
  (rdR h x0 [7] 0).bind fun v1 =>
  (aldI h .int v1 3).bind fun v2 =>
  iLE v2 x1
    (some ((), h))
    ((rcv h x0 [7]).bind fun b5 =>
    hb (f_X9_isRight b5 x1 h) fun v3 h4 =>
    iEQ v3 0
      ((rcv h4 x0 [7]).bind fun b11 =>
      hb (f_X9_takesOut b11 x1 h4) fun _ h10 =>
      (rcv h10 x0 [7]).bind fun b15 =>
      hb (f_X9_counts b15 4 1 h10) fun _ h14 =>
      b_X9_cleans_33 r2 x0 x1 v3 h14)
      (b_X9_cleans_33 r2 x0 x1 v3 h4))
noncomputable def b_X9_cleans_2 : Option Nat → Int → HP → Option ((Unit) × HP) := fx (fun _ _ _ => none) (c_X9_cleans_2) FU
theorem C_X9_cleans_2 {M : hp_M} {G : va_G} {h0 : HP} (X : hp_X M G h0 "RenamedWordsModel" "cleans" cX9_cleans 3 none [] 7 212) (r2 : Option Nat → Int → HP → Option ((Unit) × HP)) (hr2 : ∀ (y0 : Option Nat) (y1 : Int) (h : HP), vv M G h0 3 (hp_End M G h0) jV h 2 [(0, LR y0), (1, LI y1)] [] (r2 y0 y1 h)) (x0 : Option Nat) (x1 : Int) (h : HP) : vv M G h0 3 (hp_End M G h0) jV h 2 [(0, LR x0), (1, LI x1)] [] (c_X9_cleans_2 r2 x0 x1 h) := by
  unfold c_X9_cleans_2
  refine vv_iload_n (pc := 2) X (kf := 1) (i := 1) rfl 1 rfl dX9_cleans_2 ?_
  refine vv_aload_n (pc := 3) X (kf := 0) (i := 0) rfl 0 rfl dX9_cleans_3 ?_
  refine vv_getR (pc := 4) X (fun _ z => by cases List.mem_singleton.mp z; exact fl_X9_9_7) dX9_cleans_4 (fun v1 => ?_)
  refine vv_iconst (pc := 7) X dX9_cleans_7 ?_
  refine vv_iaload (pc := 8) X dX9_cleans_8 (fun v2 => ?_)
  refine vv_icmp_ge (pc := 9) (tgt := 43) X dX9_cleans_9 rfl ?_ ?_
  · exact vv_vreturn X rfl rfl dX9_cleans_43
  · refine vv_aload_n (pc := 12) X (kf := 0) (i := 0) rfl 0 rfl dX9_cleans_12 ?_
    refine vv_iload_n (pc := 13) X (kf := 1) (i := 1) rfl 1 rfl dX9_cleans_13 ?_
    refine vv_rcv (fun b5 t9 c9 fs9 e6 g9 k9 => ?_)
    cases List.mem_singleton.mp k9
    refine vv_callI (pc := 14) (rest := []) (by rw [e6]; rfl) (fun r8 k8 e8 => zz_callV X (m_X9_isRight (hlM X) _ _ _ _ _ e8) g9 rfl rfl q3755 q3757 qs90 q164 q3758 nh_X9 rfl (by decide) (by decide) (Nat.le_of_ble_eq_true rfl) dX9_cleans_14) (fun v3 h4 => ?_)
    refine vv_istore_n (pc := 17) (lv' := [(2, LI v3), (0, LR x0), (1, LI x1)]) X (kf := 2) (i := 2) rfl (by decide) rfl dX9_cleans_17 ?_
    refine vv_iload_n (pc := 18) X (kf := 2) (i := 2) rfl 0 rfl dX9_cleans_18 ?_
    refine vv_if_ne (pc := 19) (tgt := 33) X dX9_cleans_19 rfl ?_ ?_
    · exact vv_sub [1, 2, 0] (by rfl) (B_X9_cleans_33 X r2 hr2 _ _ _ _)
    · refine vv_aload_n (pc := 22) X (kf := 0) (i := 0) rfl 1 rfl dX9_cleans_22 ?_
      refine vv_iload_n (pc := 23) X (kf := 1) (i := 1) rfl 2 rfl dX9_cleans_23 ?_
      refine vv_rcv (fun b11 t9 c9 fs9 e12 g9 k9 => ?_)
      cases List.mem_singleton.mp k9
      refine vv_callV (pc := 24) (rest := []) (by rw [e12]; rfl) (fun r8 k8 e8 => zz_callV X (m_X9_takesOut (hlM X) _ _ _ _ _ e8) g9 rfl rfl q3801 q3803 qs100 q164 q3804 nh_X9 rfl (by decide) (by decide) (Nat.le_of_ble_eq_true rfl) dX9_cleans_24) (fun v9 h10 => ?_)
      refine vv_aload_n (pc := 27) X (kf := 0) (i := 0) rfl 1 rfl dX9_cleans_27 ?_
      refine vv_iconst (pc := 28) X dX9_cleans_28 ?_
      refine vv_iconst (pc := 29) X dX9_cleans_29 ?_
      refine vv_rcv (fun b15 t9 c9 fs9 e16 g9 k9 => ?_)
      cases List.mem_singleton.mp k9
      refine vv_callV (pc := 30) (rest := []) (by rw [e16]; rfl) (fun r8 k8 e8 => zz_callV X (m_X9_counts (hlM X) _ _ _ _ _ _ e8) g9 rfl rfl q3739 q3741 qs86 q164 q3742 nh_X9 rfl (by decide) (by decide) (Nat.le_of_ble_eq_true rfl) dX9_cleans_30) (fun v13 h14 => ?_)
      exact vv_sub [1, 2, 0] (by rfl) (B_X9_cleans_33 X r2 hr2 _ _ _ _)
theorem B_X9_cleans_2 {M : hp_M} {G : va_G} {h0 : HP} (X : hp_X M G h0 "RenamedWordsModel" "cleans" cX9_cleans 3 none [] 7 212) : ∀ (x0 : Option Nat) (x1 : Int) (h : HP), vv M G h0 3 (hp_End M G h0) jV h 2 [(0, LR x0), (1, LI x1)] [] (b_X9_cleans_2 x0 x1 h) := by
  unfold b_X9_cleans_2
  generalize FU = n
  induction n with
  | zero => intro x0 x1 h; exact vv_none
  | succ n ih => exact C_X9_cleans_2 X _ ih
noncomputable def f_X9_cleans (a0 : Nat) (h : HP) : Option ((Unit) × HP) :=
  b_X9_cleans_2 (some a0) 0 h
theorem A_X9_cleans {M : hp_M} {G : va_G} {h0 : HP} (X : hp_X M G h0 "RenamedWordsModel" "cleans" cX9_cleans 3 none [] 7 212) (a0 : Nat) (h : HP) : vv M G h0 3 (hp_End M G h0) jV h 0 [(0, LR (some a0))] [] (f_X9_cleans a0 h) := by
  unfold f_X9_cleans
  refine vv_iconst (pc := 0) X dX9_cleans_0 ?_
  refine vv_istore_n (pc := 1) (lv' := [(1, LI 0), (0, LR (some a0))]) X (kf := 1) (i := 1) rfl (by decide) rfl dX9_cleans_1 ?_
  exact vv_sub [1, 0] (by rfl) (B_X9_cleans_2 X _ _ _)
theorem m_X9_cleans {l : Launch} (hl : l.stackTraces = false) {G : va_G} (a0 : Nat) (h : HP) : ∀ r hf, f_X9_cleans a0 h = some (r, hf) → Ct l yX9_cleans (ws_ yX9_cleans cX9_cleans 3 none) 7 212 G h [.ref a0] (jV r) hf :=
  zz_ofW hl (by decide +kernel) (lv := [(0, LR (some a0))]) (by simp [lv_args, lvL, lvV, zz_rfc, zz_rfs, zz_ci, zz_cr, zz_cj, zz_cf, zz_cd]) (by simp [lg_sl, zz_rfc, zz_ci, zz_cr, zz_cj, zz_cf, zz_cd]) (fun _ X => A_X9_cleans X a0 h)
-- X9_eraseNow RenamedWordsModel.eraseNow(I)I
noncomputable def c_X9_eraseNow_38 (r38 : Option Nat → Int → Int → HP → Option ((Int) × HP)) (x0 : Option Nat) (x1 : Int) (x2 : Int) (h : HP) : Option ((Int) × HP) :=
  (rdR h x0 [7] 0).bind fun v8 =>
  (aldI h .int v8 1).bind fun v9 =>
  iLE v9 x2
    ((rcv h x0 [7]).bind fun b12 =>
    hb (f_X9_counts b12 2 1 h) fun _ h11 =>
    (rcv h11 x0 [7]).bind fun b16 =>
    hb (f_X9_shifts b16 (x1 + 1) (-1) h11) fun _ h15 =>
    (rcv h15 x0 [7]).bind fun b20 =>
    hb (f_X9_cleans b20 h15) fun _ h19 =>
    (rdR h19 x0 [7] 0).bind fun v22 =>
    (aldI h19 .int v22 1).bind fun v23 =>
    some (v23, h19))
    ((rdR h x0 [7] 0).bind fun v24 =>
    (rdR h x0 [7] 0).bind fun v25 =>
    (aldI h .int v25 ((16 + x2) + 1)).bind fun v26 =>
    (astI h .int v24 (16 + x2) v26).bind fun h27 =>
    r38 x0 x1 (x2 + 1) h27)
noncomputable def b_X9_eraseNow_38 : Option Nat → Int → Int → HP → Option ((Int) × HP) := fx (fun _ _ _ _ => none) (c_X9_eraseNow_38) FU
theorem C_X9_eraseNow_38 {M : hp_M} {G : va_G} {h0 : HP} (X : hp_X M G h0 "RenamedWordsModel" "eraseNow" cX9_eraseNow 3 (some .int) [] 8 242) (r38 : Option Nat → Int → Int → HP → Option ((Int) × HP)) (hr38 : ∀ (y0 : Option Nat) (y1 : Int) (y2 : Int) (h : HP), vv M G h0 3 (hp_End M G h0) jI h 38 [(0, LR y0), (1, LI y1), (2, LI y2)] [] (r38 y0 y1 y2 h)) (x0 : Option Nat) (x1 : Int) (x2 : Int) (h : HP) : vv M G h0 3 (hp_End M G h0) jI h 38 [(0, LR x0), (1, LI x1), (2, LI x2)] [] (c_X9_eraseNow_38 r38 x0 x1 x2 h) := by
  unfold c_X9_eraseNow_38
  refine vv_iload_n (pc := 38) X (kf := 2) (i := 2) rfl 2 rfl dX9_eraseNow_38 ?_
  refine vv_aload_n (pc := 39) X (kf := 0) (i := 0) rfl 0 rfl dX9_eraseNow_39 ?_
  refine vv_getR (pc := 40) X (fun _ z => by cases List.mem_singleton.mp z; exact fl_X9_9_7) dX9_eraseNow_40 (fun v8 => ?_)
  refine vv_iconst (pc := 43) X dX9_eraseNow_43 ?_
  refine vv_iaload (pc := 44) X dX9_eraseNow_44 (fun v9 => ?_)
  refine vv_icmp_ge (pc := 45) (tgt := 74) X dX9_eraseNow_45 rfl ?_ ?_
  · refine vv_aload_n (pc := 74) X (kf := 0) (i := 0) rfl 0 rfl dX9_eraseNow_74 ?_
    refine vv_iconst (pc := 75) X dX9_eraseNow_75 ?_
    refine vv_iconst (pc := 76) X dX9_eraseNow_76 ?_
    refine vv_rcv (fun b12 t9 c9 fs9 e13 g9 k9 => ?_)
    cases List.mem_singleton.mp k9
    refine vv_callV (pc := 77) (rest := []) (by rw [e13]; rfl) (fun r8 k8 e8 => zz_callV X (m_X9_counts (hlM X) _ _ _ _ _ _ e8) g9 rfl rfl q3739 q3741 qs86 q164 q3742 nh_X9 rfl (by decide) (by decide) (Nat.le_of_ble_eq_true rfl) dX9_eraseNow_77) (fun v10 h11 => ?_)
    refine vv_aload_n (pc := 80) X (kf := 0) (i := 0) rfl 0 rfl dX9_eraseNow_80 ?_
    refine vv_iload_n (pc := 81) X (kf := 1) (i := 1) rfl 1 rfl dX9_eraseNow_81 ?_
    refine vv_iconst (pc := 82) X dX9_eraseNow_82 ?_
    refine vv_iadd (pc := 83) X dX9_eraseNow_83 ?_
    refine vv_iconst (pc := 84) X dX9_eraseNow_84 ?_
    refine vv_rcv (fun b16 t9 c9 fs9 e17 g9 k9 => ?_)
    cases List.mem_singleton.mp k9
    refine vv_callV (pc := 85) (rest := []) (by rw [e17]; rfl) (fun r8 k8 e8 => zz_callV X (m_X9_shifts (hlM X) _ _ _ _ _ _ e8) g9 rfl rfl q3743 q3745 qs87 q164 q3746 nh_X9 rfl (by decide) (by decide) (Nat.le_of_ble_eq_true rfl) dX9_eraseNow_85) (fun v14 h15 => ?_)
    refine vv_aload_n (pc := 88) X (kf := 0) (i := 0) rfl 0 rfl dX9_eraseNow_88 ?_
    refine vv_rcv (fun b20 t9 c9 fs9 e21 g9 k9 => ?_)
    cases List.mem_singleton.mp k9
    refine vv_callV (pc := 89) (rest := []) (by rw [e21]; rfl) (fun r8 k8 e8 => zz_callV X (m_X9_cleans (hlM X) _ _ _ _ e8) g9 rfl rfl q3751 q3753 qs89 q164 q3754 nh_X9 rfl (by decide) (by decide) (Nat.le_of_ble_eq_true rfl) dX9_eraseNow_89) (fun v18 h19 => ?_)
    refine vv_aload_n (pc := 92) X (kf := 0) (i := 0) rfl 0 rfl dX9_eraseNow_92 ?_
    refine vv_getR (pc := 93) X (fun _ z => by cases List.mem_singleton.mp z; exact fl_X9_9_7) dX9_eraseNow_93 (fun v22 => ?_)
    refine vv_iconst (pc := 96) X dX9_eraseNow_96 ?_
    refine vv_iaload (pc := 97) X dX9_eraseNow_97 (fun v23 => ?_)
    exact vv_iretI X rfl rfl dX9_eraseNow_98
  · refine vv_aload_n (pc := 48) X (kf := 0) (i := 0) rfl 0 rfl dX9_eraseNow_48 ?_
    refine vv_getR (pc := 49) X (fun _ z => by cases List.mem_singleton.mp z; exact fl_X9_9_7) dX9_eraseNow_49 (fun v24 => ?_)
    refine vv_bipush (pc := 52) X (by decide) dX9_eraseNow_52 ?_
    refine vv_iload_n (pc := 54) X (kf := 2) (i := 2) rfl 2 rfl dX9_eraseNow_54 ?_
    refine vv_iadd (pc := 55) X dX9_eraseNow_55 ?_
    refine vv_aload_n (pc := 56) X (kf := 0) (i := 0) rfl 0 rfl dX9_eraseNow_56 ?_
    refine vv_getR (pc := 57) X (fun _ z => by cases List.mem_singleton.mp z; exact fl_X9_9_7) dX9_eraseNow_57 (fun v25 => ?_)
    refine vv_bipush (pc := 60) X (by decide) dX9_eraseNow_60 ?_
    refine vv_iload_n (pc := 62) X (kf := 2) (i := 2) rfl 2 rfl dX9_eraseNow_62 ?_
    refine vv_iadd (pc := 63) X dX9_eraseNow_63 ?_
    refine vv_iconst (pc := 64) X dX9_eraseNow_64 ?_
    refine vv_iadd (pc := 65) X dX9_eraseNow_65 ?_
    refine vv_iaload (pc := 66) X dX9_eraseNow_66 (fun v26 => ?_)
    refine vv_iastore (pc := 67) X dX9_eraseNow_67 (fun h27 => ?_)
    refine vv_iinc (pc := 68) (lv' := [(2, LI (x2 + 1)), (0, LR x0), (1, LI x1)]) X 2 rfl (by decide) rfl dX9_eraseNow_68 ?_
    refine vv_goto (pc := 71) (tgt := 38) X dX9_eraseNow_71 rfl ?_
    exact vv_sub [1, 2, 0] (by rfl) (hr38 _ _ _ _)
theorem B_X9_eraseNow_38 {M : hp_M} {G : va_G} {h0 : HP} (X : hp_X M G h0 "RenamedWordsModel" "eraseNow" cX9_eraseNow 3 (some .int) [] 8 242) : ∀ (x0 : Option Nat) (x1 : Int) (x2 : Int) (h : HP), vv M G h0 3 (hp_End M G h0) jI h 38 [(0, LR x0), (1, LI x1), (2, LI x2)] [] (b_X9_eraseNow_38 x0 x1 x2 h) := by
  unfold b_X9_eraseNow_38
  generalize FU = n
  induction n with
  | zero => intro x0 x1 x2 h; exact vv_none
  | succ n ih => exact C_X9_eraseNow_38 X _ ih
noncomputable def f_X9_eraseNow (a0 : Nat) (a1 : Int) (h : HP) : Option ((Int) × HP) :=
  (rdR h (some a0) [7] 0).bind fun v1 =>
  (aldI h .int v1 1).bind fun v2 =>
  iEQ v2 1
    (some ((-3), h))
    ((rdR h (some a0) [7] 0).bind fun v3 =>
    (aldI h .int v3 1).bind fun v4 =>
    iLT a1 v4
      ((rdR h (some a0) [7] 0).bind fun v5 =>
      (aldI h .int v5 1).bind fun v6 =>
      (astI h .int v5 1 (v6 - 1)).bind fun h7 =>
      b_X9_eraseNow_38 (some a0) a1 a1 h7)
      (some ((-4), h)))
theorem A_X9_eraseNow {M : hp_M} {G : va_G} {h0 : HP} (X : hp_X M G h0 "RenamedWordsModel" "eraseNow" cX9_eraseNow 3 (some .int) [] 8 242) (a0 : Nat) (a1 : Int) (h : HP) : vv M G h0 3 (hp_End M G h0) jI h 0 [(0, LR (some a0)), (1, LI a1)] [] (f_X9_eraseNow a0 a1 h) := by
  unfold f_X9_eraseNow
  refine vv_aload_n (pc := 0) X (kf := 0) (i := 0) rfl 0 rfl dX9_eraseNow_0 ?_
  refine vv_getR (pc := 1) X (fun _ z => by cases List.mem_singleton.mp z; exact fl_X9_9_7) dX9_eraseNow_1 (fun v1 => ?_)
  refine vv_iconst (pc := 4) X dX9_eraseNow_4 ?_
  refine vv_iaload (pc := 5) X dX9_eraseNow_5 (fun v2 => ?_)
  refine vv_iconst (pc := 6) X dX9_eraseNow_6 ?_
  refine vv_icmp_ne (pc := 7) (tgt := 13) X dX9_eraseNow_7 rfl ?_ ?_
  · refine vv_iload_n (pc := 13) X (kf := 1) (i := 1) rfl 1 rfl dX9_eraseNow_13 ?_
    refine vv_aload_n (pc := 14) X (kf := 0) (i := 0) rfl 0 rfl dX9_eraseNow_14 ?_
    refine vv_getR (pc := 15) X (fun _ z => by cases List.mem_singleton.mp z; exact fl_X9_9_7) dX9_eraseNow_15 (fun v3 => ?_)
    refine vv_iconst (pc := 18) X dX9_eraseNow_18 ?_
    refine vv_iaload (pc := 19) X dX9_eraseNow_19 (fun v4 => ?_)
    refine vv_icmp_lt (pc := 20) (tgt := 26) X dX9_eraseNow_20 rfl ?_ ?_
    · refine vv_aload_n (pc := 26) X (kf := 0) (i := 0) rfl 0 rfl dX9_eraseNow_26 ?_
      refine vv_getR (pc := 27) X (fun _ z => by cases List.mem_singleton.mp z; exact fl_X9_9_7) dX9_eraseNow_27 (fun v5 => ?_)
      refine vv_iconst (pc := 30) X dX9_eraseNow_30 ?_
      refine vv_dup2 (pc := 31) X rfl rfl dX9_eraseNow_31 ?_
      refine vv_iaload (pc := 32) X dX9_eraseNow_32 (fun v6 => ?_)
      refine vv_iconst (pc := 33) X dX9_eraseNow_33 ?_
      refine vv_isub (pc := 34) X dX9_eraseNow_34 ?_
      refine vv_iastore (pc := 35) X dX9_eraseNow_35 (fun h7 => ?_)
      refine vv_iload_n (pc := 36) X (kf := 1) (i := 1) rfl 1 rfl dX9_eraseNow_36 ?_
      refine vv_istore_n (pc := 37) (lv' := [(2, LI a1), (0, LR (some a0)), (1, LI a1)]) X (kf := 2) (i := 2) rfl (by decide) rfl dX9_eraseNow_37 ?_
      exact vv_sub [1, 2, 0] (by rfl) (B_X9_eraseNow_38 X _ _ _ _)
    · refine vv_bipush (pc := 23) X (by decide) dX9_eraseNow_23 ?_
      exact vv_iretI X rfl rfl dX9_eraseNow_25
  · refine vv_bipush (pc := 10) X (by decide) dX9_eraseNow_10 ?_
    exact vv_iretI X rfl rfl dX9_eraseNow_12
theorem m_X9_eraseNow {l : Launch} (hl : l.stackTraces = false) {G : va_G} (a0 : Nat) (a1 : Int) (h : HP) : ∀ r hf, f_X9_eraseNow a0 a1 h = some (r, hf) → Ct l yX9_eraseNow (ws_ yX9_eraseNow cX9_eraseNow 3 (some .int)) 8 242 G h [.ref a0, .int (iI a1)] (jI r) hf :=
  zz_ofW hl (by decide +kernel) (lv := [(0, LR (some a0)), (1, LI a1)]) (by simp [lv_args, lvL, lvV, zz_rfc, zz_rfs, zz_ci, zz_cr, zz_cj, zz_cf, zz_cd]) (by simp [lg_sl, zz_rfc, zz_ci, zz_cr, zz_cj, zz_cf, zz_cd]) (fun _ X => A_X9_eraseNow X a0 a1 h)
