/-! STAGE 1c: functions and contracts (printed by gen/mkfuncs.py). -/
set_option maxRecDepth 100000
set_option linter.unusedVariables false
-- X9_putNow RenamedWordsModel.putNow(II)I
noncomputable def f_X9_putNow (a0 : Nat) (a1 : Int) (a2 : Int) (h : HP) : Option ((Int) × HP) :=
  (rdR h (some a0) [7] 0).bind fun v1 =>
  (aldI h .int v1 1).bind fun v2 =>
  iLT a1 v2
    ((rdR h (some a0) [7] 0).bind fun v3 =>
    (aldI h .int v3 (16 + a1)).bind fun v4 =>
    (rdR h (some a0) [7] 0).bind fun v5 =>
    (astI h .int v5 (16 + a1) a2).bind fun h6 =>
    (rcv h6 (some a0) [7]).bind fun b9 =>
    hb (f_X9_counts b9 0 1 h6) fun _ h8 =>
    (rcv h8 (some a0) [7]).bind fun b13 =>
    hb (f_X9_cleans b13 h8) fun _ h12 =>
    some (v4, h12))
    (some ((-4), h))
theorem A_X9_putNow {M : hp_M} {G : va_G} {h0 : HP} (X : hp_X M G h0 "RenamedWordsModel" "putNow" cX9_putNow 4 (some .int) [] 8 242) (a0 : Nat) (a1 : Int) (a2 : Int) (h : HP) : vv M G h0 4 (hp_End M G h0) jI h 0 [(0, LR (some a0)), (1, LI a1), (2, LI a2)] [] (f_X9_putNow a0 a1 a2 h) := by
  unfold f_X9_putNow
  refine vv_iload_n (pc := 0) X (kf := 1) (i := 1) rfl 1 rfl dX9_putNow_0 ?_
  refine vv_aload_n (pc := 1) X (kf := 0) (i := 0) rfl 0 rfl dX9_putNow_1 ?_
  refine vv_getR (pc := 2) X (fun _ z => by cases List.mem_singleton.mp z; exact fl_X9_9_7) dX9_putNow_2 (fun v1 => ?_)
  refine vv_iconst (pc := 5) X dX9_putNow_5 ?_
  refine vv_iaload (pc := 6) X dX9_putNow_6 (fun v2 => ?_)
  refine vv_icmp_lt (pc := 7) (tgt := 13) X dX9_putNow_7 rfl ?_ ?_
  · refine vv_aload_n (pc := 13) X (kf := 0) (i := 0) rfl 0 rfl dX9_putNow_13 ?_
    refine vv_getR (pc := 14) X (fun _ z => by cases List.mem_singleton.mp z; exact fl_X9_9_7) dX9_putNow_14 (fun v3 => ?_)
    refine vv_bipush (pc := 17) X (by decide) dX9_putNow_17 ?_
    refine vv_iload_n (pc := 19) X (kf := 1) (i := 1) rfl 1 rfl dX9_putNow_19 ?_
    refine vv_iadd (pc := 20) X dX9_putNow_20 ?_
    refine vv_iaload (pc := 21) X dX9_putNow_21 (fun v4 => ?_)
    refine vv_istore_n (pc := 22) (lv' := [(3, LI v4), (0, LR (some a0)), (1, LI a1), (2, LI a2)]) X (kf := 3) (i := 3) rfl (by decide) rfl dX9_putNow_22 ?_
    refine vv_aload_n (pc := 23) X (kf := 0) (i := 0) rfl 1 rfl dX9_putNow_23 ?_
    refine vv_getR (pc := 24) X (fun _ z => by cases List.mem_singleton.mp z; exact fl_X9_9_7) dX9_putNow_24 (fun v5 => ?_)
    refine vv_bipush (pc := 27) X (by decide) dX9_putNow_27 ?_
    refine vv_iload_n (pc := 29) X (kf := 1) (i := 1) rfl 2 rfl dX9_putNow_29 ?_
    refine vv_iadd (pc := 30) X dX9_putNow_30 ?_
    refine vv_iload_n (pc := 31) X (kf := 2) (i := 2) rfl 3 rfl dX9_putNow_31 ?_
    refine vv_iastore (pc := 32) X dX9_putNow_32 (fun h6 => ?_)
    refine vv_aload_n (pc := 33) X (kf := 0) (i := 0) rfl 1 rfl dX9_putNow_33 ?_
    refine vv_iconst (pc := 34) X dX9_putNow_34 ?_
    refine vv_iconst (pc := 35) X dX9_putNow_35 ?_
    refine vv_rcv (fun b9 t9 c9 fs9 e10 g9 k9 => ?_)
    cases List.mem_singleton.mp k9
    refine vv_callV (pc := 36) (rest := []) (by rw [e10]; rfl) (fun r8 k8 e8 => zz_callV X (m_X9_counts (hlM X) _ _ _ _ _ _ e8) g9 rfl rfl q3739 q3741 qs86 q164 q3742 nh_X9 rfl (by decide) (by decide) (Nat.le_of_ble_eq_true rfl) dX9_putNow_36) (fun v7 h8 => ?_)
    refine vv_aload_n (pc := 39) X (kf := 0) (i := 0) rfl 1 rfl dX9_putNow_39 ?_
    refine vv_rcv (fun b13 t9 c9 fs9 e14 g9 k9 => ?_)
    cases List.mem_singleton.mp k9
    refine vv_callV (pc := 40) (rest := []) (by rw [e14]; rfl) (fun r8 k8 e8 => zz_callV X (m_X9_cleans (hlM X) _ _ _ _ e8) g9 rfl rfl q3751 q3753 qs89 q164 q3754 nh_X9 rfl (by decide) (by decide) (Nat.le_of_ble_eq_true rfl) dX9_putNow_40) (fun v11 h12 => ?_)
    refine vv_iload_n (pc := 43) X (kf := 3) (i := 3) rfl 0 rfl dX9_putNow_43 ?_
    exact vv_iretI X rfl rfl dX9_putNow_44
  · refine vv_bipush (pc := 10) X (by decide) dX9_putNow_10 ?_
    exact vv_iretI X rfl rfl dX9_putNow_12
theorem m_X9_putNow {l : Launch} (hl : l.stackTraces = false) {G : va_G} (a0 : Nat) (a1 : Int) (a2 : Int) (h : HP) : ∀ r hf, f_X9_putNow a0 a1 a2 h = some (r, hf) → Ct l yX9_putNow (ws_ yX9_putNow cX9_putNow 4 (some .int)) 8 242 G h [.ref a0, .int (iI a1), .int (iI a2)] (jI r) hf :=
  zz_ofW hl (by decide +kernel) (lv := [(0, LR (some a0)), (1, LI a1), (2, LI a2)]) (by simp [lv_args, lvL, lvV, zz_rfc, zz_rfs, zz_ci, zz_cr, zz_cj, zz_cf, zz_cd]) (by simp [lg_sl, zz_rfc, zz_ci, zz_cr, zz_cj, zz_cf, zz_cd]) (fun _ X => A_X9_putNow X a0 a1 a2 h)
-- X9_insertNow RenamedWordsModel.insertNow(II)I
noncomputable def c_X9_insertNow_35 (r35 : Option Nat → Int → Int → Int → HP → Option ((Int) × HP)) (x0 : Option Nat) (x1 : Int) (x2 : Int) (x3 : Int) (h : HP) : Option ((Int) × HP) :=
  iLE x3 x1
    ((rdR h x0 [7] 0).bind fun v7 =>
    (astI h .int v7 (16 + x1) x2).bind fun h8 =>
    (rdR h8 x0 [7] 0).bind fun v9 =>
    (aldI h8 .int v9 1).bind fun v10 =>
    (astI h8 .int v9 1 (v10 + 1)).bind fun h11 =>
    (rcv h11 x0 [7]).bind fun b14 =>
    hb (f_X9_counts b14 1 1 h11) fun _ h13 =>
    (rcv h13 x0 [7]).bind fun b18 =>
    hb (f_X9_shifts b18 x1 1 h13) fun _ h17 =>
    (rcv h17 x0 [7]).bind fun b22 =>
    hb (f_X9_cleans b22 h17) fun _ h21 =>
    (rdR h21 x0 [7] 0).bind fun v24 =>
    (aldI h21 .int v24 1).bind fun v25 =>
    some (v25, h21))
    ((rdR h x0 [7] 0).bind fun v26 =>
    (rdR h x0 [7] 0).bind fun v27 =>
    (aldI h .int v27 ((16 + x3) - 1)).bind fun v28 =>
    (astI h .int v26 (16 + x3) v28).bind fun h29 =>
    r35 x0 x1 x2 (x3 + (-1)) h29)
noncomputable def b_X9_insertNow_35 : Option Nat → Int → Int → Int → HP → Option ((Int) × HP) := fx (fun _ _ _ _ _ => none) (c_X9_insertNow_35) FU
theorem C_X9_insertNow_35 {M : hp_M} {G : va_G} {h0 : HP} (X : hp_X M G h0 "RenamedWordsModel" "insertNow" cX9_insertNow 4 (some .int) [] 8 242) (r35 : Option Nat → Int → Int → Int → HP → Option ((Int) × HP)) (hr35 : ∀ (y0 : Option Nat) (y1 : Int) (y2 : Int) (y3 : Int) (h : HP), vv M G h0 4 (hp_End M G h0) jI h 35 [(0, LR y0), (1, LI y1), (2, LI y2), (3, LI y3)] [] (r35 y0 y1 y2 y3 h)) (x0 : Option Nat) (x1 : Int) (x2 : Int) (x3 : Int) (h : HP) : vv M G h0 4 (hp_End M G h0) jI h 35 [(0, LR x0), (1, LI x1), (2, LI x2), (3, LI x3)] [] (c_X9_insertNow_35 r35 x0 x1 x2 x3 h) := by
  unfold c_X9_insertNow_35
  refine vv_iload_n (pc := 35) X (kf := 3) (i := 3) rfl 3 rfl dX9_insertNow_35 ?_
  refine vv_iload_n (pc := 36) X (kf := 1) (i := 1) rfl 1 rfl dX9_insertNow_36 ?_
  refine vv_icmp_le (pc := 37) (tgt := 66) X dX9_insertNow_37 rfl ?_ ?_
  · refine vv_aload_n (pc := 66) X (kf := 0) (i := 0) rfl 0 rfl dX9_insertNow_66 ?_
    refine vv_getR (pc := 67) X (fun _ z => by cases List.mem_singleton.mp z; exact fl_X9_9_7) dX9_insertNow_67 (fun v7 => ?_)
    refine vv_bipush (pc := 70) X (by decide) dX9_insertNow_70 ?_
    refine vv_iload_n (pc := 72) X (kf := 1) (i := 1) rfl 1 rfl dX9_insertNow_72 ?_
    refine vv_iadd (pc := 73) X dX9_insertNow_73 ?_
    refine vv_iload_n (pc := 74) X (kf := 2) (i := 2) rfl 2 rfl dX9_insertNow_74 ?_
    refine vv_iastore (pc := 75) X dX9_insertNow_75 (fun h8 => ?_)
    refine vv_aload_n (pc := 76) X (kf := 0) (i := 0) rfl 0 rfl dX9_insertNow_76 ?_
    refine vv_getR (pc := 77) X (fun _ z => by cases List.mem_singleton.mp z; exact fl_X9_9_7) dX9_insertNow_77 (fun v9 => ?_)
    refine vv_iconst (pc := 80) X dX9_insertNow_80 ?_
    refine vv_dup2 (pc := 81) X rfl rfl dX9_insertNow_81 ?_
    refine vv_iaload (pc := 82) X dX9_insertNow_82 (fun v10 => ?_)
    refine vv_iconst (pc := 83) X dX9_insertNow_83 ?_
    refine vv_iadd (pc := 84) X dX9_insertNow_84 ?_
    refine vv_iastore (pc := 85) X dX9_insertNow_85 (fun h11 => ?_)
    refine vv_aload_n (pc := 86) X (kf := 0) (i := 0) rfl 0 rfl dX9_insertNow_86 ?_
    refine vv_iconst (pc := 87) X dX9_insertNow_87 ?_
    refine vv_iconst (pc := 88) X dX9_insertNow_88 ?_
    refine vv_rcv (fun b14 t9 c9 fs9 e15 g9 k9 => ?_)
    cases List.mem_singleton.mp k9
    refine vv_callV (pc := 89) (rest := []) (by rw [e15]; rfl) (fun r8 k8 e8 => zz_callV X (m_X9_counts (hlM X) _ _ _ _ _ _ e8) g9 rfl rfl q3739 q3741 qs86 q164 q3742 nh_X9 rfl (by decide) (by decide) (Nat.le_of_ble_eq_true rfl) dX9_insertNow_89) (fun v12 h13 => ?_)
    refine vv_aload_n (pc := 92) X (kf := 0) (i := 0) rfl 0 rfl dX9_insertNow_92 ?_
    refine vv_iload_n (pc := 93) X (kf := 1) (i := 1) rfl 1 rfl dX9_insertNow_93 ?_
    refine vv_iconst (pc := 94) X dX9_insertNow_94 ?_
    refine vv_rcv (fun b18 t9 c9 fs9 e19 g9 k9 => ?_)
    cases List.mem_singleton.mp k9
    refine vv_callV (pc := 95) (rest := []) (by rw [e19]; rfl) (fun r8 k8 e8 => zz_callV X (m_X9_shifts (hlM X) _ _ _ _ _ _ e8) g9 rfl rfl q3743 q3745 qs87 q164 q3746 nh_X9 rfl (by decide) (by decide) (Nat.le_of_ble_eq_true rfl) dX9_insertNow_95) (fun v16 h17 => ?_)
    refine vv_aload_n (pc := 98) X (kf := 0) (i := 0) rfl 0 rfl dX9_insertNow_98 ?_
    refine vv_rcv (fun b22 t9 c9 fs9 e23 g9 k9 => ?_)
    cases List.mem_singleton.mp k9
    refine vv_callV (pc := 99) (rest := []) (by rw [e23]; rfl) (fun r8 k8 e8 => zz_callV X (m_X9_cleans (hlM X) _ _ _ _ e8) g9 rfl rfl q3751 q3753 qs89 q164 q3754 nh_X9 rfl (by decide) (by decide) (Nat.le_of_ble_eq_true rfl) dX9_insertNow_99) (fun v20 h21 => ?_)
    refine vv_aload_n (pc := 102) X (kf := 0) (i := 0) rfl 0 rfl dX9_insertNow_102 ?_
    refine vv_getR (pc := 103) X (fun _ z => by cases List.mem_singleton.mp z; exact fl_X9_9_7) dX9_insertNow_103 (fun v24 => ?_)
    refine vv_iconst (pc := 106) X dX9_insertNow_106 ?_
    refine vv_iaload (pc := 107) X dX9_insertNow_107 (fun v25 => ?_)
    exact vv_iretI X rfl rfl dX9_insertNow_108
  · refine vv_aload_n (pc := 40) X (kf := 0) (i := 0) rfl 0 rfl dX9_insertNow_40 ?_
    refine vv_getR (pc := 41) X (fun _ z => by cases List.mem_singleton.mp z; exact fl_X9_9_7) dX9_insertNow_41 (fun v26 => ?_)
    refine vv_bipush (pc := 44) X (by decide) dX9_insertNow_44 ?_
    refine vv_iload_n (pc := 46) X (kf := 3) (i := 3) rfl 3 rfl dX9_insertNow_46 ?_
    refine vv_iadd (pc := 47) X dX9_insertNow_47 ?_
    refine vv_aload_n (pc := 48) X (kf := 0) (i := 0) rfl 0 rfl dX9_insertNow_48 ?_
    refine vv_getR (pc := 49) X (fun _ z => by cases List.mem_singleton.mp z; exact fl_X9_9_7) dX9_insertNow_49 (fun v27 => ?_)
    refine vv_bipush (pc := 52) X (by decide) dX9_insertNow_52 ?_
    refine vv_iload_n (pc := 54) X (kf := 3) (i := 3) rfl 3 rfl dX9_insertNow_54 ?_
    refine vv_iadd (pc := 55) X dX9_insertNow_55 ?_
    refine vv_iconst (pc := 56) X dX9_insertNow_56 ?_
    refine vv_isub (pc := 57) X dX9_insertNow_57 ?_
    refine vv_iaload (pc := 58) X dX9_insertNow_58 (fun v28 => ?_)
    refine vv_iastore (pc := 59) X dX9_insertNow_59 (fun h29 => ?_)
    refine vv_iinc (pc := 60) (lv' := [(3, LI (x3 + (-1))), (0, LR x0), (1, LI x1), (2, LI x2)]) X 3 rfl (by decide) rfl dX9_insertNow_60 ?_
    refine vv_goto (pc := 63) (tgt := 35) X dX9_insertNow_63 rfl ?_
    exact vv_sub [1, 2, 3, 0] (by rfl) (hr35 _ _ _ _ _)
theorem B_X9_insertNow_35 {M : hp_M} {G : va_G} {h0 : HP} (X : hp_X M G h0 "RenamedWordsModel" "insertNow" cX9_insertNow 4 (some .int) [] 8 242) : ∀ (x0 : Option Nat) (x1 : Int) (x2 : Int) (x3 : Int) (h : HP), vv M G h0 4 (hp_End M G h0) jI h 35 [(0, LR x0), (1, LI x1), (2, LI x2), (3, LI x3)] [] (b_X9_insertNow_35 x0 x1 x2 x3 h) := by
  unfold b_X9_insertNow_35
  generalize FU = n
  induction n with
  | zero => intro x0 x1 x2 x3 h; exact vv_none
  | succ n ih => exact C_X9_insertNow_35 X _ ih
noncomputable def f_X9_insertNow (a0 : Nat) (a1 : Int) (a2 : Int) (h : HP) : Option ((Int) × HP) :=
  (rdR h (some a0) [7] 0).bind fun v1 =>
  (aldI h .int v1 1).bind fun v2 =>
  iEQ v2 200
    (some ((-2), h))
    ((rdR h (some a0) [7] 0).bind fun v3 =>
    (aldI h .int v3 1).bind fun v4 =>
    iLE a1 v4
      ((rdR h (some a0) [7] 0).bind fun v5 =>
      (aldI h .int v5 1).bind fun v6 =>
      b_X9_insertNow_35 (some a0) a1 a2 v6 h)
      (some ((-4), h)))
theorem A_X9_insertNow {M : hp_M} {G : va_G} {h0 : HP} (X : hp_X M G h0 "RenamedWordsModel" "insertNow" cX9_insertNow 4 (some .int) [] 8 242) (a0 : Nat) (a1 : Int) (a2 : Int) (h : HP) : vv M G h0 4 (hp_End M G h0) jI h 0 [(0, LR (some a0)), (1, LI a1), (2, LI a2)] [] (f_X9_insertNow a0 a1 a2 h) := by
  unfold f_X9_insertNow
  refine vv_aload_n (pc := 0) X (kf := 0) (i := 0) rfl 0 rfl dX9_insertNow_0 ?_
  refine vv_getR (pc := 1) X (fun _ z => by cases List.mem_singleton.mp z; exact fl_X9_9_7) dX9_insertNow_1 (fun v1 => ?_)
  refine vv_iconst (pc := 4) X dX9_insertNow_4 ?_
  refine vv_iaload (pc := 5) X dX9_insertNow_5 (fun v2 => ?_)
  refine vv_sipush (pc := 6) X (by decide) dX9_insertNow_6 ?_
  refine vv_icmp_ne (pc := 9) (tgt := 15) X dX9_insertNow_9 rfl ?_ ?_
  · refine vv_iload_n (pc := 15) X (kf := 1) (i := 1) rfl 1 rfl dX9_insertNow_15 ?_
    refine vv_aload_n (pc := 16) X (kf := 0) (i := 0) rfl 0 rfl dX9_insertNow_16 ?_
    refine vv_getR (pc := 17) X (fun _ z => by cases List.mem_singleton.mp z; exact fl_X9_9_7) dX9_insertNow_17 (fun v3 => ?_)
    refine vv_iconst (pc := 20) X dX9_insertNow_20 ?_
    refine vv_iaload (pc := 21) X dX9_insertNow_21 (fun v4 => ?_)
    refine vv_icmp_le (pc := 22) (tgt := 28) X dX9_insertNow_22 rfl ?_ ?_
    · refine vv_aload_n (pc := 28) X (kf := 0) (i := 0) rfl 0 rfl dX9_insertNow_28 ?_
      refine vv_getR (pc := 29) X (fun _ z => by cases List.mem_singleton.mp z; exact fl_X9_9_7) dX9_insertNow_29 (fun v5 => ?_)
      refine vv_iconst (pc := 32) X dX9_insertNow_32 ?_
      refine vv_iaload (pc := 33) X dX9_insertNow_33 (fun v6 => ?_)
      refine vv_istore_n (pc := 34) (lv' := [(3, LI v6), (0, LR (some a0)), (1, LI a1), (2, LI a2)]) X (kf := 3) (i := 3) rfl (by decide) rfl dX9_insertNow_34 ?_
      exact vv_sub [1, 2, 3, 0] (by rfl) (B_X9_insertNow_35 X _ _ _ _ _)
    · refine vv_bipush (pc := 25) X (by decide) dX9_insertNow_25 ?_
      exact vv_iretI X rfl rfl dX9_insertNow_27
  · refine vv_bipush (pc := 12) X (by decide) dX9_insertNow_12 ?_
    exact vv_iretI X rfl rfl dX9_insertNow_14
theorem m_X9_insertNow {l : Launch} (hl : l.stackTraces = false) {G : va_G} (a0 : Nat) (a1 : Int) (a2 : Int) (h : HP) : ∀ r hf, f_X9_insertNow a0 a1 a2 h = some (r, hf) → Ct l yX9_insertNow (ws_ yX9_insertNow cX9_insertNow 4 (some .int)) 8 242 G h [.ref a0, .int (iI a1), .int (iI a2)] (jI r) hf :=
  zz_ofW hl (by decide +kernel) (lv := [(0, LR (some a0)), (1, LI a1), (2, LI a2)]) (by simp [lv_args, lvL, lvV, zz_rfc, zz_rfs, zz_ci, zz_cr, zz_cj, zz_cf, zz_cd]) (by simp [lg_sl, zz_rfc, zz_ci, zz_cr, zz_cj, zz_cf, zz_cd]) (fun _ X => A_X9_insertNow X a0 a1 a2 h)
-- X9_doesMany RenamedWordsModel.doesMany(IIII)I
noncomputable def b_X9_doesMany_86 (x5 : Int) (h : HP) : Option ((Int) × HP) :=
  some (x5, h)
theorem B_X9_doesMany_86 {M : hp_M} {G : va_G} {h0 : HP} (X : hp_X M G h0 "RenamedWordsModel" "doesMany" cX9_doesMany 7 (some .int) [] 9 273) (x5 : Int) (h : HP) : vv M G h0 7 (hp_End M G h0) jI h 86 [(5, LI x5)] [] (b_X9_doesMany_86 x5 h) := by
  unfold b_X9_doesMany_86
  refine vv_iload (pc := 86) X 0 rfl dX9_doesMany_86 ?_
  exact vv_iretI X rfl rfl dX9_doesMany_88
noncomputable def b_X9_doesMany_78 (r6 : Option Nat → Int → Int → Int → Int → Int → Int → HP → Option ((Int) × HP)) (x0 : Option Nat) (x1 : Int) (x2 : Int) (x3 : Int) (x4 : Int) (x6 : Int) (s0 : Int) (h : HP) : Option ((Int) × HP) :=
  r6 x0 x1 x2 x3 x4 s0 (x6 + 1) h
theorem B_X9_doesMany_78 {M : hp_M} {G : va_G} {h0 : HP} (X : hp_X M G h0 "RenamedWordsModel" "doesMany" cX9_doesMany 7 (some .int) [] 9 273) (r6 : Option Nat → Int → Int → Int → Int → Int → Int → HP → Option ((Int) × HP)) (hr6 : ∀ (y0 : Option Nat) (y1 : Int) (y2 : Int) (y3 : Int) (y4 : Int) (y5 : Int) (y6 : Int) (h : HP), vv M G h0 7 (hp_End M G h0) jI h 6 [(0, LR y0), (1, LI y1), (2, LI y2), (3, LI y3), (4, LI y4), (5, LI y5), (6, LI y6)] [] (r6 y0 y1 y2 y3 y4 y5 y6 h)) (x0 : Option Nat) (x1 : Int) (x2 : Int) (x3 : Int) (x4 : Int) (x6 : Int) (s0 : Int) (h : HP) : vv M G h0 7 (hp_End M G h0) jI h 78 [(0, LR x0), (1, LI x1), (2, LI x2), (3, LI x3), (4, LI x4), (6, LI x6)] [LI s0] (b_X9_doesMany_78 r6 x0 x1 x2 x3 x4 x6 s0 h) := by
  unfold b_X9_doesMany_78
  refine vv_istore (pc := 78) (lv' := [(5, LI s0), (0, LR x0), (1, LI x1), (2, LI x2), (3, LI x3), (4, LI x4), (6, LI x6)]) X (by decide) rfl dX9_doesMany_78 ?_
  refine vv_iinc (pc := 80) (lv' := [(6, LI (x6 + 1)), (5, LI s0), (0, LR x0), (1, LI x1), (2, LI x2), (3, LI x3), (4, LI x4)]) X 6 rfl (by decide) rfl dX9_doesMany_80 ?_
  refine vv_goto (pc := 83) (tgt := 6) X dX9_doesMany_83 rfl ?_
  exact vv_sub [2, 3, 4, 5, 6, 1, 0] (by rfl) (hr6 _ _ _ _ _ _ _ _)
noncomputable def c_X9_doesMany_6 (r6 : Option Nat → Int → Int → Int → Int → Int → Int → HP → Option ((Int) × HP)) (x0 : Option Nat) (x1 : Int) (x2 : Int) (x3 : Int) (x4 : Int) (x5 : Int) (x6 : Int) (h : HP) : Option ((Int) × HP) :=
  iLE x4 x6
    (b_X9_doesMany_86 x5 h)
    (iLT x5 0
      (b_X9_doesMany_86 x5 h)
      (iEQ x1 2
        ((rcv h x0 [7]).bind fun b15 =>
        hb (f_X9_eraseNow b15 x2 h) fun v13 h14 =>
        b_X9_doesMany_78 r6 x0 x1 x2 x3 x4 x6 v13 h14)
        (iEQ x1 0
          ((rdR h x0 [7] 11).bind fun v7 =>
          (aldI h .int v7 (x3 + x6)).bind fun v8 =>
          (rcv h x0 [7]).bind fun b11 =>
          hb (f_X9_putNow b11 (x2 + x6) (v8 - 97) h) fun v9 h10 =>
          b_X9_doesMany_78 r6 x0 x1 x2 x3 x4 x6 v9 h10)
          ((rdR h x0 [7] 11).bind fun v1 =>
          (aldI h .int v1 (x3 + x6)).bind fun v2 =>
          (rcv h x0 [7]).bind fun b5 =>
          hb (f_X9_insertNow b5 (x2 + x6) (v2 - 97) h) fun v3 h4 =>
          b_X9_doesMany_78 r6 x0 x1 x2 x3 x4 x6 v3 h4))))
noncomputable def b_X9_doesMany_6 : Option Nat → Int → Int → Int → Int → Int → Int → HP → Option ((Int) × HP) := fx (fun _ _ _ _ _ _ _ _ => none) (c_X9_doesMany_6) FU
theorem C_X9_doesMany_6 {M : hp_M} {G : va_G} {h0 : HP} (X : hp_X M G h0 "RenamedWordsModel" "doesMany" cX9_doesMany 7 (some .int) [] 9 273) (r6 : Option Nat → Int → Int → Int → Int → Int → Int → HP → Option ((Int) × HP)) (hr6 : ∀ (y0 : Option Nat) (y1 : Int) (y2 : Int) (y3 : Int) (y4 : Int) (y5 : Int) (y6 : Int) (h : HP), vv M G h0 7 (hp_End M G h0) jI h 6 [(0, LR y0), (1, LI y1), (2, LI y2), (3, LI y3), (4, LI y4), (5, LI y5), (6, LI y6)] [] (r6 y0 y1 y2 y3 y4 y5 y6 h)) (x0 : Option Nat) (x1 : Int) (x2 : Int) (x3 : Int) (x4 : Int) (x5 : Int) (x6 : Int) (h : HP) : vv M G h0 7 (hp_End M G h0) jI h 6 [(0, LR x0), (1, LI x1), (2, LI x2), (3, LI x3), (4, LI x4), (5, LI x5), (6, LI x6)] [] (c_X9_doesMany_6 r6 x0 x1 x2 x3 x4 x5 x6 h) := by
  unfold c_X9_doesMany_6
  refine vv_iload (pc := 6) X 6 rfl dX9_doesMany_6 ?_
  refine vv_iload (pc := 8) X 4 rfl dX9_doesMany_8 ?_
  refine vv_icmp_ge (pc := 10) (tgt := 86) X dX9_doesMany_10 rfl ?_ ?_
  · exact vv_sub [5] (by rfl) (B_X9_doesMany_86 X _ _)
  · refine vv_iload (pc := 13) X 5 rfl dX9_doesMany_13 ?_
    refine vv_if_lt (pc := 15) (tgt := 86) X dX9_doesMany_15 rfl ?_ ?_
    · exact vv_sub [5] (by rfl) (B_X9_doesMany_86 X _ _)
    · refine vv_iload_n (pc := 18) X (kf := 1) (i := 1) rfl 1 rfl dX9_doesMany_18 ?_
      refine vv_iconst (pc := 19) X dX9_doesMany_19 ?_
      refine vv_icmp_ne (pc := 20) (tgt := 31) X dX9_doesMany_20 rfl ?_ ?_
      · refine vv_iload_n (pc := 31) X (kf := 1) (i := 1) rfl 1 rfl dX9_doesMany_31 ?_
        refine vv_if_ne (pc := 32) (tgt := 58) X dX9_doesMany_32 rfl ?_ ?_
        · refine vv_aload_n (pc := 58) X (kf := 0) (i := 0) rfl 0 rfl dX9_doesMany_58 ?_
          refine vv_iload_n (pc := 59) X (kf := 2) (i := 2) rfl 2 rfl dX9_doesMany_59 ?_
          refine vv_iload (pc := 60) X 6 rfl dX9_doesMany_60 ?_
          refine vv_iadd (pc := 62) X dX9_doesMany_62 ?_
          refine vv_aload_n (pc := 63) X (kf := 0) (i := 0) rfl 0 rfl dX9_doesMany_63 ?_
          refine vv_getR (pc := 64) X (fun _ z => by cases List.mem_singleton.mp z; exact fl_X9_38_7) dX9_doesMany_64 (fun v1 => ?_)
          refine vv_iload_n (pc := 67) X (kf := 3) (i := 3) rfl 3 rfl dX9_doesMany_67 ?_
          refine vv_iload (pc := 68) X 6 rfl dX9_doesMany_68 ?_
          refine vv_iadd (pc := 70) X dX9_doesMany_70 ?_
          refine vv_iaload (pc := 71) X dX9_doesMany_71 (fun v2 => ?_)
          refine vv_bipush (pc := 72) X (by decide) dX9_doesMany_72 ?_
          refine vv_isub (pc := 74) X dX9_doesMany_74 ?_
          refine vv_rcv (fun b5 t9 c9 fs9 e6 g9 k9 => ?_)
          cases List.mem_singleton.mp k9
          refine vv_callI (pc := 75) (rest := []) (by rw [e6]; rfl) (fun r8 k8 e8 => zz_callV X (m_X9_insertNow (hlM X) _ _ _ _ _ _ e8) g9 rfl rfl q3809 q3811 qs102 q164 q3812 nh_X9 rfl (by decide) (by decide) (Nat.le_of_ble_eq_true rfl) dX9_doesMany_75) (fun v3 h4 => ?_)
          exact vv_sub [0, 1, 2, 3, 4, 6] (by rfl) (B_X9_doesMany_78 X r6 hr6 _ _ _ _ _ _ _ _)
        · refine vv_aload_n (pc := 35) X (kf := 0) (i := 0) rfl 0 rfl dX9_doesMany_35 ?_
          refine vv_iload_n (pc := 36) X (kf := 2) (i := 2) rfl 2 rfl dX9_doesMany_36 ?_
          refine vv_iload (pc := 37) X 6 rfl dX9_doesMany_37 ?_
          refine vv_iadd (pc := 39) X dX9_doesMany_39 ?_
          refine vv_aload_n (pc := 40) X (kf := 0) (i := 0) rfl 0 rfl dX9_doesMany_40 ?_
          refine vv_getR (pc := 41) X (fun _ z => by cases List.mem_singleton.mp z; exact fl_X9_38_7) dX9_doesMany_41 (fun v7 => ?_)
          refine vv_iload_n (pc := 44) X (kf := 3) (i := 3) rfl 3 rfl dX9_doesMany_44 ?_
          refine vv_iload (pc := 45) X 6 rfl dX9_doesMany_45 ?_
          refine vv_iadd (pc := 47) X dX9_doesMany_47 ?_
          refine vv_iaload (pc := 48) X dX9_doesMany_48 (fun v8 => ?_)
          refine vv_bipush (pc := 49) X (by decide) dX9_doesMany_49 ?_
          refine vv_isub (pc := 51) X dX9_doesMany_51 ?_
          refine vv_rcv (fun b11 t9 c9 fs9 e12 g9 k9 => ?_)
          cases List.mem_singleton.mp k9
          refine vv_callI (pc := 52) (rest := []) (by rw [e12]; rfl) (fun r8 k8 e8 => zz_callV X (m_X9_putNow (hlM X) _ _ _ _ _ _ e8) g9 rfl rfl q3805 q3807 qs101 q164 q3808 nh_X9 rfl (by decide) (by decide) (Nat.le_of_ble_eq_true rfl) dX9_doesMany_52) (fun v9 h10 => ?_)
          refine vv_goto (pc := 55) (tgt := 78) X dX9_doesMany_55 rfl ?_
          exact vv_sub [0, 1, 2, 3, 4, 6] (by rfl) (B_X9_doesMany_78 X r6 hr6 _ _ _ _ _ _ _ _)
      · refine vv_aload_n (pc := 23) X (kf := 0) (i := 0) rfl 0 rfl dX9_doesMany_23 ?_
        refine vv_iload_n (pc := 24) X (kf := 2) (i := 2) rfl 2 rfl dX9_doesMany_24 ?_
        refine vv_rcv (fun b15 t9 c9 fs9 e16 g9 k9 => ?_)
        cases List.mem_singleton.mp k9
        refine vv_callI (pc := 25) (rest := []) (by rw [e16]; rfl) (fun r8 k8 e8 => zz_callV X (m_X9_eraseNow (hlM X) _ _ _ _ _ e8) g9 rfl rfl q3735 q3737 qs85 q164 q3738 nh_X9 rfl (by decide) (by decide) (Nat.le_of_ble_eq_true rfl) dX9_doesMany_25) (fun v13 h14 => ?_)
        refine vv_goto (pc := 28) (tgt := 78) X dX9_doesMany_28 rfl ?_
        exact vv_sub [0, 1, 2, 3, 4, 6] (by rfl) (B_X9_doesMany_78 X r6 hr6 _ _ _ _ _ _ _ _)
theorem B_X9_doesMany_6 {M : hp_M} {G : va_G} {h0 : HP} (X : hp_X M G h0 "RenamedWordsModel" "doesMany" cX9_doesMany 7 (some .int) [] 9 273) : ∀ (x0 : Option Nat) (x1 : Int) (x2 : Int) (x3 : Int) (x4 : Int) (x5 : Int) (x6 : Int) (h : HP), vv M G h0 7 (hp_End M G h0) jI h 6 [(0, LR x0), (1, LI x1), (2, LI x2), (3, LI x3), (4, LI x4), (5, LI x5), (6, LI x6)] [] (b_X9_doesMany_6 x0 x1 x2 x3 x4 x5 x6 h) := by
  unfold b_X9_doesMany_6
  generalize FU = n
  induction n with
  | zero => intro x0 x1 x2 x3 x4 x5 x6 h; exact vv_none
  | succ n ih => exact C_X9_doesMany_6 X _ ih
noncomputable def f_X9_doesMany (a0 : Nat) (a1 : Int) (a2 : Int) (a3 : Int) (a4 : Int) (h : HP) : Option ((Int) × HP) :=
  b_X9_doesMany_6 (some a0) a1 a2 a3 a4 0 0 h
theorem A_X9_doesMany {M : hp_M} {G : va_G} {h0 : HP} (X : hp_X M G h0 "RenamedWordsModel" "doesMany" cX9_doesMany 7 (some .int) [] 9 273) (a0 : Nat) (a1 : Int) (a2 : Int) (a3 : Int) (a4 : Int) (h : HP) : vv M G h0 7 (hp_End M G h0) jI h 0 [(0, LR (some a0)), (1, LI a1), (2, LI a2), (3, LI a3), (4, LI a4)] [] (f_X9_doesMany a0 a1 a2 a3 a4 h) := by
  unfold f_X9_doesMany
  refine vv_iconst (pc := 0) X dX9_doesMany_0 ?_
  refine vv_istore (pc := 1) (lv' := [(5, LI 0), (0, LR (some a0)), (1, LI a1), (2, LI a2), (3, LI a3), (4, LI a4)]) X (by decide) rfl dX9_doesMany_1 ?_
  refine vv_iconst (pc := 3) X dX9_doesMany_3 ?_
  refine vv_istore (pc := 4) (lv' := [(6, LI 0), (5, LI 0), (0, LR (some a0)), (1, LI a1), (2, LI a2), (3, LI a3), (4, LI a4)]) X (by decide) rfl dX9_doesMany_4 ?_
  exact vv_sub [2, 3, 4, 5, 6, 1, 0] (by rfl) (B_X9_doesMany_6 X _ _ _ _ _ _ _ _)
theorem m_X9_doesMany {l : Launch} (hl : l.stackTraces = false) {G : va_G} (a0 : Nat) (a1 : Int) (a2 : Int) (a3 : Int) (a4 : Int) (h : HP) : ∀ r hf, f_X9_doesMany a0 a1 a2 a3 a4 h = some (r, hf) → Ct l yX9_doesMany (ws_ yX9_doesMany cX9_doesMany 7 (some .int)) 9 273 G h [.ref a0, .int (iI a1), .int (iI a2), .int (iI a3), .int (iI a4)] (jI r) hf :=
  zz_ofW hl (by decide +kernel) (lv := [(0, LR (some a0)), (1, LI a1), (2, LI a2), (3, LI a3), (4, LI a4)]) (by simp [lv_args, lvL, lvV, zz_rfc, zz_rfs, zz_ci, zz_cr, zz_cj, zz_cf, zz_cd]) (by simp [lg_sl, zz_rfc, zz_ci, zz_cr, zz_cj, zz_cf, zz_cd]) (fun _ X => A_X9_doesMany X a0 a1 a2 a3 a4 h)
-- X9_markNow RenamedWordsModel.markNow(I)I
noncomputable def b_X9_markNow_110 (x0 : Option Nat) (x2 : Int) (h : HP) : Option ((Int) × HP) :=
  (rcv h x0 [7]).bind fun b5 =>
  hb (f_X9_counts b5 3 x2 h) fun _ h4 =>
  some (x2, h4)
theorem B_X9_markNow_110 {M : hp_M} {G : va_G} {h0 : HP} (X : hp_X M G h0 "RenamedWordsModel" "markNow" cX9_markNow 4 (some .int) [] 6 183) (x0 : Option Nat) (x2 : Int) (h : HP) : vv M G h0 4 (hp_End M G h0) jI h 110 [(0, LR x0), (2, LI x2)] [] (b_X9_markNow_110 x0 x2 h) := by
  unfold b_X9_markNow_110
  refine vv_aload_n (pc := 110) X (kf := 0) (i := 0) rfl 0 rfl dX9_markNow_110 ?_
  refine vv_iconst (pc := 111) X dX9_markNow_111 ?_
  refine vv_iload_n (pc := 112) X (kf := 2) (i := 2) rfl 1 rfl dX9_markNow_112 ?_
  refine vv_rcv (fun b5 t9 c9 fs9 e6 g9 k9 => ?_)
  cases List.mem_singleton.mp k9
  refine vv_callV (pc := 113) (rest := []) (by rw [e6]; rfl) (fun r8 k8 e8 => zz_callV X (m_X9_counts (hlM X) _ _ _ _ _ _ e8) g9 rfl rfl q3739 q3741 qs86 q164 q3742 nh_X9 rfl (by decide) (by decide) (Nat.le_of_ble_eq_true rfl) dX9_markNow_113) (fun v3 h4 => ?_)
  refine vv_iload_n (pc := 116) X (kf := 2) (i := 2) rfl 1 rfl dX9_markNow_116 ?_
  exact vv_iretI X rfl rfl dX9_markNow_117
noncomputable def b_X9_markNow_104 (r4 : Option Nat → Int → Int → Int → HP → Option ((Int) × HP)) (x0 : Option Nat) (x1 : Int) (x2 : Int) (x3 : Int) (h : HP) : Option ((Int) × HP) :=
  r4 x0 x1 x2 (x3 + 1) h
theorem B_X9_markNow_104 {M : hp_M} {G : va_G} {h0 : HP} (X : hp_X M G h0 "RenamedWordsModel" "markNow" cX9_markNow 4 (some .int) [] 6 183) (r4 : Option Nat → Int → Int → Int → HP → Option ((Int) × HP)) (hr4 : ∀ (y0 : Option Nat) (y1 : Int) (y2 : Int) (y3 : Int) (h : HP), vv M G h0 4 (hp_End M G h0) jI h 4 [(0, LR y0), (1, LI y1), (2, LI y2), (3, LI y3)] [] (r4 y0 y1 y2 y3 h)) (x0 : Option Nat) (x1 : Int) (x2 : Int) (x3 : Int) (h : HP) : vv M G h0 4 (hp_End M G h0) jI h 104 [(0, LR x0), (1, LI x1), (2, LI x2), (3, LI x3)] [] (b_X9_markNow_104 r4 x0 x1 x2 x3 h) := by
  unfold b_X9_markNow_104
  refine vv_iinc (pc := 104) (lv' := [(3, LI (x3 + 1)), (0, LR x0), (1, LI x1), (2, LI x2)]) X 3 rfl (by decide) rfl dX9_markNow_104 ?_
  refine vv_goto (pc := 107) (tgt := 4) X dX9_markNow_107 rfl ?_
  exact vv_sub [1, 2, 3, 0] (by rfl) (hr4 _ _ _ _ _)
noncomputable def c_X9_markNow_4 (r4 : Option Nat → Int → Int → Int → HP → Option ((Int) × HP)) (x0 : Option Nat) (x1 : Int) (x2 : Int) (x3 : Int) (h : HP) : Option ((Int) × HP) :=
  (rdR h x0 [7] 0).bind fun v1 =>
  (aldI h .int v1 1).bind fun v2 =>
  iLE v2 x3
    (b_X9_markNow_110 x0 x2 h)
    ((rdR h x0 [7] 0).bind fun v7 =>
    (aldI h .int v7 3).bind fun v8 =>
    iLE 60 v8
      (b_X9_markNow_110 x0 x2 h)
      ((rcv h x0 [7]).bind fun b11 =>
      hb (f_X9_isThere b11 x1 x3 h) fun v9 h10 =>
      iEQ v9 0
        (b_X9_markNow_104 r4 x0 x1 x2 x3 h10)
        ((rdR h10 x0 [7] 0).bind fun v13 =>
        (aldI h10 .int v13 3).bind fun v14 =>
        (rcv h10 x0 [7]).bind fun b17 =>
        hb (f_X9_markOf b17 x1 x3 v14 h10) fun v15 h16 =>
        iEQ v15 (-1)
          ((rdR h16 x0 [7] 0).bind fun v19 =>
          (rdR h16 x0 [7] 0).bind fun v20 =>
          (aldI h16 .int v20 3).bind fun v21 =>
          (astI h16 .int v19 (456 + (2 * v21)) x3).bind fun h22 =>
          (rdR h22 x0 [7] 0).bind fun v23 =>
          (rdR h22 x0 [7] 0).bind fun v24 =>
          (aldI h22 .int v24 3).bind fun v25 =>
          (astI h22 .int v23 ((456 + (2 * v25)) + 1) x1).bind fun h26 =>
          (rdR h26 x0 [7] 0).bind fun v27 =>
          (aldI h26 .int v27 3).bind fun v28 =>
          (astI h26 .int v27 3 (v28 + 1)).bind fun h29 =>
          b_X9_markNow_104 r4 x0 x1 (x2 + 1) x3 h29)
          (b_X9_markNow_104 r4 x0 x1 x2 x3 h16))))
noncomputable def b_X9_markNow_4 : Option Nat → Int → Int → Int → HP → Option ((Int) × HP) := fx (fun _ _ _ _ _ => none) (c_X9_markNow_4) FU
theorem C_X9_markNow_4 {M : hp_M} {G : va_G} {h0 : HP} (X : hp_X M G h0 "RenamedWordsModel" "markNow" cX9_markNow 4 (some .int) [] 6 183) (r4 : Option Nat → Int → Int → Int → HP → Option ((Int) × HP)) (hr4 : ∀ (y0 : Option Nat) (y1 : Int) (y2 : Int) (y3 : Int) (h : HP), vv M G h0 4 (hp_End M G h0) jI h 4 [(0, LR y0), (1, LI y1), (2, LI y2), (3, LI y3)] [] (r4 y0 y1 y2 y3 h)) (x0 : Option Nat) (x1 : Int) (x2 : Int) (x3 : Int) (h : HP) : vv M G h0 4 (hp_End M G h0) jI h 4 [(0, LR x0), (1, LI x1), (2, LI x2), (3, LI x3)] [] (c_X9_markNow_4 r4 x0 x1 x2 x3 h) := by
  unfold c_X9_markNow_4
  refine vv_iload_n (pc := 4) X (kf := 3) (i := 3) rfl 3 rfl dX9_markNow_4 ?_
  refine vv_aload_n (pc := 5) X (kf := 0) (i := 0) rfl 0 rfl dX9_markNow_5 ?_
  refine vv_getR (pc := 6) X (fun _ z => by cases List.mem_singleton.mp z; exact fl_X9_9_7) dX9_markNow_6 (fun v1 => ?_)
  refine vv_iconst (pc := 9) X dX9_markNow_9 ?_
  refine vv_iaload (pc := 10) X dX9_markNow_10 (fun v2 => ?_)
  refine vv_icmp_ge (pc := 11) (tgt := 110) X dX9_markNow_11 rfl ?_ ?_
  · exact vv_sub [0, 2] (by rfl) (B_X9_markNow_110 X _ _ _)
  · refine vv_aload_n (pc := 14) X (kf := 0) (i := 0) rfl 0 rfl dX9_markNow_14 ?_
    refine vv_getR (pc := 15) X (fun _ z => by cases List.mem_singleton.mp z; exact fl_X9_9_7) dX9_markNow_15 (fun v7 => ?_)
    refine vv_iconst (pc := 18) X dX9_markNow_18 ?_
    refine vv_iaload (pc := 19) X dX9_markNow_19 (fun v8 => ?_)
    refine vv_bipush (pc := 20) X (by decide) dX9_markNow_20 ?_
    refine vv_icmp_ge (pc := 22) (tgt := 110) X dX9_markNow_22 rfl ?_ ?_
    · exact vv_sub [0, 2] (by rfl) (B_X9_markNow_110 X _ _ _)
    · refine vv_aload_n (pc := 25) X (kf := 0) (i := 0) rfl 0 rfl dX9_markNow_25 ?_
      refine vv_iload_n (pc := 26) X (kf := 1) (i := 1) rfl 1 rfl dX9_markNow_26 ?_
      refine vv_iload_n (pc := 27) X (kf := 3) (i := 3) rfl 3 rfl dX9_markNow_27 ?_
      refine vv_rcv (fun b11 t9 c9 fs9 e12 g9 k9 => ?_)
      cases List.mem_singleton.mp k9
      refine vv_callI (pc := 28) (rest := []) (by rw [e12]; rfl) (fun r8 k8 e8 => zz_callV X (m_X9_isThere (hlM X) _ _ _ _ _ _ e8) g9 rfl rfl q3763 q3765 qs92 q164 q3766 nh_X9 rfl (by decide) (by decide) (Nat.le_of_ble_eq_true rfl) dX9_markNow_28) (fun v9 h10 => ?_)
      refine vv_if_eq (pc := 31) (tgt := 104) X dX9_markNow_31 rfl ?_ ?_
      · exact B_X9_markNow_104 X r4 hr4 _ _ _ _ _
      · refine vv_aload_n (pc := 34) X (kf := 0) (i := 0) rfl 0 rfl dX9_markNow_34 ?_
        refine vv_iload_n (pc := 35) X (kf := 1) (i := 1) rfl 1 rfl dX9_markNow_35 ?_
        refine vv_iload_n (pc := 36) X (kf := 3) (i := 3) rfl 3 rfl dX9_markNow_36 ?_
        refine vv_aload_n (pc := 37) X (kf := 0) (i := 0) rfl 0 rfl dX9_markNow_37 ?_
        refine vv_getR (pc := 38) X (fun _ z => by cases List.mem_singleton.mp z; exact fl_X9_9_7) dX9_markNow_38 (fun v13 => ?_)
        refine vv_iconst (pc := 41) X dX9_markNow_41 ?_
        refine vv_iaload (pc := 42) X dX9_markNow_42 (fun v14 => ?_)
        refine vv_rcv (fun b17 t9 c9 fs9 e18 g9 k9 => ?_)
        cases List.mem_singleton.mp k9
        refine vv_callI (pc := 43) (rest := []) (by rw [e18]; rfl) (fun r8 k8 e8 => zz_callV X (m_X9_markOf (hlM X) _ _ _ _ _ _ _ e8) g9 rfl rfl q3797 q3799 qs99 q164 q3800 nh_X9 rfl (by decide) (by decide) (Nat.le_of_ble_eq_true rfl) dX9_markNow_43) (fun v15 h16 => ?_)
        refine vv_iconst (pc := 46) X dX9_markNow_46 ?_
        refine vv_icmp_eq (pc := 47) (tgt := 53) X dX9_markNow_47 rfl ?_ ?_
        · refine vv_aload_n (pc := 53) X (kf := 0) (i := 0) rfl 0 rfl dX9_markNow_53 ?_
          refine vv_getR (pc := 54) X (fun _ z => by cases List.mem_singleton.mp z; exact fl_X9_9_7) dX9_markNow_54 (fun v19 => ?_)
          refine vv_sipush (pc := 57) X (by decide) dX9_markNow_57 ?_
          refine vv_iconst (pc := 60) X dX9_markNow_60 ?_
          refine vv_aload_n (pc := 61) X (kf := 0) (i := 0) rfl 0 rfl dX9_markNow_61 ?_
          refine vv_getR (pc := 62) X (fun _ z => by cases List.mem_singleton.mp z; exact fl_X9_9_7) dX9_markNow_62 (fun v20 => ?_)
          refine vv_iconst (pc := 65) X dX9_markNow_65 ?_
          refine vv_iaload (pc := 66) X dX9_markNow_66 (fun v21 => ?_)
          refine vv_imul (pc := 67) X dX9_markNow_67 ?_
          refine vv_iadd (pc := 68) X dX9_markNow_68 ?_
          refine vv_iload_n (pc := 69) X (kf := 3) (i := 3) rfl 3 rfl dX9_markNow_69 ?_
          refine vv_iastore (pc := 70) X dX9_markNow_70 (fun h22 => ?_)
          refine vv_aload_n (pc := 71) X (kf := 0) (i := 0) rfl 0 rfl dX9_markNow_71 ?_
          refine vv_getR (pc := 72) X (fun _ z => by cases List.mem_singleton.mp z; exact fl_X9_9_7) dX9_markNow_72 (fun v23 => ?_)
          refine vv_sipush (pc := 75) X (by decide) dX9_markNow_75 ?_
          refine vv_iconst (pc := 78) X dX9_markNow_78 ?_
          refine vv_aload_n (pc := 79) X (kf := 0) (i := 0) rfl 0 rfl dX9_markNow_79 ?_
          refine vv_getR (pc := 80) X (fun _ z => by cases List.mem_singleton.mp z; exact fl_X9_9_7) dX9_markNow_80 (fun v24 => ?_)
          refine vv_iconst (pc := 83) X dX9_markNow_83 ?_
          refine vv_iaload (pc := 84) X dX9_markNow_84 (fun v25 => ?_)
          refine vv_imul (pc := 85) X dX9_markNow_85 ?_
          refine vv_iadd (pc := 86) X dX9_markNow_86 ?_
          refine vv_iconst (pc := 87) X dX9_markNow_87 ?_
          refine vv_iadd (pc := 88) X dX9_markNow_88 ?_
          refine vv_iload_n (pc := 89) X (kf := 1) (i := 1) rfl 1 rfl dX9_markNow_89 ?_
          refine vv_iastore (pc := 90) X dX9_markNow_90 (fun h26 => ?_)
          refine vv_aload_n (pc := 91) X (kf := 0) (i := 0) rfl 0 rfl dX9_markNow_91 ?_
          refine vv_getR (pc := 92) X (fun _ z => by cases List.mem_singleton.mp z; exact fl_X9_9_7) dX9_markNow_92 (fun v27 => ?_)
          refine vv_iconst (pc := 95) X dX9_markNow_95 ?_
          refine vv_dup2 (pc := 96) X rfl rfl dX9_markNow_96 ?_
          refine vv_iaload (pc := 97) X dX9_markNow_97 (fun v28 => ?_)
          refine vv_iconst (pc := 98) X dX9_markNow_98 ?_
          refine vv_iadd (pc := 99) X dX9_markNow_99 ?_
          refine vv_iastore (pc := 100) X dX9_markNow_100 (fun h29 => ?_)
          refine vv_iinc (pc := 101) (lv' := [(2, LI (x2 + 1)), (0, LR x0), (1, LI x1), (3, LI x3)]) X 2 rfl (by decide) rfl dX9_markNow_101 ?_
          exact vv_sub [1, 2, 0, 3] (by rfl) (B_X9_markNow_104 X r4 hr4 _ _ _ _ _)
        · refine vv_goto (pc := 50) (tgt := 104) X dX9_markNow_50 rfl ?_
          exact B_X9_markNow_104 X r4 hr4 _ _ _ _ _
theorem B_X9_markNow_4 {M : hp_M} {G : va_G} {h0 : HP} (X : hp_X M G h0 "RenamedWordsModel" "markNow" cX9_markNow 4 (some .int) [] 6 183) : ∀ (x0 : Option Nat) (x1 : Int) (x2 : Int) (x3 : Int) (h : HP), vv M G h0 4 (hp_End M G h0) jI h 4 [(0, LR x0), (1, LI x1), (2, LI x2), (3, LI x3)] [] (b_X9_markNow_4 x0 x1 x2 x3 h) := by
  unfold b_X9_markNow_4
  generalize FU = n
  induction n with
  | zero => intro x0 x1 x2 x3 h; exact vv_none
  | succ n ih => exact C_X9_markNow_4 X _ ih
noncomputable def f_X9_markNow (a0 : Nat) (a1 : Int) (h : HP) : Option ((Int) × HP) :=
  b_X9_markNow_4 (some a0) a1 0 0 h
theorem A_X9_markNow {M : hp_M} {G : va_G} {h0 : HP} (X : hp_X M G h0 "RenamedWordsModel" "markNow" cX9_markNow 4 (some .int) [] 6 183) (a0 : Nat) (a1 : Int) (h : HP) : vv M G h0 4 (hp_End M G h0) jI h 0 [(0, LR (some a0)), (1, LI a1)] [] (f_X9_markNow a0 a1 h) := by
  unfold f_X9_markNow
  refine vv_iconst (pc := 0) X dX9_markNow_0 ?_
  refine vv_istore_n (pc := 1) (lv' := [(2, LI 0), (0, LR (some a0)), (1, LI a1)]) X (kf := 2) (i := 2) rfl (by decide) rfl dX9_markNow_1 ?_
  refine vv_iconst (pc := 2) X dX9_markNow_2 ?_
  refine vv_istore_n (pc := 3) (lv' := [(3, LI 0), (2, LI 0), (0, LR (some a0)), (1, LI a1)]) X (kf := 3) (i := 3) rfl (by decide) rfl dX9_markNow_3 ?_
  exact vv_sub [2, 3, 1, 0] (by rfl) (B_X9_markNow_4 X _ _ _ _ _)
theorem m_X9_markNow {l : Launch} (hl : l.stackTraces = false) {G : va_G} (a0 : Nat) (a1 : Int) (h : HP) : ∀ r hf, f_X9_markNow a0 a1 h = some (r, hf) → Ct l yX9_markNow (ws_ yX9_markNow cX9_markNow 4 (some .int)) 6 183 G h [.ref a0, .int (iI a1)] (jI r) hf :=
  zz_ofW hl (by decide +kernel) (lv := [(0, LR (some a0)), (1, LI a1)]) (by simp [lv_args, lvL, lvV, zz_rfc, zz_rfs, zz_ci, zz_cr, zz_cj, zz_cf, zz_cd]) (by simp [lg_sl, zz_rfc, zz_ci, zz_cr, zz_cj, zz_cf, zz_cd]) (fun _ X => A_X9_markNow X a0 a1 h)
-- X9_unmarkNow RenamedWordsModel.unmarkNow(I)I
noncomputable def f_X9_unmarkNow (a0 : Nat) (a1 : Int) (h : HP) : Option ((Int) × HP) :=
  (rdR h (some a0) [7] 0).bind fun v1 =>
  (aldI h .int v1 3).bind fun v2 =>
  iLT a1 v2
    ((rcv h (some a0) [7]).bind fun b5 =>
    hb (f_X9_takesOut b5 a1 h) fun _ h4 =>
    (rcv h4 (some a0) [7]).bind fun b9 =>
    hb (f_X9_counts b9 5 1 h4) fun _ h8 =>
    (rdR h8 (some a0) [7] 0).bind fun v11 =>
    (aldI h8 .int v11 3).bind fun v12 =>
    some (v12, h8))
    (some ((-5), h))
theorem A_X9_unmarkNow {M : hp_M} {G : va_G} {h0 : HP} (X : hp_X M G h0 "RenamedWordsModel" "unmarkNow" cX9_unmarkNow 2 (some .int) [] 1 30) (a0 : Nat) (a1 : Int) (h : HP) : vv M G h0 2 (hp_End M G h0) jI h 0 [(0, LR (some a0)), (1, LI a1)] [] (f_X9_unmarkNow a0 a1 h) := by
  unfold f_X9_unmarkNow
  refine vv_iload_n (pc := 0) X (kf := 1) (i := 1) rfl 1 rfl dX9_unmarkNow_0 ?_
  refine vv_aload_n (pc := 1) X (kf := 0) (i := 0) rfl 0 rfl dX9_unmarkNow_1 ?_
  refine vv_getR (pc := 2) X (fun _ z => by cases List.mem_singleton.mp z; exact fl_X9_9_7) dX9_unmarkNow_2 (fun v1 => ?_)
  refine vv_iconst (pc := 5) X dX9_unmarkNow_5 ?_
  refine vv_iaload (pc := 6) X dX9_unmarkNow_6 (fun v2 => ?_)
  refine vv_icmp_lt (pc := 7) (tgt := 13) X dX9_unmarkNow_7 rfl ?_ ?_
  · refine vv_aload_n (pc := 13) X (kf := 0) (i := 0) rfl 0 rfl dX9_unmarkNow_13 ?_
    refine vv_iload_n (pc := 14) X (kf := 1) (i := 1) rfl 1 rfl dX9_unmarkNow_14 ?_
    refine vv_rcv (fun b5 t9 c9 fs9 e6 g9 k9 => ?_)
    cases List.mem_singleton.mp k9
    refine vv_callV (pc := 15) (rest := []) (by rw [e6]; rfl) (fun r8 k8 e8 => zz_callV X (m_X9_takesOut (hlM X) _ _ _ _ _ e8) g9 rfl rfl q3801 q3803 qs100 q164 q3804 nh_X9 rfl (by decide) (by decide) (Nat.le_of_ble_eq_true rfl) dX9_unmarkNow_15) (fun v3 h4 => ?_)
    refine vv_aload_n (pc := 18) X (kf := 0) (i := 0) rfl 0 rfl dX9_unmarkNow_18 ?_
    refine vv_iconst (pc := 19) X dX9_unmarkNow_19 ?_
    refine vv_iconst (pc := 20) X dX9_unmarkNow_20 ?_
    refine vv_rcv (fun b9 t9 c9 fs9 e10 g9 k9 => ?_)
    cases List.mem_singleton.mp k9
    refine vv_callV (pc := 21) (rest := []) (by rw [e10]; rfl) (fun r8 k8 e8 => zz_callV X (m_X9_counts (hlM X) _ _ _ _ _ _ e8) g9 rfl rfl q3739 q3741 qs86 q164 q3742 nh_X9 rfl (by decide) (by decide) (Nat.le_of_ble_eq_true rfl) dX9_unmarkNow_21) (fun v7 h8 => ?_)
    refine vv_aload_n (pc := 24) X (kf := 0) (i := 0) rfl 0 rfl dX9_unmarkNow_24 ?_
    refine vv_getR (pc := 25) X (fun _ z => by cases List.mem_singleton.mp z; exact fl_X9_9_7) dX9_unmarkNow_25 (fun v11 => ?_)
    refine vv_iconst (pc := 28) X dX9_unmarkNow_28 ?_
    refine vv_iaload (pc := 29) X dX9_unmarkNow_29 (fun v12 => ?_)
    exact vv_iretI X rfl rfl dX9_unmarkNow_30
  · refine vv_bipush (pc := 10) X (by decide) dX9_unmarkNow_10 ?_
    exact vv_iretI X rfl rfl dX9_unmarkNow_12
theorem m_X9_unmarkNow {l : Launch} (hl : l.stackTraces = false) {G : va_G} (a0 : Nat) (a1 : Int) (h : HP) : ∀ r hf, f_X9_unmarkNow a0 a1 h = some (r, hf) → Ct l yX9_unmarkNow (ws_ yX9_unmarkNow cX9_unmarkNow 2 (some .int)) 1 30 G h [.ref a0, .int (iI a1)] (jI r) hf :=
  zz_ofW hl (by decide +kernel) (lv := [(0, LR (some a0)), (1, LI a1)]) (by simp [lv_args, lvL, lvV, zz_rfc, zz_rfs, zz_ci, zz_cr, zz_cj, zz_cf, zz_cd]) (by simp [lg_sl, zz_rfc, zz_ci, zz_cr, zz_cj, zz_cf, zz_cd]) (fun _ X => A_X9_unmarkNow X a0 a1 h)
-- X9_swapNow RenamedWordsModel.swapNow(IIII)I
noncomputable def b_X9_swapNow_22 (h : HP) : Option ((Int) × HP) :=
  some ((-4), h)
theorem B_X9_swapNow_22 {M : hp_M} {G : va_G} {h0 : HP} (X : hp_X M G h0 "RenamedWordsModel" "swapNow" cX9_swapNow 8 (some .int) [] 8 242) (h : HP) : vv M G h0 8 (hp_End M G h0) jI h 22 [] [] (b_X9_swapNow_22 h) := by
  unfold b_X9_swapNow_22
  refine vv_bipush (pc := 22) X (by decide) dX9_swapNow_22 ?_
  exact vv_iretI X rfl rfl dX9_swapNow_24
noncomputable def b_X9_swapNow_105 (r34 : Option Nat → Int → Int → Int → Int → Int → Int → HP → Option ((Int) × HP)) (x0 : Option Nat) (x1 : Int) (x2 : Int) (x3 : Int) (x4 : Int) (x6 : Int) (s0 : Int) (s1 : Int) (h : HP) : Option ((Int) × HP) :=
  hb (f_X9_one s0 h) fun v17 h18 =>
  r34 x0 x1 x2 x3 x4 (s1 + v17) (x6 + 1) h18
theorem B_X9_swapNow_105 {M : hp_M} {G : va_G} {h0 : HP} (X : hp_X M G h0 "RenamedWordsModel" "swapNow" cX9_swapNow 8 (some .int) [] 8 242) (r34 : Option Nat → Int → Int → Int → Int → Int → Int → HP → Option ((Int) × HP)) (hr34 : ∀ (y0 : Option Nat) (y1 : Int) (y2 : Int) (y3 : Int) (y4 : Int) (y5 : Int) (y6 : Int) (h : HP), vv M G h0 8 (hp_End M G h0) jI h 34 [(0, LR y0), (1, LI y1), (2, LI y2), (3, LI y3), (4, LI y4), (5, LI y5), (6, LI y6)] [] (r34 y0 y1 y2 y3 y4 y5 y6 h)) (x0 : Option Nat) (x1 : Int) (x2 : Int) (x3 : Int) (x4 : Int) (x6 : Int) (s0 : Int) (s1 : Int) (h : HP) : vv M G h0 8 (hp_End M G h0) jI h 105 [(0, LR x0), (1, LI x1), (2, LI x2), (3, LI x3), (4, LI x4), (6, LI x6)] [LI s0, LI s1] (b_X9_swapNow_105 r34 x0 x1 x2 x3 x4 x6 s0 s1 h) := by
  unfold b_X9_swapNow_105
  refine vv_callI (pc := 105) (rest := [LI s1]) (by rfl) (fun r8 k8 e8 => zz_callS X (m_X9_one (hlM X) _ _ _ _ e8) q3559 q3560 q164 q3561 nh_X9 rfl (by decide) (by decide) (Nat.le_of_ble_eq_true rfl) dX9_swapNow_105) (fun v17 h18 => ?_)
  refine vv_iadd (pc := 108) X dX9_swapNow_108 ?_
  refine vv_istore (pc := 109) (lv' := [(5, LI (s1 + v17)), (0, LR x0), (1, LI x1), (2, LI x2), (3, LI x3), (4, LI x4), (6, LI x6)]) X (by decide) rfl dX9_swapNow_109 ?_
  refine vv_iinc (pc := 111) (lv' := [(6, LI (x6 + 1)), (5, LI (s1 + v17)), (0, LR x0), (1, LI x1), (2, LI x2), (3, LI x3), (4, LI x4)]) X 6 rfl (by decide) rfl dX9_swapNow_111 ?_
  refine vv_goto (pc := 114) (tgt := 34) X dX9_swapNow_114 rfl ?_
  exact vv_sub [2, 3, 4, 5, 6, 1, 0] (by rfl) (hr34 _ _ _ _ _ _ _ _)
noncomputable def b_X9_swapNow_100 (r34 : Option Nat → Int → Int → Int → Int → Int → Int → HP → Option ((Int) × HP)) (x0 : Option Nat) (x1 : Int) (x2 : Int) (x3 : Int) (x4 : Int) (x6 : Int) (s0 : Int) (h : HP) : Option ((Int) × HP) :=
  b_X9_swapNow_105 r34 x0 x1 x2 x3 x4 x6 1 s0 h
theorem B_X9_swapNow_100 {M : hp_M} {G : va_G} {h0 : HP} (X : hp_X M G h0 "RenamedWordsModel" "swapNow" cX9_swapNow 8 (some .int) [] 8 242) (r34 : Option Nat → Int → Int → Int → Int → Int → Int → HP → Option ((Int) × HP)) (hr34 : ∀ (y0 : Option Nat) (y1 : Int) (y2 : Int) (y3 : Int) (y4 : Int) (y5 : Int) (y6 : Int) (h : HP), vv M G h0 8 (hp_End M G h0) jI h 34 [(0, LR y0), (1, LI y1), (2, LI y2), (3, LI y3), (4, LI y4), (5, LI y5), (6, LI y6)] [] (r34 y0 y1 y2 y3 y4 y5 y6 h)) (x0 : Option Nat) (x1 : Int) (x2 : Int) (x3 : Int) (x4 : Int) (x6 : Int) (s0 : Int) (h : HP) : vv M G h0 8 (hp_End M G h0) jI h 100 [(0, LR x0), (1, LI x1), (2, LI x2), (3, LI x3), (4, LI x4), (6, LI x6)] [LI s0] (b_X9_swapNow_100 r34 x0 x1 x2 x3 x4 x6 s0 h) := by
  unfold b_X9_swapNow_100
  refine vv_iconst (pc := 100) X dX9_swapNow_100 ?_
  refine vv_goto (pc := 101) (tgt := 105) X dX9_swapNow_101 rfl ?_
  exact B_X9_swapNow_105 X r34 hr34 _ _ _ _ _ _ _ _ _
noncomputable def b_X9_swapNow_84 (r34 : Option Nat → Int → Int → Int → Int → Int → Int → HP → Option ((Int) × HP)) (x0 : Option Nat) (x1 : Int) (x2 : Int) (x3 : Int) (x4 : Int) (x5 : Int) (x6 : Int) (x7 : Int) (s0 : Int) (s1 : Int) (s2 : Option Nat) (h : HP) : Option ((Int) × HP) :=
  (astI h .int s2 s1 s0).bind fun h16 =>
  iEQ x7 x3
    (b_X9_swapNow_100 r34 x0 x1 x2 x3 x4 x6 x5 h16)
    (iEQ x7 x4
      (b_X9_swapNow_100 r34 x0 x1 x2 x3 x4 x6 x5 h16)
      (b_X9_swapNow_105 r34 x0 x1 x2 x3 x4 x6 0 x5 h16))
theorem B_X9_swapNow_84 {M : hp_M} {G : va_G} {h0 : HP} (X : hp_X M G h0 "RenamedWordsModel" "swapNow" cX9_swapNow 8 (some .int) [] 8 242) (r34 : Option Nat → Int → Int → Int → Int → Int → Int → HP → Option ((Int) × HP)) (hr34 : ∀ (y0 : Option Nat) (y1 : Int) (y2 : Int) (y3 : Int) (y4 : Int) (y5 : Int) (y6 : Int) (h : HP), vv M G h0 8 (hp_End M G h0) jI h 34 [(0, LR y0), (1, LI y1), (2, LI y2), (3, LI y3), (4, LI y4), (5, LI y5), (6, LI y6)] [] (r34 y0 y1 y2 y3 y4 y5 y6 h)) (x0 : Option Nat) (x1 : Int) (x2 : Int) (x3 : Int) (x4 : Int) (x5 : Int) (x6 : Int) (x7 : Int) (s0 : Int) (s1 : Int) (s2 : Option Nat) (h : HP) : vv M G h0 8 (hp_End M G h0) jI h 84 [(0, LR x0), (1, LI x1), (2, LI x2), (3, LI x3), (4, LI x4), (5, LI x5), (6, LI x6), (7, LI x7)] [LI s0, LI s1, LR s2] (b_X9_swapNow_84 r34 x0 x1 x2 x3 x4 x5 x6 x7 s0 s1 s2 h) := by
  unfold b_X9_swapNow_84
  refine vv_iastore (pc := 84) X dX9_swapNow_84 (fun h16 => ?_)
  refine vv_iload (pc := 85) X 5 rfl dX9_swapNow_85 ?_
  refine vv_iload (pc := 87) X 7 rfl dX9_swapNow_87 ?_
  refine vv_iload_n (pc := 89) X (kf := 3) (i := 3) rfl 3 rfl dX9_swapNow_89 ?_
  refine vv_icmp_eq (pc := 90) (tgt := 100) X dX9_swapNow_90 rfl ?_ ?_
  · exact vv_sub [0, 1, 2, 3, 4, 6] (by rfl) (B_X9_swapNow_100 X r34 hr34 _ _ _ _ _ _ _ _)
  · refine vv_iload (pc := 93) X 7 rfl dX9_swapNow_93 ?_
    refine vv_iload (pc := 95) X 4 rfl dX9_swapNow_95 ?_
    refine vv_icmp_ne (pc := 97) (tgt := 104) X dX9_swapNow_97 rfl ?_ ?_
    · refine vv_iconst (pc := 104) X dX9_swapNow_104 ?_
      exact vv_sub [0, 1, 2, 3, 4, 6] (by rfl) (B_X9_swapNow_105 X r34 hr34 _ _ _ _ _ _ _ _ _)
    · exact vv_sub [0, 1, 2, 3, 4, 6] (by rfl) (B_X9_swapNow_100 X r34 hr34 _ _ _ _ _ _ _ _)
noncomputable def c_X9_swapNow_34 (r34 : Option Nat → Int → Int → Int → Int → Int → Int → HP → Option ((Int) × HP)) (x0 : Option Nat) (x1 : Int) (x2 : Int) (x3 : Int) (x4 : Int) (x5 : Int) (x6 : Int) (h : HP) : Option ((Int) × HP) :=
  iLE ((16 + x1) + x2) x6
    ((rcv h x0 [7]).bind fun b7 =>
    hb (f_X9_counts b7 6 x5 h) fun _ h6 =>
    (rcv h6 x0 [7]).bind fun b11 =>
    hb (f_X9_cleans b11 h6) fun _ h10 =>
    some (x5, h10))
    ((rdR h x0 [7] 0).bind fun v13 =>
    (aldI h .int v13 x6).bind fun v14 =>
    (rdR h x0 [7] 0).bind fun v15 =>
    iEQ v14 x3
      (b_X9_swapNow_84 r34 x0 x1 x2 x3 x4 x5 x6 v14 x4 x6 v15 h)
      (iEQ v14 x4
        (b_X9_swapNow_84 r34 x0 x1 x2 x3 x4 x5 x6 v14 x3 x6 v15 h)
        (b_X9_swapNow_84 r34 x0 x1 x2 x3 x4 x5 x6 v14 v14 x6 v15 h)))
noncomputable def b_X9_swapNow_34 : Option Nat → Int → Int → Int → Int → Int → Int → HP → Option ((Int) × HP) := fx (fun _ _ _ _ _ _ _ _ => none) (c_X9_swapNow_34) FU
theorem C_X9_swapNow_34 {M : hp_M} {G : va_G} {h0 : HP} (X : hp_X M G h0 "RenamedWordsModel" "swapNow" cX9_swapNow 8 (some .int) [] 8 242) (r34 : Option Nat → Int → Int → Int → Int → Int → Int → HP → Option ((Int) × HP)) (hr34 : ∀ (y0 : Option Nat) (y1 : Int) (y2 : Int) (y3 : Int) (y4 : Int) (y5 : Int) (y6 : Int) (h : HP), vv M G h0 8 (hp_End M G h0) jI h 34 [(0, LR y0), (1, LI y1), (2, LI y2), (3, LI y3), (4, LI y4), (5, LI y5), (6, LI y6)] [] (r34 y0 y1 y2 y3 y4 y5 y6 h)) (x0 : Option Nat) (x1 : Int) (x2 : Int) (x3 : Int) (x4 : Int) (x5 : Int) (x6 : Int) (h : HP) : vv M G h0 8 (hp_End M G h0) jI h 34 [(0, LR x0), (1, LI x1), (2, LI x2), (3, LI x3), (4, LI x4), (5, LI x5), (6, LI x6)] [] (c_X9_swapNow_34 r34 x0 x1 x2 x3 x4 x5 x6 h) := by
  unfold c_X9_swapNow_34
  refine vv_iload (pc := 34) X 6 rfl dX9_swapNow_34 ?_
  refine vv_bipush (pc := 36) X (by decide) dX9_swapNow_36 ?_
  refine vv_iload_n (pc := 38) X (kf := 1) (i := 1) rfl 1 rfl dX9_swapNow_38 ?_
  refine vv_iadd (pc := 39) X dX9_swapNow_39 ?_
  refine vv_iload_n (pc := 40) X (kf := 2) (i := 2) rfl 2 rfl dX9_swapNow_40 ?_
  refine vv_iadd (pc := 41) X dX9_swapNow_41 ?_
  refine vv_icmp_ge (pc := 42) (tgt := 117) X dX9_swapNow_42 rfl ?_ ?_
  · refine vv_aload_n (pc := 117) X (kf := 0) (i := 0) rfl 0 rfl dX9_swapNow_117 ?_
    refine vv_bipush (pc := 118) X (by decide) dX9_swapNow_118 ?_
    refine vv_iload (pc := 120) X 5 rfl dX9_swapNow_120 ?_
    refine vv_rcv (fun b7 t9 c9 fs9 e8 g9 k9 => ?_)
    cases List.mem_singleton.mp k9
    refine vv_callV (pc := 122) (rest := []) (by rw [e8]; rfl) (fun r8 k8 e8 => zz_callV X (m_X9_counts (hlM X) _ _ _ _ _ _ e8) g9 rfl rfl q3739 q3741 qs86 q164 q3742 nh_X9 rfl (by decide) (by decide) (Nat.le_of_ble_eq_true rfl) dX9_swapNow_122) (fun v5 h6 => ?_)
    refine vv_aload_n (pc := 125) X (kf := 0) (i := 0) rfl 0 rfl dX9_swapNow_125 ?_
    refine vv_rcv (fun b11 t9 c9 fs9 e12 g9 k9 => ?_)
    cases List.mem_singleton.mp k9
    refine vv_callV (pc := 126) (rest := []) (by rw [e12]; rfl) (fun r8 k8 e8 => zz_callV X (m_X9_cleans (hlM X) _ _ _ _ e8) g9 rfl rfl q3751 q3753 qs89 q164 q3754 nh_X9 rfl (by decide) (by decide) (Nat.le_of_ble_eq_true rfl) dX9_swapNow_126) (fun v9 h10 => ?_)
    refine vv_iload (pc := 129) X 5 rfl dX9_swapNow_129 ?_
    exact vv_iretI X rfl rfl dX9_swapNow_131
  · refine vv_aload_n (pc := 45) X (kf := 0) (i := 0) rfl 0 rfl dX9_swapNow_45 ?_
    refine vv_getR (pc := 46) X (fun _ z => by cases List.mem_singleton.mp z; exact fl_X9_9_7) dX9_swapNow_46 (fun v13 => ?_)
    refine vv_iload (pc := 49) X 6 rfl dX9_swapNow_49 ?_
    refine vv_iaload (pc := 51) X dX9_swapNow_51 (fun v14 => ?_)
    refine vv_istore (pc := 52) (lv' := [(7, LI v14), (0, LR x0), (1, LI x1), (2, LI x2), (3, LI x3), (4, LI x4), (5, LI x5), (6, LI x6)]) X (by decide) rfl dX9_swapNow_52 ?_
    refine vv_aload_n (pc := 54) X (kf := 0) (i := 0) rfl 1 rfl dX9_swapNow_54 ?_
    refine vv_getR (pc := 55) X (fun _ z => by cases List.mem_singleton.mp z; exact fl_X9_9_7) dX9_swapNow_55 (fun v15 => ?_)
    refine vv_iload (pc := 58) X 7 rfl dX9_swapNow_58 ?_
    refine vv_iload (pc := 60) X 0 rfl dX9_swapNow_60 ?_
    refine vv_iload_n (pc := 62) X (kf := 3) (i := 3) rfl 4 rfl dX9_swapNow_62 ?_
    refine vv_icmp_ne (pc := 63) (tgt := 71) X dX9_swapNow_63 rfl ?_ ?_
    · refine vv_iload (pc := 71) X 0 rfl dX9_swapNow_71 ?_
      refine vv_iload (pc := 73) X 5 rfl dX9_swapNow_73 ?_
      refine vv_icmp_ne (pc := 75) (tgt := 82) X dX9_swapNow_75 rfl ?_ ?_
      · refine vv_iload (pc := 82) X 0 rfl dX9_swapNow_82 ?_
        exact vv_sub [1, 2, 3, 4, 5, 6, 7, 0] (by rfl) (B_X9_swapNow_84 X r34 hr34 _ _ _ _ _ _ _ _ _ _ _ _)
      · refine vv_iload_n (pc := 78) X (kf := 3) (i := 3) rfl 4 rfl dX9_swapNow_78 ?_
        refine vv_goto (pc := 79) (tgt := 84) X dX9_swapNow_79 rfl ?_
        exact vv_sub [1, 2, 3, 4, 5, 6, 7, 0] (by rfl) (B_X9_swapNow_84 X r34 hr34 _ _ _ _ _ _ _ _ _ _ _ _)
    · refine vv_iload (pc := 66) X 5 rfl dX9_swapNow_66 ?_
      refine vv_goto (pc := 68) (tgt := 84) X dX9_swapNow_68 rfl ?_
      exact vv_sub [1, 2, 3, 4, 5, 6, 7, 0] (by rfl) (B_X9_swapNow_84 X r34 hr34 _ _ _ _ _ _ _ _ _ _ _ _)
theorem B_X9_swapNow_34 {M : hp_M} {G : va_G} {h0 : HP} (X : hp_X M G h0 "RenamedWordsModel" "swapNow" cX9_swapNow 8 (some .int) [] 8 242) : ∀ (x0 : Option Nat) (x1 : Int) (x2 : Int) (x3 : Int) (x4 : Int) (x5 : Int) (x6 : Int) (h : HP), vv M G h0 8 (hp_End M G h0) jI h 34 [(0, LR x0), (1, LI x1), (2, LI x2), (3, LI x3), (4, LI x4), (5, LI x5), (6, LI x6)] [] (b_X9_swapNow_34 x0 x1 x2 x3 x4 x5 x6 h) := by
  unfold b_X9_swapNow_34
  generalize FU = n
  induction n with
  | zero => intro x0 x1 x2 x3 x4 x5 x6 h; exact vv_none
  | succ n ih => exact C_X9_swapNow_34 X _ ih
noncomputable def f_X9_swapNow (a0 : Nat) (a1 : Int) (a2 : Int) (a3 : Int) (a4 : Int) (h : HP) : Option ((Int) × HP) :=
  (rdR h (some a0) [7] 0).bind fun v1 =>
  (aldI h .int v1 1).bind fun v2 =>
  iLE v2 a1
    (b_X9_swapNow_22 h)
    ((rdR h (some a0) [7] 0).bind fun v3 =>
    (aldI h .int v3 1).bind fun v4 =>
    iLE (a1 + a2) v4
      (b_X9_swapNow_34 (some a0) a1 a2 a3 a4 0 (16 + a1) h)
      (b_X9_swapNow_22 h))
theorem A_X9_swapNow {M : hp_M} {G : va_G} {h0 : HP} (X : hp_X M G h0 "RenamedWordsModel" "swapNow" cX9_swapNow 8 (some .int) [] 8 242) (a0 : Nat) (a1 : Int) (a2 : Int) (a3 : Int) (a4 : Int) (h : HP) : vv M G h0 8 (hp_End M G h0) jI h 0 [(0, LR (some a0)), (1, LI a1), (2, LI a2), (3, LI a3), (4, LI a4)] [] (f_X9_swapNow a0 a1 a2 a3 a4 h) := by
  unfold f_X9_swapNow
  refine vv_iload_n (pc := 0) X (kf := 1) (i := 1) rfl 1 rfl dX9_swapNow_0 ?_
  refine vv_aload_n (pc := 1) X (kf := 0) (i := 0) rfl 0 rfl dX9_swapNow_1 ?_
  refine vv_getR (pc := 2) X (fun _ z => by cases List.mem_singleton.mp z; exact fl_X9_9_7) dX9_swapNow_2 (fun v1 => ?_)
  refine vv_iconst (pc := 5) X dX9_swapNow_5 ?_
  refine vv_iaload (pc := 6) X dX9_swapNow_6 (fun v2 => ?_)
  refine vv_icmp_ge (pc := 7) (tgt := 22) X dX9_swapNow_7 rfl ?_ ?_
  · exact vv_sub [] (by rfl) (B_X9_swapNow_22 X _)
  · refine vv_iload_n (pc := 10) X (kf := 1) (i := 1) rfl 1 rfl dX9_swapNow_10 ?_
    refine vv_iload_n (pc := 11) X (kf := 2) (i := 2) rfl 2 rfl dX9_swapNow_11 ?_
    refine vv_iadd (pc := 12) X dX9_swapNow_12 ?_
    refine vv_aload_n (pc := 13) X (kf := 0) (i := 0) rfl 0 rfl dX9_swapNow_13 ?_
    refine vv_getR (pc := 14) X (fun _ z => by cases List.mem_singleton.mp z; exact fl_X9_9_7) dX9_swapNow_14 (fun v3 => ?_)
    refine vv_iconst (pc := 17) X dX9_swapNow_17 ?_
    refine vv_iaload (pc := 18) X dX9_swapNow_18 (fun v4 => ?_)
    refine vv_icmp_le (pc := 19) (tgt := 25) X dX9_swapNow_19 rfl ?_ ?_
    · refine vv_iconst (pc := 25) X dX9_swapNow_25 ?_
      refine vv_istore (pc := 26) (lv' := [(5, LI 0), (0, LR (some a0)), (1, LI a1), (2, LI a2), (3, LI a3), (4, LI a4)]) X (by decide) rfl dX9_swapNow_26 ?_
      refine vv_bipush (pc := 28) X (by decide) dX9_swapNow_28 ?_
      refine vv_iload_n (pc := 30) X (kf := 1) (i := 1) rfl 2 rfl dX9_swapNow_30 ?_
      refine vv_iadd (pc := 31) X dX9_swapNow_31 ?_
      refine vv_istore (pc := 32) (lv' := [(6, LI (16 + a1)), (5, LI 0), (0, LR (some a0)), (1, LI a1), (2, LI a2), (3, LI a3), (4, LI a4)]) X (by decide) rfl dX9_swapNow_32 ?_
      exact vv_sub [2, 3, 4, 5, 6, 1, 0] (by rfl) (B_X9_swapNow_34 X _ _ _ _ _ _ _ _)
    · exact vv_sub [] (by rfl) (B_X9_swapNow_22 X _)
theorem m_X9_swapNow {l : Launch} (hl : l.stackTraces = false) {G : va_G} (a0 : Nat) (a1 : Int) (a2 : Int) (a3 : Int) (a4 : Int) (h : HP) : ∀ r hf, f_X9_swapNow a0 a1 a2 a3 a4 h = some (r, hf) → Ct l yX9_swapNow (ws_ yX9_swapNow cX9_swapNow 8 (some .int)) 8 242 G h [.ref a0, .int (iI a1), .int (iI a2), .int (iI a3), .int (iI a4)] (jI r) hf :=
  zz_ofW hl (by decide +kernel) (lv := [(0, LR (some a0)), (1, LI a1), (2, LI a2), (3, LI a3), (4, LI a4)]) (by simp [lv_args, lvL, lvV, zz_rfc, zz_rfs, zz_ci, zz_cr, zz_cj, zz_cf, zz_cd]) (by simp [lg_sl, zz_rfc, zz_ci, zz_cr, zz_cj, zz_cf, zz_cd]) (fun _ X => A_X9_swapNow X a0 a1 a2 a3 a4 h)
