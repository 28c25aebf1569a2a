/-! STAGE 1c: functions and contracts (printed by gen/mkfuncs.py). -/
set_option maxRecDepth 100000
set_option linter.unusedVariables false
-- X9_lostIf RenamedWordsModel.lostIf(I)I
noncomputable def b_X9_lostIf_85 (r49 : Option Nat → Int → Int → Int → HP → Option ((Int) × HP)) (x0 : Option Nat) (x2 : Int) (x4 : Int) (s0 : Int) (s1 : Int) (h : HP) : Option ((Int) × HP) :=
  hb (f_X9_one s0 h) fun v28 h29 =>
  r49 x0 x2 (s1 + v28) (x4 + 1) h29
theorem B_X9_lostIf_85 {M : hp_M} {G : va_G} {h0 : HP} (X : hp_X M G h0 "RenamedWordsModel" "lostIf" cX9_lostIf 5 (some .int) [] 6 183) (r49 : Option Nat → Int → Int → Int → HP → Option ((Int) × HP)) (hr49 : ∀ (y0 : Option Nat) (y2 : Int) (y3 : Int) (y4 : Int) (h : HP), vv M G h0 5 (hp_End M G h0) jI h 49 [(0, LR y0), (2, LI y2), (3, LI y3), (4, LI y4)] [] (r49 y0 y2 y3 y4 h)) (x0 : Option Nat) (x2 : Int) (x4 : Int) (s0 : Int) (s1 : Int) (h : HP) : vv M G h0 5 (hp_End M G h0) jI h 85 [(0, LR x0), (2, LI x2), (4, LI x4)] [LI s0, LI s1] (b_X9_lostIf_85 r49 x0 x2 x4 s0 s1 h) := by
  unfold b_X9_lostIf_85
  refine vv_callI (pc := 85) (rest := [LI s1]) (by rfl) (fun r8 k8 e8 => zz_callS X (m_X9_one (hlM X) _ _ _ _ e8) q3559 q3560 q164 q3561 nh_X9 rfl (by decide) (by decide) (Nat.le_of_ble_eq_true rfl) dX9_lostIf_85) (fun v28 h29 => ?_)
  refine vv_iadd (pc := 88) X dX9_lostIf_88 ?_
  refine vv_istore_n (pc := 89) (lv' := [(3, LI (s1 + v28)), (0, LR x0), (2, LI x2), (4, LI x4)]) X (kf := 3) (i := 3) rfl (by decide) rfl dX9_lostIf_89 ?_
  refine vv_iinc (pc := 90) (lv' := [(4, LI (x4 + 1)), (3, LI (s1 + v28)), (0, LR x0), (2, LI x2)]) X 3 rfl (by decide) rfl dX9_lostIf_90 ?_
  refine vv_goto (pc := 93) (tgt := 49) X dX9_lostIf_93 rfl ?_
  exact vv_sub [2, 3, 1, 0] (by rfl) (hr49 _ _ _ _ _)
noncomputable def c_X9_lostIf_49 (r49 : Option Nat → Int → Int → Int → HP → Option ((Int) × HP)) (x0 : Option Nat) (x2 : Int) (x3 : Int) (x4 : Int) (h : HP) : Option ((Int) × HP) :=
  (rdR h x0 [7] 0).bind fun v12 =>
  (aldI h .int v12 3).bind fun v13 =>
  iLE v13 x4
    ((rdR h x0 [7] 0).bind fun v14 =>
    (astI h .int v14 0 x2).bind fun h15 =>
    some (x3, h15))
    ((rcv h x0 [7]).bind fun b18 =>
    hb (f_X9_markPattern b18 x4 h) fun v16 h17 =>
    (rcv h17 x0 [7]).bind fun b22 =>
    hb (f_X9_markPlace b22 x4 h17) fun v20 h21 =>
    (rcv h21 x0 [7]).bind fun b26 =>
    hb (f_X9_isThere b26 v16 v20 h21) fun v24 h25 =>
    iEQ v24 0
      (b_X9_lostIf_85 r49 x0 x2 x4 1 x3 h25)
      (b_X9_lostIf_85 r49 x0 x2 x4 0 x3 h25))
noncomputable def b_X9_lostIf_49 : Option Nat → Int → Int → Int → HP → Option ((Int) × HP) := fx (fun _ _ _ _ _ => none) (c_X9_lostIf_49) FU
theorem C_X9_lostIf_49 {M : hp_M} {G : va_G} {h0 : HP} (X : hp_X M G h0 "RenamedWordsModel" "lostIf" cX9_lostIf 5 (some .int) [] 6 183) (r49 : Option Nat → Int → Int → Int → HP → Option ((Int) × HP)) (hr49 : ∀ (y0 : Option Nat) (y2 : Int) (y3 : Int) (y4 : Int) (h : HP), vv M G h0 5 (hp_End M G h0) jI h 49 [(0, LR y0), (2, LI y2), (3, LI y3), (4, LI y4)] [] (r49 y0 y2 y3 y4 h)) (x0 : Option Nat) (x2 : Int) (x3 : Int) (x4 : Int) (h : HP) : vv M G h0 5 (hp_End M G h0) jI h 49 [(0, LR x0), (2, LI x2), (3, LI x3), (4, LI x4)] [] (c_X9_lostIf_49 r49 x0 x2 x3 x4 h) := by
  unfold c_X9_lostIf_49
  refine vv_iload (pc := 49) X 3 rfl dX9_lostIf_49 ?_
  refine vv_aload_n (pc := 51) X (kf := 0) (i := 0) rfl 0 rfl dX9_lostIf_51 ?_
  refine vv_getR (pc := 52) X (fun _ z => by cases List.mem_singleton.mp z; exact fl_X9_9_7) dX9_lostIf_52 (fun v12 => ?_)
  refine vv_iconst (pc := 55) X dX9_lostIf_55 ?_
  refine vv_iaload (pc := 56) X dX9_lostIf_56 (fun v13 => ?_)
  refine vv_icmp_ge (pc := 57) (tgt := 96) X dX9_lostIf_57 rfl ?_ ?_
  · refine vv_aload_n (pc := 96) X (kf := 0) (i := 0) rfl 0 rfl dX9_lostIf_96 ?_
    refine vv_getR (pc := 97) X (fun _ z => by cases List.mem_singleton.mp z; exact fl_X9_9_7) dX9_lostIf_97 (fun v14 => ?_)
    refine vv_iconst (pc := 100) X dX9_lostIf_100 ?_
    refine vv_iload_n (pc := 101) X (kf := 2) (i := 2) rfl 1 rfl dX9_lostIf_101 ?_
    refine vv_iastore (pc := 102) X dX9_lostIf_102 (fun h15 => ?_)
    refine vv_iload_n (pc := 103) X (kf := 3) (i := 3) rfl 2 rfl dX9_lostIf_103 ?_
    exact vv_iretI X rfl rfl dX9_lostIf_104
  · refine vv_iload_n (pc := 60) X (kf := 3) (i := 3) rfl 2 rfl dX9_lostIf_60 ?_
    refine vv_aload_n (pc := 61) X (kf := 0) (i := 0) rfl 0 rfl dX9_lostIf_61 ?_
    refine vv_aload_n (pc := 62) X (kf := 0) (i := 0) rfl 0 rfl dX9_lostIf_62 ?_
    refine vv_iload (pc := 63) X 3 rfl dX9_lostIf_63 ?_
    refine vv_rcv (fun b18 t9 c9 fs9 e19 g9 k9 => ?_)
    cases List.mem_singleton.mp k9
    refine vv_callI (pc := 65) (rest := [LR x0, LI x3]) (by rw [e19]; rfl) (fun r8 k8 e8 => zz_callV X (m_X9_markPattern (hlM X) _ _ _ _ _ e8) g9 rfl rfl q3759 q3761 qs91 q164 q3762 nh_X9 rfl (by decide) (by decide) (Nat.le_of_ble_eq_true rfl) dX9_lostIf_65) (fun v16 h17 => ?_)
    refine vv_aload_n (pc := 68) X (kf := 0) (i := 0) rfl 0 rfl dX9_lostIf_68 ?_
    refine vv_iload (pc := 69) X 3 rfl dX9_lostIf_69 ?_
    refine vv_rcv (fun b22 t9 c9 fs9 e23 g9 k9 => ?_)
    cases List.mem_singleton.mp k9
    refine vv_callI (pc := 71) (rest := [LI v16, LR x0, LI x3]) (by rw [e23]; rfl) (fun r8 k8 e8 => zz_callV X (m_X9_markPlace (hlM X) _ _ _ _ _ e8) g9 rfl rfl q3747 q3749 qs88 q164 q3750 nh_X9 rfl (by decide) (by decide) (Nat.le_of_ble_eq_true rfl) dX9_lostIf_71) (fun v20 h21 => ?_)
    refine vv_rcv (fun b26 t9 c9 fs9 e27 g9 k9 => ?_)
    cases List.mem_singleton.mp k9
    refine vv_callI (pc := 74) (rest := [LI x3]) (by rw [e27]; rfl) (fun r8 k8 e8 => zz_callV X (m_X9_isThere (hlM X) _ _ _ _ _ _ e8) g9 rfl rfl q3763 q3765 qs92 q164 q3766 nh_X9 rfl (by decide) (by decide) (Nat.le_of_ble_eq_true rfl) dX9_lostIf_74) (fun v24 h25 => ?_)
    refine vv_if_ne (pc := 77) (tgt := 84) X dX9_lostIf_77 rfl ?_ ?_
    · refine vv_iconst (pc := 84) X dX9_lostIf_84 ?_
      exact vv_sub [0, 1, 3] (by rfl) (B_X9_lostIf_85 X r49 hr49 _ _ _ _ _ _)
    · refine vv_iconst (pc := 80) X dX9_lostIf_80 ?_
      refine vv_goto (pc := 81) (tgt := 85) X dX9_lostIf_81 rfl ?_
      exact vv_sub [0, 1, 3] (by rfl) (B_X9_lostIf_85 X r49 hr49 _ _ _ _ _ _)
theorem B_X9_lostIf_49 {M : hp_M} {G : va_G} {h0 : HP} (X : hp_X M G h0 "RenamedWordsModel" "lostIf" cX9_lostIf 5 (some .int) [] 6 183) : ∀ (x0 : Option Nat) (x2 : Int) (x3 : Int) (x4 : Int) (h : HP), vv M G h0 5 (hp_End M G h0) jI h 49 [(0, LR x0), (2, LI x2), (3, LI x3), (4, LI x4)] [] (b_X9_lostIf_49 x0 x2 x3 x4 h) := by
  unfold b_X9_lostIf_49
  generalize FU = n
  induction n with
  | zero => intro x0 x2 x3 x4 h; exact vv_none
  | succ n ih => exact C_X9_lostIf_49 X _ ih
noncomputable def b_X9_lostIf_21 (x0 : Option Nat) (x1 : Int) (s0 : Int) (s1 : Option Nat) (h : HP) : Option ((Int) × HP) :=
  (rcv h s1 [7]).bind fun b6 =>
  hb (f_X9_fails b6 s0 1 h) fun v4 h5 =>
  iEQ v4 0
    ((rdR h5 x0 [7] 0).bind fun v8 =>
    (aldI h5 .int v8 0).bind fun v9 =>
    (rdR h5 x0 [7] 0).bind fun v10 =>
    (astI h5 .int v10 0 x1).bind fun h11 =>
    b_X9_lostIf_49 x0 v9 0 0 h11)
    (some (0, h5))
theorem B_X9_lostIf_21 {M : hp_M} {G : va_G} {h0 : HP} (X : hp_X M G h0 "RenamedWordsModel" "lostIf" cX9_lostIf 5 (some .int) [] 6 183) (x0 : Option Nat) (x1 : Int) (s0 : Int) (s1 : Option Nat) (h : HP) : vv M G h0 5 (hp_End M G h0) jI h 21 [(0, LR x0), (1, LI x1)] [LI s0, LR s1] (b_X9_lostIf_21 x0 x1 s0 s1 h) := by
  unfold b_X9_lostIf_21
  refine vv_iconst (pc := 21) X dX9_lostIf_21 ?_
  refine vv_rcv (fun b6 t9 c9 fs9 e7 g9 k9 => ?_)
  cases List.mem_singleton.mp k9
  refine vv_callI (pc := 22) (rest := []) (by rw [e7]; rfl) (fun r8 k8 e8 => zz_callV X (m_X9_fails (hlM X) _ _ _ _ _ _ e8) g9 rfl rfl q3841 q3843 qs109 q164 q3844 nh_X9 rfl (by decide) (by decide) (Nat.le_of_ble_eq_true rfl) dX9_lostIf_22) (fun v4 h5 => ?_)
  refine vv_if_eq (pc := 25) (tgt := 30) X dX9_lostIf_25 rfl ?_ ?_
  · refine vv_aload_n (pc := 30) X (kf := 0) (i := 0) rfl 0 rfl dX9_lostIf_30 ?_
    refine vv_getR (pc := 31) X (fun _ z => by cases List.mem_singleton.mp z; exact fl_X9_9_7) dX9_lostIf_31 (fun v8 => ?_)
    refine vv_iconst (pc := 34) X dX9_lostIf_34 ?_
    refine vv_iaload (pc := 35) X dX9_lostIf_35 (fun v9 => ?_)
    refine vv_istore_n (pc := 36) (lv' := [(2, LI v9), (0, LR x0), (1, LI x1)]) X (kf := 2) (i := 2) rfl (by decide) rfl dX9_lostIf_36 ?_
    refine vv_iconst (pc := 37) X dX9_lostIf_37 ?_
    refine vv_istore_n (pc := 38) (lv' := [(3, LI 0), (2, LI v9), (0, LR x0), (1, LI x1)]) X (kf := 3) (i := 3) rfl (by decide) rfl dX9_lostIf_38 ?_
    refine vv_aload_n (pc := 39) X (kf := 0) (i := 0) rfl 2 rfl dX9_lostIf_39 ?_
    refine vv_getR (pc := 40) X (fun _ z => by cases List.mem_singleton.mp z; exact fl_X9_9_7) dX9_lostIf_40 (fun v10 => ?_)
    refine vv_iconst (pc := 43) X dX9_lostIf_43 ?_
    refine vv_iload_n (pc := 44) X (kf := 1) (i := 1) rfl 3 rfl dX9_lostIf_44 ?_
    refine vv_iastore (pc := 45) X dX9_lostIf_45 (fun h11 => ?_)
    refine vv_iconst (pc := 46) X dX9_lostIf_46 ?_
    refine vv_istore (pc := 47) (lv' := [(4, LI 0), (3, LI 0), (2, LI v9), (0, LR x0), (1, LI x1)]) X (by decide) rfl dX9_lostIf_47 ?_
    exact vv_sub [3, 2, 1, 0] (by rfl) (B_X9_lostIf_49 X _ _ _ _ _)
  · refine vv_iconst (pc := 28) X dX9_lostIf_28 ?_
    exact vv_iretI X rfl rfl dX9_lostIf_29
noncomputable def f_X9_lostIf (a0 : Nat) (a1 : Int) (h : HP) : Option ((Int) × HP) :=
  (wrI h (some a0) [7] 7 0).bind fun h1 =>
  hb (f_X9_in a1 0 26 h1) fun v2 h3 =>
  iEQ v2 0
    (b_X9_lostIf_21 (some a0) a1 1 (some a0) h3)
    (b_X9_lostIf_21 (some a0) a1 0 (some a0) h3)
theorem A_X9_lostIf {M : hp_M} {G : va_G} {h0 : HP} (X : hp_X M G h0 "RenamedWordsModel" "lostIf" cX9_lostIf 5 (some .int) [] 6 183) (a0 : Nat) (a1 : Int) (h : HP) : vv M G h0 5 (hp_End M G h0) jI h 0 [(0, LR (some a0)), (1, LI a1)] [] (f_X9_lostIf a0 a1 h) := by
  unfold f_X9_lostIf
  refine vv_aload_n (pc := 0) X (kf := 0) (i := 0) rfl 0 rfl dX9_lostIf_0 ?_
  refine vv_iconst (pc := 1) X dX9_lostIf_1 ?_
  refine vv_putI (pc := 2) (fin := false) X (fun _ z => by cases List.mem_singleton.mp z; exact fl_X9_69_7) (fun z => nomatch z) (fun z => nomatch z) dX9_lostIf_2 (fun h1 => ?_)
  refine vv_aload_n (pc := 5) X (kf := 0) (i := 0) rfl 0 rfl dX9_lostIf_5 ?_
  refine vv_iload_n (pc := 6) X (kf := 1) (i := 1) rfl 1 rfl dX9_lostIf_6 ?_
  refine vv_iconst (pc := 7) X dX9_lostIf_7 ?_
  refine vv_bipush (pc := 8) X (by decide) dX9_lostIf_8 ?_
  refine vv_callI (pc := 10) (rest := [LR (some a0)]) (by rfl) (fun r8 k8 e8 => zz_callS X (m_X9_in (hlM X) _ _ _ _ _ _ e8) q3593 q3594 q164 q3595 nh_X9 rfl (by decide) (by decide) (Nat.le_of_ble_eq_true rfl) dX9_lostIf_10) (fun v2 h3 => ?_)
  refine vv_if_ne (pc := 13) (tgt := 20) X dX9_lostIf_13 rfl ?_ ?_
  · refine vv_iconst (pc := 20) X dX9_lostIf_20 ?_
    exact B_X9_lostIf_21 X _ _ _ _ _
  · refine vv_iconst (pc := 16) X dX9_lostIf_16 ?_
    refine vv_goto (pc := 17) (tgt := 21) X dX9_lostIf_17 rfl ?_
    exact B_X9_lostIf_21 X _ _ _ _ _
theorem m_X9_lostIf {l : Launch} (hl : l.stackTraces = false) {G : va_G} (a0 : Nat) (a1 : Int) (h : HP) : ∀ r hf, f_X9_lostIf a0 a1 h = some (r, hf) → Ct l yX9_lostIf (ws_ yX9_lostIf cX9_lostIf 5 (some .int)) 6 183 G h [.ref a0, .int (iI a1)] (jI r) hf :=
  zz_ofW hl (by decide +kernel) (lv := [(0, LR (some a0)), (1, LI a1)]) (by simp [lv_args, lvL, lvV, zz_rfc, zz_rfs, zz_ci, zz_cr, zz_cj, zz_cf, zz_cd]) (by simp [lg_sl, zz_rfc, zz_ci, zz_cr, zz_cj, zz_cf, zz_cd]) (fun _ X => A_X9_lostIf X a0 a1 h)
-- X1_placeNumber RenamedWords.placeNumber(I)V
noncomputable def f_X1_placeNumber (a1 : Int) (h : HP) : Option ((Nat ⊕ Unit) × HP) :=
  hb (f_X1_in (iL a1) 0 (200 : Int64) h) fun v1 h2 =>
  hbx (f_X1_argument v1 h2) (fun q5 h6 =>
      some (.inl q5, h6)) fun _ h4 =>
  some (.inr (), h4)
theorem A_X1_placeNumber {M : hp_M} {G : va_G} {h0 : HP} (X : hp_X M G h0 "RenamedWords" "placeNumber" cX1_placeNumber 1 none [] 7 125) (a1 : Int) (h : HP) : vv M G h0 1 (hp_End M G h0) xV h 0 [(0, LI a1)] [] (f_X1_placeNumber a1 h) := by
  unfold f_X1_placeNumber
  refine vv_iload_n (pc := 0) X (kf := 0) (i := 0) rfl 0 rfl dX1_placeNumber_0 ?_
  refine vv_i2l (pc := 1) X dX1_placeNumber_1 ?_
  refine vv_lconst (pc := 2) (v := 0) X (by decide) dX1_placeNumber_2 ?_
  refine vv_ldc2 (pc := 3) X q3088 dX1_placeNumber_3 ?_
  refine vv_callI (pc := 6) (rest := []) (by rfl) (fun r8 k8 e8 => zz_callS X (m_X1_in (hlM X) _ _ _ _ _ _ e8) q2984 q873 q132 q874 nh_X1 rfl (by decide) (by decide) (Nat.le_of_ble_eq_true rfl) dX1_placeNumber_6) (fun v1 h2 => ?_)
  refine vv_xallV (pc := 9) (rest := []) (by rfl) (fun r8 k8 e8 => zz_callS X (m_X1_argument (hlM X) _ _ _ _ e8) q3090 q3091 q132 q3092 nh_X1 rfl (by decide) (by decide) (Nat.le_of_ble_eq_true rfl) dX1_placeNumber_9) (fun v3 h4 => ?_) (fun q5 h6 => ?_)
  · exact vv_vreturn X rfl rfl dX1_placeNumber_12
  · exact vvx_out X (by decide) rfl
theorem m_X1_placeNumber {l : Launch} (hl : l.stackTraces = false) {G : va_G} (a1 : Int) (h : HP) : ∀ r hf, f_X1_placeNumber a1 h = some (r, hf) → Ct l yX1_placeNumber (ws_ yX1_placeNumber cX1_placeNumber 1 none) 7 125 G h [.int (iI a1)] (xV r) hf :=
  zz_ofW hl (by decide +kernel) (lv := [(0, LI a1)]) (by simp [lv_args, lvL, lvV, zz_rfc, zz_rfs, zz_ci, zz_cr, zz_cj, zz_cf, zz_cd]) (by simp [lg_sl, zz_rfc, zz_ci, zz_cr, zz_cj, zz_cf, zz_cd]) (fun _ X => A_X1_placeNumber X a1 h)
-- X1_made RenamedWords.made(LRenamedWords$Desk;I)I
noncomputable def b_X1_made_20 (x2 : Int) (h : HP) : Option ((Int) × HP) :=
  some (x2, h)
theorem B_X1_made_20 {M : hp_M} {G : va_G} {h0 : HP} (X : hp_X M G h0 "RenamedWords" "made" cX1_made 3 (some .int) [] 5 148) (x2 : Int) (h : HP) : vv M G h0 3 (hp_End M G h0) jI h 20 [(2, LI x2)] [] (b_X1_made_20 x2 h) := by
  unfold b_X1_made_20
  refine vv_iload_n (pc := 20) X (kf := 2) (i := 2) rfl 0 rfl dX1_made_20 ?_
  exact vv_iretI X rfl rfl dX1_made_21
noncomputable def f_X1_made (a0 : Nat) (a1 : Option Nat) (a2 : Int) (h : HP) : Option ((Int) × HP) :=
  iLT a2 0
    ((rdR h (some a0) [0] 2).bind fun v1 =>
    (rcv h v1 [29]).bind fun b4 =>
    hb (f_J22_push b4 a1 h) fun _ h3 =>
    b_X1_made_20 a2 h3)
    ((rcv h (some a0) [0]).bind fun b8 =>
    hb (f_X1_act b8 a1 h) fun _ h7 =>
    b_X1_made_20 a2 h7)
theorem A_X1_made {M : hp_M} {G : va_G} {h0 : HP} (X : hp_X M G h0 "RenamedWords" "made" cX1_made 3 (some .int) [] 5 148) (a0 : Nat) (a1 : Option Nat) (a2 : Int) (h : HP) : vv M G h0 3 (hp_End M G h0) jI h 0 [(0, LR (some a0)), (1, LR a1), (2, LI a2)] [] (f_X1_made a0 a1 a2 h) := by
  unfold f_X1_made
  refine vv_iload_n (pc := 0) X (kf := 2) (i := 2) rfl 2 rfl dX1_made_0 ?_
  refine vv_if_lt (pc := 1) (tgt := 12) X dX1_made_1 rfl ?_ ?_
  · refine vv_aload_n (pc := 12) X (kf := 0) (i := 0) rfl 0 rfl dX1_made_12 ?_
    refine vv_getR (pc := 13) X (fun _ z => by cases List.mem_singleton.mp z; exact fl_X1_49_0) dX1_made_13 (fun v1 => ?_)
    refine vv_aload_n (pc := 16) X (kf := 1) (i := 1) rfl 1 rfl dX1_made_16 ?_
    refine vv_rcv (fun b4 t9 c9 fs9 e5 g9 k9 => ?_)
    cases List.mem_singleton.mp k9
    refine vv_callV (pc := 17) (rest := []) (by rw [e5]; rfl) (fun r8 k8 e8 => zz_callV X (m_J22_push (hlM X) _ _ _ _ _ e8) g9 rfl rfl q2442 q2443 q2444 q163 q2445 nh_J22 rfl (by decide) (by decide) (Nat.le_of_ble_eq_true rfl) dX1_made_17) (fun v2 h3 => ?_)
    exact vv_sub [2] (by rfl) (B_X1_made_20 X _ _)
  · refine vv_aload_n (pc := 4) X (kf := 0) (i := 0) rfl 0 rfl dX1_made_4 ?_
    refine vv_aload_n (pc := 5) X (kf := 1) (i := 1) rfl 1 rfl dX1_made_5 ?_
    refine vv_rcv (fun b8 t9 c9 fs9 e9 g9 k9 => ?_)
    cases List.mem_singleton.mp k9
    refine vv_callV (pc := 6) (rest := []) (by rw [e9]; rfl) (fun r8 k8 e8 => zz_callV X (m_X1_act (hlM X) _ _ _ _ _ e8) g9 rfl rfl q2426 q2428 qs27 q132 q2429 nh_X1 rfl (by decide) (by decide) (Nat.le_of_ble_eq_true rfl) dX1_made_6) (fun v6 h7 => ?_)
    refine vv_goto (pc := 9) (tgt := 20) X dX1_made_9 rfl ?_
    exact vv_sub [2] (by rfl) (B_X1_made_20 X _ _)
theorem m_X1_made {l : Launch} (hl : l.stackTraces = false) {G : va_G} (a0 : Nat) (a1 : Option Nat) (a2 : Int) (h : HP) : ∀ r hf, f_X1_made a0 a1 a2 h = some (r, hf) → Ct l yX1_made (ws_ yX1_made cX1_made 3 (some .int)) 5 148 G h [.ref a0, va_rf a1, .int (iI a2)] (jI r) hf :=
  zz_ofW hl (by decide +kernel) (lv := [(0, LR (some a0)), (1, LR a1), (2, LI a2)]) (by simp [lv_args, lvL, lvV, zz_rfc, zz_rfs, zz_ci, zz_cr, zz_cj, zz_cf, zz_cd]) (by simp [lg_sl, zz_rfc, zz_ci, zz_cr, zz_cj, zz_cf, zz_cd]) (fun _ X => A_X1_made X a0 a1 a2 h)
-- X1_put RenamedWords.put(II)I
noncomputable def f_X1_put (a0 : Nat) (a1 : Int) (a2 : Int) (h : HP) : Option ((Nat ⊕ Int) × HP) :=
  hbx (f_X1_placeNumber a1 h) (fun q3 h4 =>
      some (.inl q3, h4)) fun _ h2 =>
  hb (f_X1_isLetter a2 h2) fun v5 h6 =>
  hbx (f_X1_argument v5 h6) (fun q9 h10 =>
      some (.inl q9, h10)) fun _ h8 =>
  (rcv h8 (some a0) [0]).bind fun b13 =>
  hb (f_X1_copied b13 h8) fun v11 h12 =>
  (rdR h12 (some a0) [0] 0).bind fun v15 =>
  (rcv h12 v15 [1]).bind fun b18 =>
  hb (f_X2_puts b18 a1 a2 h12) fun v16 h17 =>
  (rcv h17 (some a0) [0]).bind fun b22 =>
  hb (f_X1_made b22 v11 v16 h17) fun v20 h21 =>
  some (.inr v20, h21)
theorem A_X1_put {M : hp_M} {G : va_G} {h0 : HP} (X : hp_X M G h0 "RenamedWords" "put" cX1_put 3 (some .int) [] 10 305) (a0 : Nat) (a1 : Int) (a2 : Int) (h : HP) : vv M G h0 3 (hp_End M G h0) xI h 0 [(0, LR (some a0)), (1, LI a1), (2, LI a2)] [] (f_X1_put a0 a1 a2 h) := by
  unfold f_X1_put
  refine vv_iload_n (pc := 0) X (kf := 1) (i := 1) rfl 1 rfl dX1_put_0 ?_
  refine vv_xallV (pc := 1) (rest := []) (by rfl) (fun r8 k8 e8 => zz_callS X (m_X1_placeNumber (hlM X) _ _ _ _ e8) q3355 q3356 q132 q3357 nh_X1 rfl (by decide) (by decide) (Nat.le_of_ble_eq_true rfl) dX1_put_1) (fun v1 h2 => ?_) (fun q3 h4 => ?_)
  · refine vv_iload_n (pc := 4) X (kf := 2) (i := 2) rfl 2 rfl dX1_put_4 ?_
    refine vv_callI (pc := 5) (rest := []) (by rfl) (fun r8 k8 e8 => zz_callS X (m_X1_isLetter (hlM X) _ _ _ _ e8) q3243 q3244 q132 q3245 nh_X1 rfl (by decide) (by decide) (Nat.le_of_ble_eq_true rfl) dX1_put_5) (fun v5 h6 => ?_)
    refine vv_xallV (pc := 8) (rest := []) (by rfl) (fun r8 k8 e8 => zz_callS X (m_X1_argument (hlM X) _ _ _ _ e8) q3090 q3091 q132 q3092 nh_X1 rfl (by decide) (by decide) (Nat.le_of_ble_eq_true rfl) dX1_put_8) (fun v7 h8 => ?_) (fun q9 h10 => ?_)
    · refine vv_aload_n (pc := 11) X (kf := 0) (i := 0) rfl 0 rfl dX1_put_11 ?_
      refine vv_aload_n (pc := 12) X (kf := 0) (i := 0) rfl 0 rfl dX1_put_12 ?_
      refine vv_rcv (fun b13 t9 c9 fs9 e14 g9 k9 => ?_)
      cases List.mem_singleton.mp k9
      refine vv_callR (pc := 13) (rest := [LR (some a0)]) (by rw [e14]; rfl) (fun r8 k8 e8 => zz_callV X (m_X1_copied (hlM X) _ _ _ _ e8) g9 rfl rfl q2119 q2121 qs23 q132 q2122 nh_X1 rfl (by decide) (by decide) (Nat.le_of_ble_eq_true rfl) dX1_put_13) (fun v11 h12 => ?_)
      refine vv_aload_n (pc := 16) X (kf := 0) (i := 0) rfl 0 rfl dX1_put_16 ?_
      refine vv_getR (pc := 17) X (fun _ z => by cases List.mem_singleton.mp z; exact fl_X1_35_0) dX1_put_17 (fun v15 => ?_)
      refine vv_iload_n (pc := 20) X (kf := 1) (i := 1) rfl 1 rfl dX1_put_20 ?_
      refine vv_iload_n (pc := 21) X (kf := 2) (i := 2) rfl 2 rfl dX1_put_21 ?_
      refine vv_rcv (fun b18 t9 c9 fs9 e19 g9 k9 => ?_)
      cases List.mem_singleton.mp k9
      refine vv_callI (pc := 22) (rest := [LR v11, LR (some a0)]) (by rw [e19]; rfl) (fun r8 k8 e8 => zz_callV X (m_X2_puts (hlM X) _ _ _ _ _ _ e8) g9 rfl rfl q3358 q2580 q2581 q133 q2582 nh_X2 rfl (by decide) (by decide) (Nat.le_of_ble_eq_true rfl) dX1_put_22) (fun v16 h17 => ?_)
      refine vv_rcv (fun b22 t9 c9 fs9 e23 g9 k9 => ?_)
      cases List.mem_singleton.mp k9
      refine vv_callI (pc := 25) (rest := []) (by rw [e23]; rfl) (fun r8 k8 e8 => zz_callV X (m_X1_made (hlM X) _ _ _ _ _ _ e8) g9 rfl rfl q3359 q3361 qs49 q132 q3362 nh_X1 rfl (by decide) (by decide) (Nat.le_of_ble_eq_true rfl) dX1_put_25) (fun v20 h21 => ?_)
      exact vv_iretI X rfl rfl dX1_put_28
    · exact vvx_out X (by decide) rfl
  · exact vvx_out X (by decide) rfl
theorem m_X1_put {l : Launch} (hl : l.stackTraces = false) {G : va_G} (a0 : Nat) (a1 : Int) (a2 : Int) (h : HP) : ∀ r hf, f_X1_put a0 a1 a2 h = some (r, hf) → Ct l yX1_put (ws_ yX1_put cX1_put 3 (some .int)) 10 305 G h [.ref a0, .int (iI a1), .int (iI a2)] (xI r) hf :=
  zz_ofW hl (by decide +kernel) (lv := [(0, LR (some a0)), (1, LI a1), (2, LI a2)]) (by simp [lv_args, lvL, lvV, zz_rfc, zz_rfs, zz_ci, zz_cr, zz_cj, zz_cf, zz_cd]) (by simp [lg_sl, zz_rfc, zz_ci, zz_cr, zz_cj, zz_cf, zz_cd]) (fun _ X => A_X1_put X a0 a1 a2 h)
-- X0_put RenamedWordsLaw.put(LRenamedWords;II[J)I
noncomputable def b_X0_put_13 (s0 : Option Nat) (h : HP) : Option ((Int) × HP) :=
  some (1, h)
theorem B_X0_put_13 {M : hp_M} {G : va_G} {h0 : HP} (X : hp_X M G h0 "RenamedWordsLaw" "put" cX0_put 5 (some .int) (tableOf [(0, 10, 13, 13)]) 11 335) (s0 : Option Nat) (h : HP) : vv M G h0 5 (hp_End M G h0) jI h 13 [] [LR s0] (b_X0_put_13 s0 h) := by
  unfold b_X0_put_13
  refine vv_astore (pc := 13) (lv' := [(4, LR s0)]) X (by decide) rfl dX0_put_13 ?_
  refine vv_iconst (pc := 15) X dX0_put_15 ?_
  exact vv_iretI X rfl rfl dX0_put_16
noncomputable def f_X0_put (a1 : Option Nat) (a2 : Int) (a3 : Int) (a4 : Option Nat) (h : HP) : Option ((Int) × HP) :=
  (rcv h a1 [0]).bind fun b3 =>
  hbx (f_X1_put b3 a2 a3 h) (fun q5 h6 =>
      (clsOf h6 q5).bind fun c7 =>
      if c7 = 36 then
        b_X0_put_13 (some q5) h6
      else
        none) fun v1 h2 =>
  (astJ h2 a4 0 (iL v1)).bind fun h8 =>
  some (0, h8)
theorem A_X0_put {M : hp_M} {G : va_G} {h0 : HP} (X : hp_X M G h0 "RenamedWordsLaw" "put" cX0_put 5 (some .int) (tableOf [(0, 10, 13, 13)]) 11 335) (a1 : Option Nat) (a2 : Int) (a3 : Int) (a4 : Option Nat) (h : HP) : vv M G h0 5 (hp_End M G h0) jI h 0 [(0, LR a1), (1, LI a2), (2, LI a3), (3, LR a4)] [] (f_X0_put a1 a2 a3 a4 h) := by
  unfold f_X0_put
  refine vv_aload_n (pc := 0) X (kf := 3) (i := 3) rfl 3 rfl dX0_put_0 ?_
  refine vv_iconst (pc := 1) X dX0_put_1 ?_
  refine vv_aload_n (pc := 2) X (kf := 0) (i := 0) rfl 0 rfl dX0_put_2 ?_
  refine vv_iload_n (pc := 3) X (kf := 1) (i := 1) rfl 1 rfl dX0_put_3 ?_
  refine vv_iload_n (pc := 4) X (kf := 2) (i := 2) rfl 2 rfl dX0_put_4 ?_
  refine vv_rcv (fun b3 t9 c9 fs9 e4 g9 k9 => ?_)
  cases List.mem_singleton.mp k9
  refine vv_xallI (pc := 5) (rest := [LI 0, LR a4]) (by rw [e4]; rfl) (fun r8 k8 e8 => zz_callV X (m_X1_put (hlM X) _ _ _ _ _ _ e8) g9 rfl rfl q3351 q3352 q3353 q132 q3354 nh_X1 rfl (by decide) (by decide) (Nat.le_of_ble_eq_true rfl) dX0_put_5) (fun v1 h2 => ?_) (fun q5 h6 => ?_)
  · refine vv_i2l (pc := 8) X dX0_put_8 ?_
    refine vv_lastore (pc := 9) X dX0_put_9 (fun h8 => ?_)
    refine vv_goto (pc := 10) (tgt := 17) X dX0_put_10 rfl ?_
    refine vv_iconst (pc := 17) X dX0_put_17 ?_
    exact vv_iretI X rfl rfl dX0_put_18
  · refine vvx_cls (fun _ c7 _ g9 => ?_)
    refine vvx_if (fun e9 => ?_) (fun _ => ?_)
    · subst e9
      refine vvx_catch X g9 rfl [] ⟨0, 10, 13, 13⟩ [] rfl (fun z hz => nomatch hz) rfl (by decide) q3013 q275 ?_
      exact vv_sub [] (by rfl) (B_X0_put_13 X _ _)
    · exact vvx_none
theorem m_X0_put {l : Launch} (hl : l.stackTraces = false) {G : va_G} (a1 : Option Nat) (a2 : Int) (a3 : Int) (a4 : Option Nat) (h : HP) : ∀ r hf, f_X0_put a1 a2 a3 a4 h = some (r, hf) → Ct l yX0_put (wsW_ yX0_put cX0_put 5 (some .int) [(0, 10, 13, 13)]) 11 335 G h [va_rf a1, .int (iI a2), .int (iI a3), va_rf a4] (jI r) hf :=
  zz_ofWH hl (by decide +kernel) (lv := [(0, LR a1), (1, LI a2), (2, LI a3), (3, LR a4)]) (by simp [lv_args, lvL, lvV, zz_rfc, zz_rfs, zz_ci, zz_cr, zz_cj, zz_cf, zz_cd]) (by simp [lg_sl, zz_rfc, zz_ci, zz_cr, zz_cj, zz_cf, zz_cd]) (fun _ X => A_X0_put X a1 a2 a3 a4 h)
-- X9_noOne RenamedWordsModel.noOne(II)Z
noncomputable def b_X9_noOne_17 (x2 : Int) (s0 : Int) (s1 : Option Nat) (h : HP) : Option ((Int) × HP) :=
  (rcv h s1 [7]).bind fun b5 =>
  hb (f_X9_fails b5 s0 x2 h) fun v3 h4 =>
  rtZ v3 (some (v3, h4))
theorem B_X9_noOne_17 {M : hp_M} {G : va_G} {h0 : HP} (X : hp_X M G h0 "RenamedWordsModel" "noOne" cX9_noOne 3 (some .boolean) [] 1 30) (x2 : Int) (s0 : Int) (s1 : Option Nat) (h : HP) : vv M G h0 3 (hp_End M G h0) jI h 17 [(2, LI x2)] [LI s0, LR s1] (b_X9_noOne_17 x2 s0 s1 h) := by
  unfold b_X9_noOne_17
  refine vv_iload_n (pc := 17) X (kf := 2) (i := 2) rfl 0 rfl dX9_noOne_17 ?_
  refine vv_rcv (fun b5 t9 c9 fs9 e6 g9 k9 => ?_)
  cases List.mem_singleton.mp k9
  refine vv_callI (pc := 18) (rest := []) (by rw [e6]; rfl) (fun r8 k8 e8 => zz_callV X (m_X9_fails (hlM X) _ _ _ _ _ _ e8) g9 rfl rfl q3841 q3843 qs109 q164 q3844 nh_X9 rfl (by decide) (by decide) (Nat.le_of_ble_eq_true rfl) dX9_noOne_18) (fun v3 h4 => ?_)
  exact vv_iretZ X rfl rfl dX9_noOne_21
noncomputable def f_X9_noOne (a0 : Nat) (a1 : Int) (a2 : Int) (h : HP) : Option ((Int) × HP) :=
  hb (f_X9_in a1 0 200 h) fun v1 h2 =>
  iEQ v1 0
    (b_X9_noOne_17 a2 1 (some a0) h2)
    (b_X9_noOne_17 a2 0 (some a0) h2)
theorem A_X9_noOne {M : hp_M} {G : va_G} {h0 : HP} (X : hp_X M G h0 "RenamedWordsModel" "noOne" cX9_noOne 3 (some .boolean) [] 1 30) (a0 : Nat) (a1 : Int) (a2 : Int) (h : HP) : vv M G h0 3 (hp_End M G h0) jI h 0 [(0, LR (some a0)), (1, LI a1), (2, LI a2)] [] (f_X9_noOne a0 a1 a2 h) := by
  unfold f_X9_noOne
  refine vv_aload_n (pc := 0) X (kf := 0) (i := 0) rfl 0 rfl dX9_noOne_0 ?_
  refine vv_iload_n (pc := 1) X (kf := 1) (i := 1) rfl 1 rfl dX9_noOne_1 ?_
  refine vv_iconst (pc := 2) X dX9_noOne_2 ?_
  refine vv_sipush (pc := 3) X (by decide) dX9_noOne_3 ?_
  refine vv_callI (pc := 6) (rest := [LR (some a0)]) (by rfl) (fun r8 k8 e8 => zz_callS X (m_X9_in (hlM X) _ _ _ _ _ _ e8) q3593 q3594 q164 q3595 nh_X9 rfl (by decide) (by decide) (Nat.le_of_ble_eq_true rfl) dX9_noOne_6) (fun v1 h2 => ?_)
  refine vv_if_ne (pc := 9) (tgt := 16) X dX9_noOne_9 rfl ?_ ?_
  · refine vv_iconst (pc := 16) X dX9_noOne_16 ?_
    exact vv_sub [2] (by rfl) (B_X9_noOne_17 X _ _ _ _)
  · refine vv_iconst (pc := 12) X dX9_noOne_12 ?_
    refine vv_goto (pc := 13) (tgt := 17) X dX9_noOne_13 rfl ?_
    exact vv_sub [2] (by rfl) (B_X9_noOne_17 X _ _ _ _)
theorem m_X9_noOne {l : Launch} (hl : l.stackTraces = false) {G : va_G} (a0 : Nat) (a1 : Int) (a2 : Int) (h : HP) : ∀ r hf, f_X9_noOne a0 a1 a2 h = some (r, hf) → Ct l yX9_noOne (ws_ yX9_noOne cX9_noOne 3 (some .boolean)) 1 30 G h [.ref a0, .int (iI a1), .int (iI a2)] (jI r) hf :=
  zz_ofW hl (by decide +kernel) (lv := [(0, LR (some a0)), (1, LI a1), (2, LI a2)]) (by simp [lv_args, lvL, lvV, zz_rfc, zz_rfs, zz_ci, zz_cr, zz_cj, zz_cf, zz_cd]) (by simp [lg_sl, zz_rfc, zz_ci, zz_cr, zz_cj, zz_cf, zz_cd]) (fun _ X => A_X9_noOne X a0 a1 a2 h)
-- X9_holds RenamedWordsModel.holds()V
noncomputable def f_X9_holds (a0 : Nat) (h : HP) : Option ((Unit) × HP) :=
  (rdR h (some a0) [7] 0).bind fun v1 =>
  (rdR h (some a0) [7] 2).bind fun v2 =>
  hb (f_X9_lays v1 0 v2 0 h) fun _ h4 =>
  some ((), h4)
theorem A_X9_holds {M : hp_M} {G : va_G} {h0 : HP} (X : hp_X M G h0 "RenamedWordsModel" "holds" cX9_holds 1 none [] 1 32) (a0 : Nat) (h : HP) : vv M G h0 1 (hp_End M G h0) jV h 0 [(0, LR (some a0))] [] (f_X9_holds a0 h) := by
  unfold f_X9_holds
  refine vv_aload_n (pc := 0) X (kf := 0) (i := 0) rfl 0 rfl dX9_holds_0 ?_
  refine vv_getR (pc := 1) X (fun _ z => by cases List.mem_singleton.mp z; exact fl_X9_9_7) dX9_holds_1 (fun v1 => ?_)
  refine vv_iconst (pc := 4) X dX9_holds_4 ?_
  refine vv_aload_n (pc := 5) X (kf := 0) (i := 0) rfl 0 rfl dX9_holds_5 ?_
  refine vv_getR (pc := 6) X (fun _ z => by cases List.mem_singleton.mp z; exact fl_X9_16_7) dX9_holds_6 (fun v2 => ?_)
  refine vv_iconst (pc := 9) X dX9_holds_9 ?_
  refine vv_callV (pc := 10) (rest := []) (by rfl) (fun r8 k8 e8 => zz_callS X (m_X9_lays (hlM X) _ _ _ _ _ _ _ e8) q3574 q3575 q164 q3576 nh_X9 rfl (by decide) (by decide) (Nat.le_of_ble_eq_true rfl) dX9_holds_10) (fun v3 h4 => ?_)
  exact vv_vreturn X rfl rfl dX9_holds_13
theorem m_X9_holds {l : Launch} (hl : l.stackTraces = false) {G : va_G} (a0 : Nat) (h : HP) : ∀ r hf, f_X9_holds a0 h = some (r, hf) → Ct l yX9_holds (ws_ yX9_holds cX9_holds 1 none) 1 32 G h [.ref a0] (jV r) hf :=
  zz_ofW hl (by decide +kernel) (lv := [(0, LR (some a0))]) (by simp [lv_args, lvL, lvV, zz_rfc, zz_rfs, zz_ci, zz_cr, zz_cj, zz_cf, zz_cd]) (by simp [lg_sl, zz_rfc, zz_ci, zz_cr, zz_cj, zz_cf, zz_cd]) (fun _ X => A_X9_holds X a0 h)
-- X9_recorded RenamedWordsModel.recorded(I)I
noncomputable def b_X9_recorded_12 (x1 : Int) (h : HP) : Option ((Int) × HP) :=
  some (x1, h)
theorem B_X9_recorded_12 {M : hp_M} {G : va_G} {h0 : HP} (X : hp_X M G h0 "RenamedWordsModel" "recorded" cX9_recorded 2 (some .int) [] 2 62) (x1 : Int) (h : HP) : vv M G h0 2 (hp_End M G h0) jI h 12 [(1, LI x1)] [] (b_X9_recorded_12 x1 h) := by
  unfold b_X9_recorded_12
  refine vv_iload_n (pc := 12) X (kf := 1) (i := 1) rfl 0 rfl dX9_recorded_12 ?_
  exact vv_iretI X rfl rfl dX9_recorded_13
noncomputable def f_X9_recorded (a0 : Nat) (a1 : Int) (h : HP) : Option ((Int) × HP) :=
  iLT a1 0
    (b_X9_recorded_12 a1 h)
    ((rdR h (some a0) [7] 2).bind fun v1 =>
    (rcv h (some a0) [7]).bind fun b4 =>
    hb (f_X9_remembers b4 v1 h) fun _ h3 =>
    b_X9_recorded_12 a1 h3)
theorem A_X9_recorded {M : hp_M} {G : va_G} {h0 : HP} (X : hp_X M G h0 "RenamedWordsModel" "recorded" cX9_recorded 2 (some .int) [] 2 62) (a0 : Nat) (a1 : Int) (h : HP) : vv M G h0 2 (hp_End M G h0) jI h 0 [(0, LR (some a0)), (1, LI a1)] [] (f_X9_recorded a0 a1 h) := by
  unfold f_X9_recorded
  refine vv_iload_n (pc := 0) X (kf := 1) (i := 1) rfl 1 rfl dX9_recorded_0 ?_
  refine vv_if_lt (pc := 1) (tgt := 12) X dX9_recorded_1 rfl ?_ ?_
  · exact vv_sub [1] (by rfl) (B_X9_recorded_12 X _ _)
  · refine vv_aload_n (pc := 4) X (kf := 0) (i := 0) rfl 0 rfl dX9_recorded_4 ?_
    refine vv_aload_n (pc := 5) X (kf := 0) (i := 0) rfl 0 rfl dX9_recorded_5 ?_
    refine vv_getR (pc := 6) X (fun _ z => by cases List.mem_singleton.mp z; exact fl_X9_16_7) dX9_recorded_6 (fun v1 => ?_)
    refine vv_rcv (fun b4 t9 c9 fs9 e5 g9 k9 => ?_)
    cases List.mem_singleton.mp k9
    refine vv_callV (pc := 9) (rest := []) (by rw [e5]; rfl) (fun r8 k8 e8 => zz_callV X (m_X9_remembers (hlM X) _ _ _ _ _ e8) g9 rfl rfl q3719 q3721 qs81 q164 q3722 nh_X9 rfl (by decide) (by decide) (Nat.le_of_ble_eq_true rfl) dX9_recorded_9) (fun v2 h3 => ?_)
    exact vv_sub [1] (by rfl) (B_X9_recorded_12 X _ _)
theorem m_X9_recorded {l : Launch} (hl : l.stackTraces = false) {G : va_G} (a0 : Nat) (a1 : Int) (h : HP) : ∀ r hf, f_X9_recorded a0 a1 h = some (r, hf) → Ct l yX9_recorded (ws_ yX9_recorded cX9_recorded 2 (some .int)) 2 62 G h [.ref a0, .int (iI a1)] (jI r) hf :=
  zz_ofW hl (by decide +kernel) (lv := [(0, LR (some a0)), (1, LI a1)]) (by simp [lv_args, lvL, lvV, zz_rfc, zz_rfs, zz_ci, zz_cr, zz_cj, zz_cf, zz_cd]) (by simp [lg_sl, zz_rfc, zz_ci, zz_cr, zz_cj, zz_cf, zz_cd]) (fun _ X => A_X9_recorded X a0 a1 h)
-- X9_put RenamedWordsModel.put(II)I
noncomputable def b_X9_put_23 (h : HP) : Option ((Int) × HP) :=
  some (0, h)
theorem B_X9_put_23 {M : hp_M} {G : va_G} {h0 : HP} (X : hp_X M G h0 "RenamedWordsModel" "put" cX9_put 3 (some .int) [] 9 273) (h : HP) : vv M G h0 3 (hp_End M G h0) jI h 23 [] [] (b_X9_put_23 h) := by
  unfold b_X9_put_23
  refine vv_iconst (pc := 23) X dX9_put_23 ?_
  exact vv_iretI X rfl rfl dX9_put_24
noncomputable def f_X9_put (a0 : Nat) (a1 : Int) (a2 : Int) (h : HP) : Option ((Int) × HP) :=
  (wrI h (some a0) [7] 7 0).bind fun h1 =>
  (rcv h1 (some a0) [7]).bind fun b4 =>
  hb (f_X9_noOne b4 a1 1 h1) fun v2 h3 =>
  iEQ v2 0
    ((rcv h3 (some a0) [7]).bind fun b8 =>
    hb (f_X9_noLetter b8 a2 1 h3) fun v6 h7 =>
    iEQ v6 0
      ((rcv h7 (some a0) [7]).bind fun b12 =>
      hb (f_X9_holds b12 h7) fun _ h11 =>
      (rcv h11 (some a0) [7]).bind fun b16 =>
      hb (f_X9_putNow b16 a1 a2 h11) fun v14 h15 =>
      (rcv h15 (some a0) [7]).bind fun b20 =>
      hb (f_X9_recorded b20 v14 h15) fun v18 h19 =>
      some (v18, h19))
      (b_X9_put_23 h7))
    (b_X9_put_23 h3)
theorem A_X9_put {M : hp_M} {G : va_G} {h0 : HP} (X : hp_X M G h0 "RenamedWordsModel" "put" cX9_put 3 (some .int) [] 9 273) (a0 : Nat) (a1 : Int) (a2 : Int) (h : HP) : vv M G h0 3 (hp_End M G h0) jI h 0 [(0, LR (some a0)), (1, LI a1), (2, LI a2)] [] (f_X9_put a0 a1 a2 h) := by
  unfold f_X9_put
  refine vv_aload_n (pc := 0) X (kf := 0) (i := 0) rfl 0 rfl dX9_put_0 ?_
  refine vv_iconst (pc := 1) X dX9_put_1 ?_
  refine vv_putI (pc := 2) (fin := false) X (fun _ z => by cases List.mem_singleton.mp z; exact fl_X9_69_7) (fun z => nomatch z) (fun z => nomatch z) dX9_put_2 (fun h1 => ?_)
  refine vv_aload_n (pc := 5) X (kf := 0) (i := 0) rfl 0 rfl dX9_put_5 ?_
  refine vv_iload_n (pc := 6) X (kf := 1) (i := 1) rfl 1 rfl dX9_put_6 ?_
  refine vv_iconst (pc := 7) X dX9_put_7 ?_
  refine vv_rcv (fun b4 t9 c9 fs9 e5 g9 k9 => ?_)
  cases List.mem_singleton.mp k9
  refine vv_callI (pc := 8) (rest := []) (by rw [e5]; rfl) (fun r8 k8 e8 => zz_callV X (m_X9_noOne (hlM X) _ _ _ _ _ _ e8) g9 rfl rfl q4015 q4017 qs125 q164 q4018 nh_X9 rfl (by decide) (by decide) (Nat.le_of_ble_eq_true rfl) dX9_put_8) (fun v2 h3 => ?_)
  refine vv_if_ne (pc := 11) (tgt := 23) X dX9_put_11 rfl ?_ ?_
  · exact vv_sub [] (by rfl) (B_X9_put_23 X _)
  · refine vv_aload_n (pc := 14) X (kf := 0) (i := 0) rfl 0 rfl dX9_put_14 ?_
    refine vv_iload_n (pc := 15) X (kf := 2) (i := 2) rfl 2 rfl dX9_put_15 ?_
    refine vv_iconst (pc := 16) X dX9_put_16 ?_
    refine vv_rcv (fun b8 t9 c9 fs9 e9 g9 k9 => ?_)
    cases List.mem_singleton.mp k9
    refine vv_callI (pc := 17) (rest := []) (by rw [e9]; rfl) (fun r8 k8 e8 => zz_callV X (m_X9_noLetter (hlM X) _ _ _ _ _ _ e8) g9 rfl rfl q3958 q3960 qs121 q164 q3961 nh_X9 rfl (by decide) (by decide) (Nat.le_of_ble_eq_true rfl) dX9_put_17) (fun v6 h7 => ?_)
    refine vv_if_eq (pc := 20) (tgt := 25) X dX9_put_20 rfl ?_ ?_
    · refine vv_aload_n (pc := 25) X (kf := 0) (i := 0) rfl 0 rfl dX9_put_25 ?_
      refine vv_rcv (fun b12 t9 c9 fs9 e13 g9 k9 => ?_)
      cases List.mem_singleton.mp k9
      refine vv_callV (pc := 26) (rest := []) (by rw [e13]; rfl) (fun r8 k8 e8 => zz_callV X (m_X9_holds (hlM X) _ _ _ _ e8) g9 rfl rfl q4019 q4021 qs126 q164 q4022 nh_X9 rfl (by decide) (by decide) (Nat.le_of_ble_eq_true rfl) dX9_put_26) (fun v10 h11 => ?_)
      refine vv_aload_n (pc := 29) X (kf := 0) (i := 0) rfl 0 rfl dX9_put_29 ?_
      refine vv_aload_n (pc := 30) X (kf := 0) (i := 0) rfl 0 rfl dX9_put_30 ?_
      refine vv_iload_n (pc := 31) X (kf := 1) (i := 1) rfl 1 rfl dX9_put_31 ?_
      refine vv_iload_n (pc := 32) X (kf := 2) (i := 2) rfl 2 rfl dX9_put_32 ?_
      refine vv_rcv (fun b16 t9 c9 fs9 e17 g9 k9 => ?_)
      cases List.mem_singleton.mp k9
      refine vv_callI (pc := 33) (rest := [LR (some a0)]) (by rw [e17]; rfl) (fun r8 k8 e8 => zz_callV X (m_X9_putNow (hlM X) _ _ _ _ _ _ e8) g9 rfl rfl q3805 q3807 qs101 q164 q3808 nh_X9 rfl (by decide) (by decide) (Nat.le_of_ble_eq_true rfl) dX9_put_33) (fun v14 h15 => ?_)
      refine vv_rcv (fun b20 t9 c9 fs9 e21 g9 k9 => ?_)
      cases List.mem_singleton.mp k9
      refine vv_callI (pc := 36) (rest := []) (by rw [e21]; rfl) (fun r8 k8 e8 => zz_callV X (m_X9_recorded (hlM X) _ _ _ _ _ e8) g9 rfl rfl q4023 q4025 qs127 q164 q4026 nh_X9 rfl (by decide) (by decide) (Nat.le_of_ble_eq_true rfl) dX9_put_36) (fun v18 h19 => ?_)
      exact vv_iretI X rfl rfl dX9_put_39
    · exact vv_sub [] (by rfl) (B_X9_put_23 X _)
theorem m_X9_put {l : Launch} (hl : l.stackTraces = false) {G : va_G} (a0 : Nat) (a1 : Int) (a2 : Int) (h : HP) : ∀ r hf, f_X9_put a0 a1 a2 h = some (r, hf) → Ct l yX9_put (ws_ yX9_put cX9_put 3 (some .int)) 9 273 G h [.ref a0, .int (iI a1), .int (iI a2)] (jI r) hf :=
  zz_ofW hl (by decide +kernel) (lv := [(0, LR (some a0)), (1, LI a1), (2, LI a2)]) (by simp [lv_args, lvL, lvV, zz_rfc, zz_rfs, zz_ci, zz_cr, zz_cj, zz_cf, zz_cd]) (by simp [lg_sl, zz_rfc, zz_ci, zz_cr, zz_cj, zz_cf, zz_cd]) (fun _ X => A_X9_put X a0 a1 a2 h)
-- X1_insert RenamedWords.insert(II)I
noncomputable def f_X1_insert (a0 : Nat) (a1 : Int) (a2 : Int) (h : HP) : Option ((Nat ⊕ Int) × HP) :=
  hbx (f_X1_placeNumber a1 h) (fun q3 h4 =>
      some (.inl q3, h4)) fun _ h2 =>
  hb (f_X1_isLetter a2 h2) fun v5 h6 =>
  hbx (f_X1_argument v5 h6) (fun q9 h10 =>
      some (.inl q9, h10)) fun _ h8 =>
  (rcv h8 (some a0) [0]).bind fun b13 =>
  hb (f_X1_copied b13 h8) fun v11 h12 =>
  (rdR h12 (some a0) [0] 0).bind fun v15 =>
  (rcv h12 v15 [1]).bind fun b18 =>
  hb (f_X2_inserts b18 a1 a2 h12) fun v16 h17 =>
  (rcv h17 (some a0) [0]).bind fun b22 =>
  hb (f_X1_made b22 v11 v16 h17) fun v20 h21 =>
  some (.inr v20, h21)
theorem A_X1_insert {M : hp_M} {G : va_G} {h0 : HP} (X : hp_X M G h0 "RenamedWords" "insert" cX1_insert 3 (some .int) [] 10 305) (a0 : Nat) (a1 : Int) (a2 : Int) (h : HP) : vv M G h0 3 (hp_End M G h0) xI h 0 [(0, LR (some a0)), (1, LI a1), (2, LI a2)] [] (f_X1_insert a0 a1 a2 h) := by
  unfold f_X1_insert
  refine vv_iload_n (pc := 0) X (kf := 1) (i := 1) rfl 1 rfl dX1_insert_0 ?_
  refine vv_xallV (pc := 1) (rest := []) (by rfl) (fun r8 k8 e8 => zz_callS X (m_X1_placeNumber (hlM X) _ _ _ _ e8) q3355 q3356 q132 q3357 nh_X1 rfl (by decide) (by decide) (Nat.le_of_ble_eq_true rfl) dX1_insert_1) (fun v1 h2 => ?_) (fun q3 h4 => ?_)
  · refine vv_iload_n (pc := 4) X (kf := 2) (i := 2) rfl 2 rfl dX1_insert_4 ?_
    refine vv_callI (pc := 5) (rest := []) (by rfl) (fun r8 k8 e8 => zz_callS X (m_X1_isLetter (hlM X) _ _ _ _ e8) q3243 q3244 q132 q3245 nh_X1 rfl (by decide) (by decide) (Nat.le_of_ble_eq_true rfl) dX1_insert_5) (fun v5 h6 => ?_)
    refine vv_xallV (pc := 8) (rest := []) (by rfl) (fun r8 k8 e8 => zz_callS X (m_X1_argument (hlM X) _ _ _ _ e8) q3090 q3091 q132 q3092 nh_X1 rfl (by decide) (by decide) (Nat.le_of_ble_eq_true rfl) dX1_insert_8) (fun v7 h8 => ?_) (fun q9 h10 => ?_)
    · refine vv_aload_n (pc := 11) X (kf := 0) (i := 0) rfl 0 rfl dX1_insert_11 ?_
      refine vv_aload_n (pc := 12) X (kf := 0) (i := 0) rfl 0 rfl dX1_insert_12 ?_
      refine vv_rcv (fun b13 t9 c9 fs9 e14 g9 k9 => ?_)
      cases List.mem_singleton.mp k9
      refine vv_callR (pc := 13) (rest := [LR (some a0)]) (by rw [e14]; rfl) (fun r8 k8 e8 => zz_callV X (m_X1_copied (hlM X) _ _ _ _ e8) g9 rfl rfl q2119 q2121 qs23 q132 q2122 nh_X1 rfl (by decide) (by decide) (Nat.le_of_ble_eq_true rfl) dX1_insert_13) (fun v11 h12 => ?_)
      refine vv_aload_n (pc := 16) X (kf := 0) (i := 0) rfl 0 rfl dX1_insert_16 ?_
      refine vv_getR (pc := 17) X (fun _ z => by cases List.mem_singleton.mp z; exact fl_X1_35_0) dX1_insert_17 (fun v15 => ?_)
      refine vv_iload_n (pc := 20) X (kf := 1) (i := 1) rfl 1 rfl dX1_insert_20 ?_
      refine vv_iload_n (pc := 21) X (kf := 2) (i := 2) rfl 2 rfl dX1_insert_21 ?_
      refine vv_rcv (fun b18 t9 c9 fs9 e19 g9 k9 => ?_)
      cases List.mem_singleton.mp k9
      refine vv_callI (pc := 22) (rest := [LR v11, LR (some a0)]) (by rw [e19]; rfl) (fun r8 k8 e8 => zz_callV X (m_X2_inserts (hlM X) _ _ _ _ _ _ e8) g9 rfl rfl q3370 q2752 q2753 q133 q2754 nh_X2 rfl (by decide) (by decide) (Nat.le_of_ble_eq_true rfl) dX1_insert_22) (fun v16 h17 => ?_)
      refine vv_rcv (fun b22 t9 c9 fs9 e23 g9 k9 => ?_)
      cases List.mem_singleton.mp k9
      refine vv_callI (pc := 25) (rest := []) (by rw [e23]; rfl) (fun r8 k8 e8 => zz_callV X (m_X1_made (hlM X) _ _ _ _ _ _ e8) g9 rfl rfl q3359 q3361 qs49 q132 q3362 nh_X1 rfl (by decide) (by decide) (Nat.le_of_ble_eq_true rfl) dX1_insert_25) (fun v20 h21 => ?_)
      exact vv_iretI X rfl rfl dX1_insert_28
    · exact vvx_out X (by decide) rfl
  · exact vvx_out X (by decide) rfl
theorem m_X1_insert {l : Launch} (hl : l.stackTraces = false) {G : va_G} (a0 : Nat) (a1 : Int) (a2 : Int) (h : HP) : ∀ r hf, f_X1_insert a0 a1 a2 h = some (r, hf) → Ct l yX1_insert (ws_ yX1_insert cX1_insert 3 (some .int)) 10 305 G h [.ref a0, .int (iI a1), .int (iI a2)] (xI r) hf :=
  zz_ofW hl (by decide +kernel) (lv := [(0, LR (some a0)), (1, LI a1), (2, LI a2)]) (by simp [lv_args, lvL, lvV, zz_rfc, zz_rfs, zz_ci, zz_cr, zz_cj, zz_cf, zz_cd]) (by simp [lg_sl, zz_rfc, zz_ci, zz_cr, zz_cj, zz_cf, zz_cd]) (fun _ X => A_X1_insert X a0 a1 a2 h)
-- X0_insert RenamedWordsLaw.insert(LRenamedWords;II[J)I
noncomputable def b_X0_insert_13 (s0 : Option Nat) (h : HP) : Option ((Int) × HP) :=
  some (1, h)
theorem B_X0_insert_13 {M : hp_M} {G : va_G} {h0 : HP} (X : hp_X M G h0 "RenamedWordsLaw" "insert" cX0_insert 5 (some .int) (tableOf [(0, 10, 13, 13)]) 11 335) (s0 : Option Nat) (h : HP) : vv M G h0 5 (hp_End M G h0) jI h 13 [] [LR s0] (b_X0_insert_13 s0 h) := by
  unfold b_X0_insert_13
  refine vv_astore (pc := 13) (lv' := [(4, LR s0)]) X (by decide) rfl dX0_insert_13 ?_
  refine vv_iconst (pc := 15) X dX0_insert_15 ?_
  exact vv_iretI X rfl rfl dX0_insert_16
noncomputable def f_X0_insert (a1 : Option Nat) (a2 : Int) (a3 : Int) (a4 : Option Nat) (h : HP) : Option ((Int) × HP) :=
  (rcv h a1 [0]).bind fun b3 =>
  hbx (f_X1_insert b3 a2 a3 h) (fun q5 h6 =>
      (clsOf h6 q5).bind fun c7 =>
      if c7 = 36 then
        b_X0_insert_13 (some q5) h6
      else
        none) fun v1 h2 =>
  (astJ h2 a4 0 (iL v1)).bind fun h8 =>
  some (0, h8)
theorem A_X0_insert {M : hp_M} {G : va_G} {h0 : HP} (X : hp_X M G h0 "RenamedWordsLaw" "insert" cX0_insert 5 (some .int) (tableOf [(0, 10, 13, 13)]) 11 335) (a1 : Option Nat) (a2 : Int) (a3 : Int) (a4 : Option Nat) (h : HP) : vv M G h0 5 (hp_End M G h0) jI h 0 [(0, LR a1), (1, LI a2), (2, LI a3), (3, LR a4)] [] (f_X0_insert a1 a2 a3 a4 h) := by
  unfold f_X0_insert
  refine vv_aload_n (pc := 0) X (kf := 3) (i := 3) rfl 3 rfl dX0_insert_0 ?_
  refine vv_iconst (pc := 1) X dX0_insert_1 ?_
  refine vv_aload_n (pc := 2) X (kf := 0) (i := 0) rfl 0 rfl dX0_insert_2 ?_
  refine vv_iload_n (pc := 3) X (kf := 1) (i := 1) rfl 1 rfl dX0_insert_3 ?_
  refine vv_iload_n (pc := 4) X (kf := 2) (i := 2) rfl 2 rfl dX0_insert_4 ?_
  refine vv_rcv (fun b3 t9 c9 fs9 e4 g9 k9 => ?_)
  cases List.mem_singleton.mp k9
  refine vv_xallI (pc := 5) (rest := [LI 0, LR a4]) (by rw [e4]; rfl) (fun r8 k8 e8 => zz_callV X (m_X1_insert (hlM X) _ _ _ _ _ _ e8) g9 rfl rfl q3366 q3367 q3368 q132 q3369 nh_X1 rfl (by decide) (by decide) (Nat.le_of_ble_eq_true rfl) dX0_insert_5) (fun v1 h2 => ?_) (fun q5 h6 => ?_)
  · refine vv_i2l (pc := 8) X dX0_insert_8 ?_
    refine vv_lastore (pc := 9) X dX0_insert_9 (fun h8 => ?_)
    refine vv_goto (pc := 10) (tgt := 17) X dX0_insert_10 rfl ?_
    refine vv_iconst (pc := 17) X dX0_insert_17 ?_
    exact vv_iretI X rfl rfl dX0_insert_18
  · refine vvx_cls (fun _ c7 _ g9 => ?_)
    refine vvx_if (fun e9 => ?_) (fun _ => ?_)
    · subst e9
      refine vvx_catch X g9 rfl [] ⟨0, 10, 13, 13⟩ [] rfl (fun z hz => nomatch hz) rfl (by decide) q3013 q275 ?_
      exact vv_sub [] (by rfl) (B_X0_insert_13 X _ _)
    · exact vvx_none
theorem m_X0_insert {l : Launch} (hl : l.stackTraces = false) {G : va_G} (a1 : Option Nat) (a2 : Int) (a3 : Int) (a4 : Option Nat) (h : HP) : ∀ r hf, f_X0_insert a1 a2 a3 a4 h = some (r, hf) → Ct l yX0_insert (wsW_ yX0_insert cX0_insert 5 (some .int) [(0, 10, 13, 13)]) 11 335 G h [va_rf a1, .int (iI a2), .int (iI a3), va_rf a4] (jI r) hf :=
  zz_ofWH hl (by decide +kernel) (lv := [(0, LR a1), (1, LI a2), (2, LI a3), (3, LR a4)]) (by simp [lv_args, lvL, lvV, zz_rfc, zz_rfs, zz_ci, zz_cr, zz_cj, zz_cf, zz_cd]) (by simp [lg_sl, zz_rfc, zz_ci, zz_cr, zz_cj, zz_cf, zz_cd]) (fun _ X => A_X0_insert X a1 a2 a3 a4 h)
-- X9_insert RenamedWordsModel.insert(II)I
noncomputable def b_X9_insert_23 (h : HP) : Option ((Int) × HP) :=
  some (0, h)
theorem B_X9_insert_23 {M : hp_M} {G : va_G} {h0 : HP} (X : hp_X M G h0 "RenamedWordsModel" "insert" cX9_insert 3 (some .int) [] 9 273) (h : HP) : vv M G h0 3 (hp_End M G h0) jI h 23 [] [] (b_X9_insert_23 h) := by
  unfold b_X9_insert_23
  refine vv_iconst (pc := 23) X dX9_insert_23 ?_
  exact vv_iretI X rfl rfl dX9_insert_24
noncomputable def f_X9_insert (a0 : Nat) (a1 : Int) (a2 : Int) (h : HP) : Option ((Int) × HP) :=
  (wrI h (some a0) [7] 7 0).bind fun h1 =>
  (rcv h1 (some a0) [7]).bind fun b4 =>
  hb (f_X9_noOne b4 a1 1 h1) fun v2 h3 =>
  iEQ v2 0
    ((rcv h3 (some a0) [7]).bind fun b8 =>
    hb (f_X9_noLetter b8 a2 1 h3) fun v6 h7 =>
    iEQ v6 0
      ((rcv h7 (some a0) [7]).bind fun b12 =>
      hb (f_X9_holds b12 h7) fun _ h11 =>
      (rcv h11 (some a0) [7]).bind fun b16 =>
      hb (f_X9_insertNow b16 a1 a2 h11) fun v14 h15 =>
      (rcv h15 (some a0) [7]).bind fun b20 =>
      hb (f_X9_recorded b20 v14 h15) fun v18 h19 =>
      some (v18, h19))
      (b_X9_insert_23 h7))
    (b_X9_insert_23 h3)
theorem A_X9_insert {M : hp_M} {G : va_G} {h0 : HP} (X : hp_X M G h0 "RenamedWordsModel" "insert" cX9_insert 3 (some .int) [] 9 273) (a0 : Nat) (a1 : Int) (a2 : Int) (h : HP) : vv M G h0 3 (hp_End M G h0) jI h 0 [(0, LR (some a0)), (1, LI a1), (2, LI a2)] [] (f_X9_insert a0 a1 a2 h) := by
  unfold f_X9_insert
  refine vv_aload_n (pc := 0) X (kf := 0) (i := 0) rfl 0 rfl dX9_insert_0 ?_
  refine vv_iconst (pc := 1) X dX9_insert_1 ?_
  refine vv_putI (pc := 2) (fin := false) X (fun _ z => by cases List.mem_singleton.mp z; exact fl_X9_69_7) (fun z => nomatch z) (fun z => nomatch z) dX9_insert_2 (fun h1 => ?_)
  refine vv_aload_n (pc := 5) X (kf := 0) (i := 0) rfl 0 rfl dX9_insert_5 ?_
  refine vv_iload_n (pc := 6) X (kf := 1) (i := 1) rfl 1 rfl dX9_insert_6 ?_
  refine vv_iconst (pc := 7) X dX9_insert_7 ?_
  refine vv_rcv (fun b4 t9 c9 fs9 e5 g9 k9 => ?_)
  cases List.mem_singleton.mp k9
  refine vv_callI (pc := 8) (rest := []) (by rw [e5]; rfl) (fun r8 k8 e8 => zz_callV X (m_X9_noOne (hlM X) _ _ _ _ _ _ e8) g9 rfl rfl q4015 q4017 qs125 q164 q4018 nh_X9 rfl (by decide) (by decide) (Nat.le_of_ble_eq_true rfl) dX9_insert_8) (fun v2 h3 => ?_)
  refine vv_if_ne (pc := 11) (tgt := 23) X dX9_insert_11 rfl ?_ ?_
  · exact vv_sub [] (by rfl) (B_X9_insert_23 X _)
  · refine vv_aload_n (pc := 14) X (kf := 0) (i := 0) rfl 0 rfl dX9_insert_14 ?_
    refine vv_iload_n (pc := 15) X (kf := 2) (i := 2) rfl 2 rfl dX9_insert_15 ?_
    refine vv_iconst (pc := 16) X dX9_insert_16 ?_
    refine vv_rcv (fun b8 t9 c9 fs9 e9 g9 k9 => ?_)
    cases List.mem_singleton.mp k9
    refine vv_callI (pc := 17) (rest := []) (by rw [e9]; rfl) (fun r8 k8 e8 => zz_callV X (m_X9_noLetter (hlM X) _ _ _ _ _ _ e8) g9 rfl rfl q3958 q3960 qs121 q164 q3961 nh_X9 rfl (by decide) (by decide) (Nat.le_of_ble_eq_true rfl) dX9_insert_17) (fun v6 h7 => ?_)
    refine vv_if_eq (pc := 20) (tgt := 25) X dX9_insert_20 rfl ?_ ?_
    · refine vv_aload_n (pc := 25) X (kf := 0) (i := 0) rfl 0 rfl dX9_insert_25 ?_
      refine vv_rcv (fun b12 t9 c9 fs9 e13 g9 k9 => ?_)
      cases List.mem_singleton.mp k9
      refine vv_callV (pc := 26) (rest := []) (by rw [e13]; rfl) (fun r8 k8 e8 => zz_callV X (m_X9_holds (hlM X) _ _ _ _ e8) g9 rfl rfl q4019 q4021 qs126 q164 q4022 nh_X9 rfl (by decide) (by decide) (Nat.le_of_ble_eq_true rfl) dX9_insert_26) (fun v10 h11 => ?_)
      refine vv_aload_n (pc := 29) X (kf := 0) (i := 0) rfl 0 rfl dX9_insert_29 ?_
      refine vv_aload_n (pc := 30) X (kf := 0) (i := 0) rfl 0 rfl dX9_insert_30 ?_
      refine vv_iload_n (pc := 31) X (kf := 1) (i := 1) rfl 1 rfl dX9_insert_31 ?_
      refine vv_iload_n (pc := 32) X (kf := 2) (i := 2) rfl 2 rfl dX9_insert_32 ?_
      refine vv_rcv (fun b16 t9 c9 fs9 e17 g9 k9 => ?_)
      cases List.mem_singleton.mp k9
      refine vv_callI (pc := 33) (rest := [LR (some a0)]) (by rw [e17]; rfl) (fun r8 k8 e8 => zz_callV X (m_X9_insertNow (hlM X) _ _ _ _ _ _ e8) g9 rfl rfl q3809 q3811 qs102 q164 q3812 nh_X9 rfl (by decide) (by decide) (Nat.le_of_ble_eq_true rfl) dX9_insert_33) (fun v14 h15 => ?_)
      refine vv_rcv (fun b20 t9 c9 fs9 e21 g9 k9 => ?_)
      cases List.mem_singleton.mp k9
      refine vv_callI (pc := 36) (rest := []) (by rw [e21]; rfl) (fun r8 k8 e8 => zz_callV X (m_X9_recorded (hlM X) _ _ _ _ _ e8) g9 rfl rfl q4023 q4025 qs127 q164 q4026 nh_X9 rfl (by decide) (by decide) (Nat.le_of_ble_eq_true rfl) dX9_insert_36) (fun v18 h19 => ?_)
      exact vv_iretI X rfl rfl dX9_insert_39
    · exact vv_sub [] (by rfl) (B_X9_insert_23 X _)
theorem m_X9_insert {l : Launch} (hl : l.stackTraces = false) {G : va_G} (a0 : Nat) (a1 : Int) (a2 : Int) (h : HP) : ∀ r hf, f_X9_insert a0 a1 a2 h = some (r, hf) → Ct l yX9_insert (ws_ yX9_insert cX9_insert 3 (some .int)) 9 273 G h [.ref a0, .int (iI a1), .int (iI a2)] (jI r) hf :=
  zz_ofW hl (by decide +kernel) (lv := [(0, LR (some a0)), (1, LI a1), (2, LI a2)]) (by simp [lv_args, lvL, lvV, zz_rfc, zz_rfs, zz_ci, zz_cr, zz_cj, zz_cf, zz_cd]) (by simp [lg_sl, zz_rfc, zz_ci, zz_cr, zz_cj, zz_cf, zz_cd]) (fun _ X => A_X9_insert X a0 a1 a2 h)
-- X1_erase RenamedWords.erase(I)I
noncomputable def f_X1_erase (a0 : Nat) (a1 : Int) (h : HP) : Option ((Nat ⊕ Int) × HP) :=
  hbx (f_X1_placeNumber a1 h) (fun q3 h4 =>
      some (.inl q3, h4)) fun _ h2 =>
  (rcv h2 (some a0) [0]).bind fun b7 =>
  hb (f_X1_copied b7 h2) fun v5 h6 =>
  (rdR h6 (some a0) [0] 0).bind fun v9 =>
  (rcv h6 v9 [1]).bind fun b12 =>
  hb (f_X2_erases b12 a1 h6) fun v10 h11 =>
  (rcv h11 (some a0) [0]).bind fun b16 =>
  hb (f_X1_made b16 v5 v10 h11) fun v14 h15 =>
  some (.inr v14, h15)
theorem A_X1_erase {M : hp_M} {G : va_G} {h0 : HP} (X : hp_X M G h0 "RenamedWords" "erase" cX1_erase 2 (some .int) [] 10 304) (a0 : Nat) (a1 : Int) (h : HP) : vv M G h0 2 (hp_End M G h0) xI h 0 [(0, LR (some a0)), (1, LI a1)] [] (f_X1_erase a0 a1 h) := by
  unfold f_X1_erase
  refine vv_iload_n (pc := 0) X (kf := 1) (i := 1) rfl 1 rfl dX1_erase_0 ?_
  refine vv_xallV (pc := 1) (rest := []) (by rfl) (fun r8 k8 e8 => zz_callS X (m_X1_placeNumber (hlM X) _ _ _ _ e8) q3355 q3356 q132 q3357 nh_X1 rfl (by decide) (by decide) (Nat.le_of_ble_eq_true rfl) dX1_erase_1) (fun v1 h2 => ?_) (fun q3 h4 => ?_)
  · refine vv_aload_n (pc := 4) X (kf := 0) (i := 0) rfl 0 rfl dX1_erase_4 ?_
    refine vv_aload_n (pc := 5) X (kf := 0) (i := 0) rfl 0 rfl dX1_erase_5 ?_
    refine vv_rcv (fun b7 t9 c9 fs9 e8 g9 k9 => ?_)
    cases List.mem_singleton.mp k9
    refine vv_callR (pc := 6) (rest := [LR (some a0)]) (by rw [e8]; rfl) (fun r8 k8 e8 => zz_callV X (m_X1_copied (hlM X) _ _ _ _ e8) g9 rfl rfl q2119 q2121 qs23 q132 q2122 nh_X1 rfl (by decide) (by decide) (Nat.le_of_ble_eq_true rfl) dX1_erase_6) (fun v5 h6 => ?_)
    refine vv_aload_n (pc := 9) X (kf := 0) (i := 0) rfl 0 rfl dX1_erase_9 ?_
    refine vv_getR (pc := 10) X (fun _ z => by cases List.mem_singleton.mp z; exact fl_X1_35_0) dX1_erase_10 (fun v9 => ?_)
    refine vv_iload_n (pc := 13) X (kf := 1) (i := 1) rfl 1 rfl dX1_erase_13 ?_
    refine vv_rcv (fun b12 t9 c9 fs9 e13 g9 k9 => ?_)
    cases List.mem_singleton.mp k9
    refine vv_callI (pc := 14) (rest := [LR v5, LR (some a0)]) (by rw [e13]; rfl) (fun r8 k8 e8 => zz_callV X (m_X2_erases (hlM X) _ _ _ _ _ e8) g9 rfl rfl q3378 q2767 q2768 q133 q2769 nh_X2 rfl (by decide) (by decide) (Nat.le_of_ble_eq_true rfl) dX1_erase_14) (fun v10 h11 => ?_)
    refine vv_rcv (fun b16 t9 c9 fs9 e17 g9 k9 => ?_)
    cases List.mem_singleton.mp k9
    refine vv_callI (pc := 17) (rest := []) (by rw [e17]; rfl) (fun r8 k8 e8 => zz_callV X (m_X1_made (hlM X) _ _ _ _ _ _ e8) g9 rfl rfl q3359 q3361 qs49 q132 q3362 nh_X1 rfl (by decide) (by decide) (Nat.le_of_ble_eq_true rfl) dX1_erase_17) (fun v14 h15 => ?_)
    exact vv_iretI X rfl rfl dX1_erase_20
  · exact vvx_out X (by decide) rfl
theorem m_X1_erase {l : Launch} (hl : l.stackTraces = false) {G : va_G} (a0 : Nat) (a1 : Int) (h : HP) : ∀ r hf, f_X1_erase a0 a1 h = some (r, hf) → Ct l yX1_erase (ws_ yX1_erase cX1_erase 2 (some .int)) 10 304 G h [.ref a0, .int (iI a1)] (xI r) hf :=
  zz_ofW hl (by decide +kernel) (lv := [(0, LR (some a0)), (1, LI a1)]) (by simp [lv_args, lvL, lvV, zz_rfc, zz_rfs, zz_ci, zz_cr, zz_cj, zz_cf, zz_cd]) (by simp [lg_sl, zz_rfc, zz_ci, zz_cr, zz_cj, zz_cf, zz_cd]) (fun _ X => A_X1_erase X a0 a1 h)
-- X0_erase RenamedWordsLaw.erase(LRenamedWords;I[J)I
noncomputable def b_X0_erase_12 (s0 : Option Nat) (h : HP) : Option ((Int) × HP) :=
  some (1, h)
theorem B_X0_erase_12 {M : hp_M} {G : va_G} {h0 : HP} (X : hp_X M G h0 "RenamedWordsLaw" "erase" cX0_erase 4 (some .int) (tableOf [(0, 9, 12, 13)]) 11 333) (s0 : Option Nat) (h : HP) : vv M G h0 4 (hp_End M G h0) jI h 12 [] [LR s0] (b_X0_erase_12 s0 h) := by
  unfold b_X0_erase_12
  refine vv_astore_n (pc := 12) (lv' := [(3, LR s0)]) X (kf := 3) (i := 3) rfl (by decide) rfl dX0_erase_12 ?_
  refine vv_iconst (pc := 13) X dX0_erase_13 ?_
  exact vv_iretI X rfl rfl dX0_erase_14
noncomputable def f_X0_erase (a1 : Option Nat) (a2 : Int) (a3 : Option Nat) (h : HP) : Option ((Int) × HP) :=
  (rcv h a1 [0]).bind fun b3 =>
  hbx (f_X1_erase b3 a2 h) (fun q5 h6 =>
      (clsOf h6 q5).bind fun c7 =>
      if c7 = 36 then
        b_X0_erase_12 (some q5) h6
      else
        none) fun v1 h2 =>
  (astJ h2 a3 0 (iL v1)).bind fun h8 =>
  some (0, h8)
theorem A_X0_erase {M : hp_M} {G : va_G} {h0 : HP} (X : hp_X M G h0 "RenamedWordsLaw" "erase" cX0_erase 4 (some .int) (tableOf [(0, 9, 12, 13)]) 11 333) (a1 : Option Nat) (a2 : Int) (a3 : Option Nat) (h : HP) : vv M G h0 4 (hp_End M G h0) jI h 0 [(0, LR a1), (1, LI a2), (2, LR a3)] [] (f_X0_erase a1 a2 a3 h) := by
  unfold f_X0_erase
  refine vv_aload_n (pc := 0) X (kf := 2) (i := 2) rfl 2 rfl dX0_erase_0 ?_
  refine vv_iconst (pc := 1) X dX0_erase_1 ?_
  refine vv_aload_n (pc := 2) X (kf := 0) (i := 0) rfl 0 rfl dX0_erase_2 ?_
  refine vv_iload_n (pc := 3) X (kf := 1) (i := 1) rfl 1 rfl dX0_erase_3 ?_
  refine vv_rcv (fun b3 t9 c9 fs9 e4 g9 k9 => ?_)
  cases List.mem_singleton.mp k9
  refine vv_xallI (pc := 4) (rest := [LI 0, LR a3]) (by rw [e4]; rfl) (fun r8 k8 e8 => zz_callV X (m_X1_erase (hlM X) _ _ _ _ _ e8) g9 rfl rfl q3374 q3375 q3376 q132 q3377 nh_X1 rfl (by decide) (by decide) (Nat.le_of_ble_eq_true rfl) dX0_erase_4) (fun v1 h2 => ?_) (fun q5 h6 => ?_)
  · refine vv_i2l (pc := 7) X dX0_erase_7 ?_
    refine vv_lastore (pc := 8) X dX0_erase_8 (fun h8 => ?_)
    refine vv_goto (pc := 9) (tgt := 15) X dX0_erase_9 rfl ?_
    refine vv_iconst (pc := 15) X dX0_erase_15 ?_
    exact vv_iretI X rfl rfl dX0_erase_16
  · refine vvx_cls (fun _ c7 _ g9 => ?_)
    refine vvx_if (fun e9 => ?_) (fun _ => ?_)
    · subst e9
      refine vvx_catch X g9 rfl [] ⟨0, 9, 12, 13⟩ [] rfl (fun z hz => nomatch hz) rfl (by decide) q3013 q275 ?_
      exact vv_sub [] (by rfl) (B_X0_erase_12 X _ _)
    · exact vvx_none
theorem m_X0_erase {l : Launch} (hl : l.stackTraces = false) {G : va_G} (a1 : Option Nat) (a2 : Int) (a3 : Option Nat) (h : HP) : ∀ r hf, f_X0_erase a1 a2 a3 h = some (r, hf) → Ct l yX0_erase (wsW_ yX0_erase cX0_erase 4 (some .int) [(0, 9, 12, 13)]) 11 333 G h [va_rf a1, .int (iI a2), va_rf a3] (jI r) hf :=
  zz_ofWH hl (by decide +kernel) (lv := [(0, LR a1), (1, LI a2), (2, LR a3)]) (by simp [lv_args, lvL, lvV, zz_rfc, zz_rfs, zz_ci, zz_cr, zz_cj, zz_cf, zz_cd]) (by simp [lg_sl, zz_rfc, zz_ci, zz_cr, zz_cj, zz_cf, zz_cd]) (fun _ X => A_X0_erase X a1 a2 a3 h)
-- X9_erase RenamedWordsModel.erase(I)I
noncomputable def f_X9_erase (a0 : Nat) (a1 : Int) (h : HP) : Option ((Int) × HP) :=
  (wrI h (some a0) [7] 7 0).bind fun h1 =>
  (rcv h1 (some a0) [7]).bind fun b4 =>
  hb (f_X9_noOne b4 a1 1 h1) fun v2 h3 =>
  iEQ v2 0
    ((rcv h3 (some a0) [7]).bind fun b8 =>
    hb (f_X9_holds b8 h3) fun _ h7 =>
    (rcv h7 (some a0) [7]).bind fun b12 =>
    hb (f_X9_eraseNow b12 a1 h7) fun v10 h11 =>
    (rcv h11 (some a0) [7]).bind fun b16 =>
    hb (f_X9_recorded b16 v10 h11) fun v14 h15 =>
    some (v14, h15))
    (some (0, h3))
theorem A_X9_erase {M : hp_M} {G : va_G} {h0 : HP} (X : hp_X M G h0 "RenamedWordsModel" "erase" cX9_erase 2 (some .int) [] 9 272) (a0 : Nat) (a1 : Int) (h : HP) : vv M G h0 2 (hp_End M G h0) jI h 0 [(0, LR (some a0)), (1, LI a1)] [] (f_X9_erase a0 a1 h) := by
  unfold f_X9_erase
  refine vv_aload_n (pc := 0) X (kf := 0) (i := 0) rfl 0 rfl dX9_erase_0 ?_
  refine vv_iconst (pc := 1) X dX9_erase_1 ?_
  refine vv_putI (pc := 2) (fin := false) X (fun _ z => by cases List.mem_singleton.mp z; exact fl_X9_69_7) (fun z => nomatch z) (fun z => nomatch z) dX9_erase_2 (fun h1 => ?_)
  refine vv_aload_n (pc := 5) X (kf := 0) (i := 0) rfl 0 rfl dX9_erase_5 ?_
  refine vv_iload_n (pc := 6) X (kf := 1) (i := 1) rfl 1 rfl dX9_erase_6 ?_
  refine vv_iconst (pc := 7) X dX9_erase_7 ?_
  refine vv_rcv (fun b4 t9 c9 fs9 e5 g9 k9 => ?_)
  cases List.mem_singleton.mp k9
  refine vv_callI (pc := 8) (rest := []) (by rw [e5]; rfl) (fun r8 k8 e8 => zz_callV X (m_X9_noOne (hlM X) _ _ _ _ _ _ e8) g9 rfl rfl q4015 q4017 qs125 q164 q4018 nh_X9 rfl (by decide) (by decide) (Nat.le_of_ble_eq_true rfl) dX9_erase_8) (fun v2 h3 => ?_)
  refine vv_if_eq (pc := 11) (tgt := 16) X dX9_erase_11 rfl ?_ ?_
  · refine vv_aload_n (pc := 16) X (kf := 0) (i := 0) rfl 0 rfl dX9_erase_16 ?_
    refine vv_rcv (fun b8 t9 c9 fs9 e9 g9 k9 => ?_)
    cases List.mem_singleton.mp k9
    refine vv_callV (pc := 17) (rest := []) (by rw [e9]; rfl) (fun r8 k8 e8 => zz_callV X (m_X9_holds (hlM X) _ _ _ _ e8) g9 rfl rfl q4019 q4021 qs126 q164 q4022 nh_X9 rfl (by decide) (by decide) (Nat.le_of_ble_eq_true rfl) dX9_erase_17) (fun v6 h7 => ?_)
    refine vv_aload_n (pc := 20) X (kf := 0) (i := 0) rfl 0 rfl dX9_erase_20 ?_
    refine vv_aload_n (pc := 21) X (kf := 0) (i := 0) rfl 0 rfl dX9_erase_21 ?_
    refine vv_iload_n (pc := 22) X (kf := 1) (i := 1) rfl 1 rfl dX9_erase_22 ?_
    refine vv_rcv (fun b12 t9 c9 fs9 e13 g9 k9 => ?_)
    cases List.mem_singleton.mp k9
    refine vv_callI (pc := 23) (rest := [LR (some a0)]) (by rw [e13]; rfl) (fun r8 k8 e8 => zz_callV X (m_X9_eraseNow (hlM X) _ _ _ _ _ e8) g9 rfl rfl q3735 q3737 qs85 q164 q3738 nh_X9 rfl (by decide) (by decide) (Nat.le_of_ble_eq_true rfl) dX9_erase_23) (fun v10 h11 => ?_)
    refine vv_rcv (fun b16 t9 c9 fs9 e17 g9 k9 => ?_)
    cases List.mem_singleton.mp k9
    refine vv_callI (pc := 26) (rest := []) (by rw [e17]; rfl) (fun r8 k8 e8 => zz_callV X (m_X9_recorded (hlM X) _ _ _ _ _ e8) g9 rfl rfl q4023 q4025 qs127 q164 q4026 nh_X9 rfl (by decide) (by decide) (Nat.le_of_ble_eq_true rfl) dX9_erase_26) (fun v14 h15 => ?_)
    exact vv_iretI X rfl rfl dX9_erase_29
  · refine vv_iconst (pc := 14) X dX9_erase_14 ?_
    exact vv_iretI X rfl rfl dX9_erase_15
theorem m_X9_erase {l : Launch} (hl : l.stackTraces = false) {G : va_G} (a0 : Nat) (a1 : Int) (h : HP) : ∀ r hf, f_X9_erase a0 a1 h = some (r, hf) → Ct l yX9_erase (ws_ yX9_erase cX9_erase 2 (some .int)) 9 272 G h [.ref a0, .int (iI a1)] (jI r) hf :=
  zz_ofW hl (by decide +kernel) (lv := [(0, LR (some a0)), (1, LI a1)]) (by simp [lv_args, lvL, lvV, zz_rfc, zz_rfs, zz_ci, zz_cr, zz_cj, zz_cf, zz_cd]) (by simp [lg_sl, zz_rfc, zz_ci, zz_cr, zz_cj, zz_cf, zz_cd]) (fun _ X => A_X9_erase X a0 a1 h)
