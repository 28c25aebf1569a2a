/-! STAGE 1c: functions and contracts (printed by gen/mkfuncs.py). -/
set_option maxRecDepth 100000
set_option linter.unusedVariables false
-- X9_renamed RenamedWordsModel.renamed(III)I
noncomputable def b_X9_renamed_45 (h : HP) : Option ((Int) × HP) :=
  some (0, h)
theorem B_X9_renamed_45 {M : hp_M} {G : va_G} {h0 : HP} (X : hp_X M G h0 "RenamedWordsModel" "renamed" cX9_renamed 5 (some .int) [] 6 183) (h : HP) : vv M G h0 5 (hp_End M G h0) jI h 45 [] [] (b_X9_renamed_45 h) := by
  unfold b_X9_renamed_45
  refine vv_iconst (pc := 45) X dX9_renamed_45 ?_
  exact vv_iretI X rfl rfl dX9_renamed_46
noncomputable def c_X9_renamed_50 (r50 : Option Nat → Int → Int → Int → Int → HP → Option ((Int) × HP)) (x0 : Option Nat) (x1 : Int) (x2 : Int) (x3 : Int) (x4 : Int) (h : HP) : Option ((Int) × HP) :=
  (rcv h x0 [7]).bind fun b20 =>
  hb (f_X9_of b20 x1 0 h) fun v18 h19 =>
  iLE v18 x4
    (some ((-1), h19))
    ((rcv h19 x0 [7]).bind fun b24 =>
    hb (f_X9_of b24 x1 (10 + x4) h19) fun v22 h23 =>
    iEQ v22 x3
      ((rdR h23 x0 [7] 0).bind fun v26 =>
      (aldI h23 .int v26 ((16 + x2) + x4)).bind fun v27 =>
      some (v27, h23))
      (r50 x0 x1 x2 x3 (x4 + 1) h23))
noncomputable def b_X9_renamed_50 : Option Nat → Int → Int → Int → Int → HP → Option ((Int) × HP) := fx (fun _ _ _ _ _ _ => none) (c_X9_renamed_50) FU
theorem C_X9_renamed_50 {M : hp_M} {G : va_G} {h0 : HP} (X : hp_X M G h0 "RenamedWordsModel" "renamed" cX9_renamed 5 (some .int) [] 6 183) (r50 : Option Nat → Int → Int → Int → Int → HP → Option ((Int) × HP)) (hr50 : ∀ (y0 : Option Nat) (y1 : Int) (y2 : Int) (y3 : Int) (y4 : Int) (h : HP), vv M G h0 5 (hp_End M G h0) jI h 50 [(0, LR y0), (1, LI y1), (2, LI y2), (3, LI y3), (4, LI y4)] [] (r50 y0 y1 y2 y3 y4 h)) (x0 : Option Nat) (x1 : Int) (x2 : Int) (x3 : Int) (x4 : Int) (h : HP) : vv M G h0 5 (hp_End M G h0) jI h 50 [(0, LR x0), (1, LI x1), (2, LI x2), (3, LI x3), (4, LI x4)] [] (c_X9_renamed_50 r50 x0 x1 x2 x3 x4 h) := by
  unfold c_X9_renamed_50
  refine vv_iload (pc := 50) X 4 rfl dX9_renamed_50 ?_
  refine vv_aload_n (pc := 52) X (kf := 0) (i := 0) rfl 0 rfl dX9_renamed_52 ?_
  refine vv_iload_n (pc := 53) X (kf := 1) (i := 1) rfl 1 rfl dX9_renamed_53 ?_
  refine vv_iconst (pc := 54) X dX9_renamed_54 ?_
  refine vv_rcv (fun b20 t9 c9 fs9 e21 g9 k9 => ?_)
  cases List.mem_singleton.mp k9
  refine vv_callI (pc := 55) (rest := [LI x4]) (by rw [e21]; rfl) (fun r8 k8 e8 => zz_callV X (m_X9_of (hlM X) _ _ _ _ _ _ e8) g9 rfl rfl q3777 q3779 qs94 q164 q3780 nh_X9 rfl (by decide) (by decide) (Nat.le_of_ble_eq_true rfl) dX9_renamed_55) (fun v18 h19 => ?_)
  refine vv_icmp_ge (pc := 58) (tgt := 94) X dX9_renamed_58 rfl ?_ ?_
  · refine vv_iconst (pc := 94) X dX9_renamed_94 ?_
    exact vv_iretI X rfl rfl dX9_renamed_95
  · refine vv_aload_n (pc := 61) X (kf := 0) (i := 0) rfl 0 rfl dX9_renamed_61 ?_
    refine vv_iload_n (pc := 62) X (kf := 1) (i := 1) rfl 1 rfl dX9_renamed_62 ?_
    refine vv_bipush (pc := 63) X (by decide) dX9_renamed_63 ?_
    refine vv_iload (pc := 65) X 4 rfl dX9_renamed_65 ?_
    refine vv_iadd (pc := 67) X dX9_renamed_67 ?_
    refine vv_rcv (fun b24 t9 c9 fs9 e25 g9 k9 => ?_)
    cases List.mem_singleton.mp k9
    refine vv_callI (pc := 68) (rest := []) (by rw [e25]; rfl) (fun r8 k8 e8 => zz_callV X (m_X9_of (hlM X) _ _ _ _ _ _ e8) g9 rfl rfl q3777 q3779 qs94 q164 q3780 nh_X9 rfl (by decide) (by decide) (Nat.le_of_ble_eq_true rfl) dX9_renamed_68) (fun v22 h23 => ?_)
    refine vv_iload_n (pc := 71) X (kf := 3) (i := 3) rfl 3 rfl dX9_renamed_71 ?_
    refine vv_icmp_ne (pc := 72) (tgt := 88) X dX9_renamed_72 rfl ?_ ?_
    · refine vv_iinc (pc := 88) (lv' := [(4, LI (x4 + 1)), (0, LR x0), (1, LI x1), (2, LI x2), (3, LI x3)]) X 4 rfl (by decide) rfl dX9_renamed_88 ?_
      refine vv_goto (pc := 91) (tgt := 50) X dX9_renamed_91 rfl ?_
      exact vv_sub [1, 2, 3, 4, 0] (by rfl) (hr50 _ _ _ _ _ _)
    · refine vv_aload_n (pc := 75) X (kf := 0) (i := 0) rfl 0 rfl dX9_renamed_75 ?_
      refine vv_getR (pc := 76) X (fun _ z => by cases List.mem_singleton.mp z; exact fl_X9_9_7) dX9_renamed_76 (fun v26 => ?_)
      refine vv_bipush (pc := 79) X (by decide) dX9_renamed_79 ?_
      refine vv_iload_n (pc := 81) X (kf := 2) (i := 2) rfl 2 rfl dX9_renamed_81 ?_
      refine vv_iadd (pc := 82) X dX9_renamed_82 ?_
      refine vv_iload (pc := 83) X 4 rfl dX9_renamed_83 ?_
      refine vv_iadd (pc := 85) X dX9_renamed_85 ?_
      refine vv_iaload (pc := 86) X dX9_renamed_86 (fun v27 => ?_)
      exact vv_iretI X rfl rfl dX9_renamed_87
theorem B_X9_renamed_50 {M : hp_M} {G : va_G} {h0 : HP} (X : hp_X M G h0 "RenamedWordsModel" "renamed" cX9_renamed 5 (some .int) [] 6 183) : ∀ (x0 : Option Nat) (x1 : Int) (x2 : Int) (x3 : Int) (x4 : Int) (h : HP), vv M G h0 5 (hp_End M G h0) jI h 50 [(0, LR x0), (1, LI x1), (2, LI x2), (3, LI x3), (4, LI x4)] [] (b_X9_renamed_50 x0 x1 x2 x3 x4 h) := by
  unfold b_X9_renamed_50
  generalize FU = n
  induction n with
  | zero => intro x0 x1 x2 x3 x4 h; exact vv_none
  | succ n ih => exact C_X9_renamed_50 X _ ih
noncomputable def b_X9_renamed_38 (x0 : Option Nat) (x1 : Int) (x2 : Int) (x3 : Int) (s0 : Int) (s1 : Option Nat) (h : HP) : Option ((Int) × HP) :=
  (rcv h s1 [7]).bind fun b16 =>
  hb (f_X9_fails b16 s0 3 h) fun v14 h15 =>
  iEQ v14 0
    (b_X9_renamed_50 x0 x1 x2 x3 0 h15)
    (b_X9_renamed_45 h15)
theorem B_X9_renamed_38 {M : hp_M} {G : va_G} {h0 : HP} (X : hp_X M G h0 "RenamedWordsModel" "renamed" cX9_renamed 5 (some .int) [] 6 183) (x0 : Option Nat) (x1 : Int) (x2 : Int) (x3 : Int) (s0 : Int) (s1 : Option Nat) (h : HP) : vv M G h0 5 (hp_End M G h0) jI h 38 [(0, LR x0), (1, LI x1), (2, LI x2), (3, LI x3)] [LI s0, LR s1] (b_X9_renamed_38 x0 x1 x2 x3 s0 s1 h) := by
  unfold b_X9_renamed_38
  refine vv_iconst (pc := 38) X dX9_renamed_38 ?_
  refine vv_rcv (fun b16 t9 c9 fs9 e17 g9 k9 => ?_)
  cases List.mem_singleton.mp k9
  refine vv_callI (pc := 39) (rest := []) (by rw [e17]; rfl) (fun r8 k8 e8 => zz_callV X (m_X9_fails (hlM X) _ _ _ _ _ _ e8) g9 rfl rfl q3841 q3843 qs109 q164 q3844 nh_X9 rfl (by decide) (by decide) (Nat.le_of_ble_eq_true rfl) dX9_renamed_39) (fun v14 h15 => ?_)
  refine vv_if_eq (pc := 42) (tgt := 47) X dX9_renamed_42 rfl ?_ ?_
  · refine vv_iconst (pc := 47) X dX9_renamed_47 ?_
    refine vv_istore (pc := 48) (lv' := [(4, LI 0), (0, LR x0), (1, LI x1), (2, LI x2), (3, LI x3)]) X (by decide) rfl dX9_renamed_48 ?_
    exact vv_sub [1, 2, 3, 4, 0] (by rfl) (B_X9_renamed_50 X _ _ _ _ _ _)
  · exact vv_sub [] (by rfl) (B_X9_renamed_45 X _)
noncomputable def f_X9_renamed (a0 : Nat) (a1 : Int) (a2 : Int) (a3 : Int) (h : HP) : Option ((Int) × HP) :=
  (wrI h (some a0) [7] 7 0).bind fun h1 =>
  (rcv h1 (some a0) [7]).bind fun b4 =>
  hb (f_X9_noThere b4 a1 a2 h1) fun v2 h3 =>
  iEQ v2 0
    ((rcv h3 (some a0) [7]).bind fun b8 =>
    hb (f_X9_noLetter b8 a3 2 h3) fun v6 h7 =>
    iEQ v6 0
      ((rcv h7 (some a0) [7]).bind fun b12 =>
      hb (f_X9_isThere b12 a1 a2 h7) fun v10 h11 =>
      iEQ v10 0
        (b_X9_renamed_38 (some a0) a1 a2 a3 1 (some a0) h11)
        (b_X9_renamed_38 (some a0) a1 a2 a3 0 (some a0) h11))
      (b_X9_renamed_45 h7))
    (b_X9_renamed_45 h3)
theorem A_X9_renamed {M : hp_M} {G : va_G} {h0 : HP} (X : hp_X M G h0 "RenamedWordsModel" "renamed" cX9_renamed 5 (some .int) [] 6 183) (a0 : Nat) (a1 : Int) (a2 : Int) (a3 : Int) (h : HP) : vv M G h0 5 (hp_End M G h0) jI h 0 [(0, LR (some a0)), (1, LI a1), (2, LI a2), (3, LI a3)] [] (f_X9_renamed a0 a1 a2 a3 h) := by
  unfold f_X9_renamed
  refine vv_aload_n (pc := 0) X (kf := 0) (i := 0) rfl 0 rfl dX9_renamed_0 ?_
  refine vv_iconst (pc := 1) X dX9_renamed_1 ?_
  refine vv_putI (pc := 2) (fin := false) X (fun _ z => by cases List.mem_singleton.mp z; exact fl_X9_69_7) (fun z => nomatch z) (fun z => nomatch z) dX9_renamed_2 (fun h1 => ?_)
  refine vv_aload_n (pc := 5) X (kf := 0) (i := 0) rfl 0 rfl dX9_renamed_5 ?_
  refine vv_iload_n (pc := 6) X (kf := 1) (i := 1) rfl 1 rfl dX9_renamed_6 ?_
  refine vv_iload_n (pc := 7) X (kf := 2) (i := 2) rfl 2 rfl dX9_renamed_7 ?_
  refine vv_rcv (fun b4 t9 c9 fs9 e5 g9 k9 => ?_)
  cases List.mem_singleton.mp k9
  refine vv_callI (pc := 8) (rest := []) (by rw [e5]; rfl) (fun r8 k8 e8 => zz_callV X (m_X9_noThere (hlM X) _ _ _ _ _ _ e8) g9 rfl rfl q3942 q3944 qs120 q164 q3945 nh_X9 rfl (by decide) (by decide) (Nat.le_of_ble_eq_true rfl) dX9_renamed_8) (fun v2 h3 => ?_)
  refine vv_if_ne (pc := 11) (tgt := 45) X dX9_renamed_11 rfl ?_ ?_
  · exact vv_sub [] (by rfl) (B_X9_renamed_45 X _)
  · refine vv_aload_n (pc := 14) X (kf := 0) (i := 0) rfl 0 rfl dX9_renamed_14 ?_
    refine vv_iload_n (pc := 15) X (kf := 3) (i := 3) rfl 3 rfl dX9_renamed_15 ?_
    refine vv_iconst (pc := 16) X dX9_renamed_16 ?_
    refine vv_rcv (fun b8 t9 c9 fs9 e9 g9 k9 => ?_)
    cases List.mem_singleton.mp k9
    refine vv_callI (pc := 17) (rest := []) (by rw [e9]; rfl) (fun r8 k8 e8 => zz_callV X (m_X9_noLetter (hlM X) _ _ _ _ _ _ e8) g9 rfl rfl q3958 q3960 qs121 q164 q3961 nh_X9 rfl (by decide) (by decide) (Nat.le_of_ble_eq_true rfl) dX9_renamed_17) (fun v6 h7 => ?_)
    refine vv_if_ne (pc := 20) (tgt := 45) X dX9_renamed_20 rfl ?_ ?_
    · exact vv_sub [] (by rfl) (B_X9_renamed_45 X _)
    · refine vv_aload_n (pc := 23) X (kf := 0) (i := 0) rfl 0 rfl dX9_renamed_23 ?_
      refine vv_aload_n (pc := 24) X (kf := 0) (i := 0) rfl 0 rfl dX9_renamed_24 ?_
      refine vv_iload_n (pc := 25) X (kf := 1) (i := 1) rfl 1 rfl dX9_renamed_25 ?_
      refine vv_iload_n (pc := 26) X (kf := 2) (i := 2) rfl 2 rfl dX9_renamed_26 ?_
      refine vv_rcv (fun b12 t9 c9 fs9 e13 g9 k9 => ?_)
      cases List.mem_singleton.mp k9
      refine vv_callI (pc := 27) (rest := [LR (some a0)]) (by rw [e13]; rfl) (fun r8 k8 e8 => zz_callV X (m_X9_isThere (hlM X) _ _ _ _ _ _ e8) g9 rfl rfl q3763 q3765 qs92 q164 q3766 nh_X9 rfl (by decide) (by decide) (Nat.le_of_ble_eq_true rfl) dX9_renamed_27) (fun v10 h11 => ?_)
      refine vv_if_ne (pc := 30) (tgt := 37) X dX9_renamed_30 rfl ?_ ?_
      · refine vv_iconst (pc := 37) X dX9_renamed_37 ?_
        exact B_X9_renamed_38 X _ _ _ _ _ _ _
      · refine vv_iconst (pc := 33) X dX9_renamed_33 ?_
        refine vv_goto (pc := 34) (tgt := 38) X dX9_renamed_34 rfl ?_
        exact B_X9_renamed_38 X _ _ _ _ _ _ _
theorem m_X9_renamed {l : Launch} (hl : l.stackTraces = false) {G : va_G} (a0 : Nat) (a1 : Int) (a2 : Int) (a3 : Int) (h : HP) : ∀ r hf, f_X9_renamed a0 a1 a2 a3 h = some (r, hf) → Ct l yX9_renamed (ws_ yX9_renamed cX9_renamed 5 (some .int)) 6 183 G h [.ref a0, .int (iI a1), .int (iI a2), .int (iI a3)] (jI r) hf :=
  zz_ofW hl (by decide +kernel) (lv := [(0, LR (some a0)), (1, LI a1), (2, LI a2), (3, LI a3)]) (by simp [lv_args, lvL, lvV, zz_rfc, zz_rfs, zz_ci, zz_cr, zz_cj, zz_cf, zz_cd]) (by simp [lg_sl, zz_rfc, zz_ci, zz_cr, zz_cj, zz_cf, zz_cd]) (fun _ X => A_X9_renamed X a0 a1 a2 a3 h)
-- X2_hit RenamedWords$Desk.hit(II)I
noncomputable def b_X2_hit_50 (h : HP) : Option ((Int) × HP) :=
  some ((-1), h)
theorem B_X2_hit_50 {M : hp_M} {G : va_G} {h0 : HP} (X : hp_X M G h0 "RenamedWords$Desk" "hit" cX2_hit 5 (some .int) [] 8 244) (h : HP) : vv M G h0 5 (hp_End M G h0) jI h 50 [] [] (b_X2_hit_50 h) := by
  unfold b_X2_hit_50
  refine vv_iconst (pc := 50) X dX2_hit_50 ?_
  exact vv_iretI X rfl rfl dX2_hit_51
noncomputable def b_X2_hit_44 (r5 : Option Nat → Int → Int → Int → Int → HP → Option ((Int) × HP)) (x0 : Option Nat) (x1 : Int) (x2 : Int) (x3 : Int) (x4 : Int) (h : HP) : Option ((Int) × HP) :=
  r5 x0 x1 x2 x3 (x4 + 1) h
theorem B_X2_hit_44 {M : hp_M} {G : va_G} {h0 : HP} (X : hp_X M G h0 "RenamedWords$Desk" "hit" cX2_hit 5 (some .int) [] 8 244) (r5 : Option Nat → Int → Int → Int → Int → HP → Option ((Int) × HP)) (hr5 : ∀ (y0 : Option Nat) (y1 : Int) (y2 : Int) (y3 : Int) (y4 : Int) (h : HP), vv M G h0 5 (hp_End M G h0) jI h 5 [(0, LR y0), (1, LI y1), (2, LI y2), (3, LI y3), (4, LI y4)] [] (r5 y0 y1 y2 y3 y4 h)) (x0 : Option Nat) (x1 : Int) (x2 : Int) (x3 : Int) (x4 : Int) (h : HP) : vv M G h0 5 (hp_End M G h0) jI h 44 [(0, LR x0), (1, LI x1), (2, LI x2), (3, LI x3), (4, LI x4)] [] (b_X2_hit_44 r5 x0 x1 x2 x3 x4 h) := by
  unfold b_X2_hit_44
  refine vv_iinc (pc := 44) (lv' := [(4, LI (x4 + 1)), (0, LR x0), (1, LI x1), (2, LI x2), (3, LI x3)]) X 4 rfl (by decide) rfl dX2_hit_44 ?_
  refine vv_goto (pc := 47) (tgt := 5) X dX2_hit_47 rfl ?_
  exact vv_sub [1, 2, 3, 4, 0] (by rfl) (hr5 _ _ _ _ _ _)
noncomputable def c_X2_hit_5 (r5 : Option Nat → Int → Int → Int → Int → HP → Option ((Int) × HP)) (x0 : Option Nat) (x1 : Int) (x2 : Int) (x3 : Int) (x4 : Int) (h : HP) : Option ((Int) × HP) :=
  (rdR h x0 [1] 0).bind fun v1 =>
  (rdI h v1 [3] 3).bind fun v2 =>
  iLE v2 x4
    (b_X2_hit_50 h)
    (iLT x2 0
      (b_X2_hit_50 h)
      ((rcv h x0 [1]).bind fun b5 =>
      hb (f_X2_isAt b5 x1 x4 h) fun v3 h4 =>
      iEQ v3 0
        (b_X2_hit_44 r5 x0 x1 x2 x3 x4 h4)
        (iEQ x3 0
          (some (x4, h4))
          (b_X2_hit_44 r5 x0 x1 x2 (x3 + (-1)) x4 h4))))
noncomputable def b_X2_hit_5 : Option Nat → Int → Int → Int → Int → HP → Option ((Int) × HP) := fx (fun _ _ _ _ _ _ => none) (c_X2_hit_5) FU
theorem C_X2_hit_5 {M : hp_M} {G : va_G} {h0 : HP} (X : hp_X M G h0 "RenamedWords$Desk" "hit" cX2_hit 5 (some .int) [] 8 244) (r5 : Option Nat → Int → Int → Int → Int → HP → Option ((Int) × HP)) (hr5 : ∀ (y0 : Option Nat) (y1 : Int) (y2 : Int) (y3 : Int) (y4 : Int) (h : HP), vv M G h0 5 (hp_End M G h0) jI h 5 [(0, LR y0), (1, LI y1), (2, LI y2), (3, LI y3), (4, LI y4)] [] (r5 y0 y1 y2 y3 y4 h)) (x0 : Option Nat) (x1 : Int) (x2 : Int) (x3 : Int) (x4 : Int) (h : HP) : vv M G h0 5 (hp_End M G h0) jI h 5 [(0, LR x0), (1, LI x1), (2, LI x2), (3, LI x3), (4, LI x4)] [] (c_X2_hit_5 r5 x0 x1 x2 x3 x4 h) := by
  unfold c_X2_hit_5
  refine vv_iload (pc := 5) X 4 rfl dX2_hit_5 ?_
  refine vv_aload_n (pc := 7) X (kf := 0) (i := 0) rfl 0 rfl dX2_hit_7 ?_
  refine vv_getR (pc := 8) X (fun _ z => by cases List.mem_singleton.mp z; exact fl_X2_12_1) dX2_hit_8 (fun v1 => ?_)
  refine vv_getI (pc := 11) X (fun _ z => by cases List.mem_singleton.mp z; exact fl_X2_123_3) dX2_hit_11 (fun v2 => ?_)
  refine vv_icmp_ge (pc := 14) (tgt := 50) X dX2_hit_14 rfl ?_ ?_
  · exact vv_sub [] (by rfl) (B_X2_hit_50 X _)
  · refine vv_iload_n (pc := 17) X (kf := 2) (i := 2) rfl 2 rfl dX2_hit_17 ?_
    refine vv_if_lt (pc := 18) (tgt := 50) X dX2_hit_18 rfl ?_ ?_
    · exact vv_sub [] (by rfl) (B_X2_hit_50 X _)
    · refine vv_aload_n (pc := 21) X (kf := 0) (i := 0) rfl 0 rfl dX2_hit_21 ?_
      refine vv_iload_n (pc := 22) X (kf := 1) (i := 1) rfl 1 rfl dX2_hit_22 ?_
      refine vv_iload (pc := 23) X 4 rfl dX2_hit_23 ?_
      refine vv_rcv (fun b5 t9 c9 fs9 e6 g9 k9 => ?_)
      cases List.mem_singleton.mp k9
      refine vv_callI (pc := 25) (rest := []) (by rw [e6]; rfl) (fun r8 k8 e8 => zz_callV X (m_X2_isAt (hlM X) _ _ _ _ _ _ e8) g9 rfl rfl q2596 q2597 q2598 q133 q2599 nh_X2 rfl (by decide) (by decide) (Nat.le_of_ble_eq_true rfl) dX2_hit_25) (fun v3 h4 => ?_)
      refine vv_if_ne (pc := 28) (tgt := 34) X dX2_hit_28 rfl ?_ ?_
      · refine vv_iload_n (pc := 34) X (kf := 3) (i := 3) rfl 3 rfl dX2_hit_34 ?_
        refine vv_if_ne (pc := 35) (tgt := 41) X dX2_hit_35 rfl ?_ ?_
        · refine vv_iinc (pc := 41) (lv' := [(3, LI (x3 + (-1))), (0, LR x0), (1, LI x1), (2, LI x2), (4, LI x4)]) X 3 rfl (by decide) rfl dX2_hit_41 ?_
          exact vv_sub [1, 2, 3, 0, 4] (by rfl) (B_X2_hit_44 X r5 hr5 _ _ _ _ _ _)
        · refine vv_iload (pc := 38) X 4 rfl dX2_hit_38 ?_
          exact vv_iretI X rfl rfl dX2_hit_40
      · refine vv_goto (pc := 31) (tgt := 44) X dX2_hit_31 rfl ?_
        exact B_X2_hit_44 X r5 hr5 _ _ _ _ _ _
theorem B_X2_hit_5 {M : hp_M} {G : va_G} {h0 : HP} (X : hp_X M G h0 "RenamedWords$Desk" "hit" cX2_hit 5 (some .int) [] 8 244) : ∀ (x0 : Option Nat) (x1 : Int) (x2 : Int) (x3 : Int) (x4 : Int) (h : HP), vv M G h0 5 (hp_End M G h0) jI h 5 [(0, LR x0), (1, LI x1), (2, LI x2), (3, LI x3), (4, LI x4)] [] (b_X2_hit_5 x0 x1 x2 x3 x4 h) := by
  unfold b_X2_hit_5
  generalize FU = n
  induction n with
  | zero => intro x0 x1 x2 x3 x4 h; exact vv_none
  | succ n ih => exact C_X2_hit_5 X _ ih
noncomputable def f_X2_hit (a0 : Nat) (a1 : Int) (a2 : Int) (h : HP) : Option ((Int) × HP) :=
  b_X2_hit_5 (some a0) a1 a2 a2 0 h
theorem A_X2_hit {M : hp_M} {G : va_G} {h0 : HP} (X : hp_X M G h0 "RenamedWords$Desk" "hit" cX2_hit 5 (some .int) [] 8 244) (a0 : Nat) (a1 : Int) (a2 : Int) (h : HP) : vv M G h0 5 (hp_End M G h0) jI h 0 [(0, LR (some a0)), (1, LI a1), (2, LI a2)] [] (f_X2_hit a0 a1 a2 h) := by
  unfold f_X2_hit
  refine vv_iload_n (pc := 0) X (kf := 2) (i := 2) rfl 2 rfl dX2_hit_0 ?_
  refine vv_istore_n (pc := 1) (lv' := [(3, LI a2), (0, LR (some a0)), (1, LI a1), (2, LI a2)]) X (kf := 3) (i := 3) rfl (by decide) rfl dX2_hit_1 ?_
  refine vv_iconst (pc := 2) X dX2_hit_2 ?_
  refine vv_istore (pc := 3) (lv' := [(4, LI 0), (3, LI a2), (0, LR (some a0)), (1, LI a1), (2, LI a2)]) X (by decide) rfl dX2_hit_3 ?_
  exact vv_sub [2, 3, 4, 1, 0] (by rfl) (B_X2_hit_5 X _ _ _ _ _ _)
theorem m_X2_hit {l : Launch} (hl : l.stackTraces = false) {G : va_G} (a0 : Nat) (a1 : Int) (a2 : Int) (h : HP) : ∀ r hf, f_X2_hit a0 a1 a2 h = some (r, hf) → Ct l yX2_hit (ws_ yX2_hit cX2_hit 5 (some .int)) 8 244 G h [.ref a0, .int (iI a1), .int (iI a2)] (jI r) hf :=
  zz_ofW hl (by decide +kernel) (lv := [(0, LR (some a0)), (1, LI a1), (2, LI a2)]) (by simp [lv_args, lvL, lvV, zz_rfc, zz_rfs, zz_ci, zz_cr, zz_cj, zz_cf, zz_cd]) (by simp [lg_sl, zz_rfc, zz_ci, zz_cr, zz_cj, zz_cf, zz_cd]) (fun _ X => A_X2_hit X a0 a1 a2 h)
-- X1_hit RenamedWords.hit(II)I
noncomputable def f_X1_hit (a0 : Nat) (a1 : Int) (a2 : Int) (h : HP) : Option ((Nat ⊕ Int) × HP) :=
  (rcv h (some a0) [0]).bind fun b3 =>
  hbx (f_X1_patternAt b3 a1 h) (fun q5 h6 =>
      some (.inl q5, h6)) fun v1 h2 =>
  (rdR h2 (some a0) [0] 0).bind fun v7 =>
  (rcv h2 v7 [1]).bind fun b10 =>
  hb (f_X2_hit b10 a1 a2 h2) fun v8 h9 =>
  some (.inr v8, h9)
theorem A_X1_hit {M : hp_M} {G : va_G} {h0 : HP} (X : hp_X M G h0 "RenamedWords" "hit" cX1_hit 4 (some .int) [] 9 276) (a0 : Nat) (a1 : Int) (a2 : Int) (h : HP) : vv M G h0 4 (hp_End M G h0) xI h 0 [(0, LR (some a0)), (1, LI a1), (2, LI a2)] [] (f_X1_hit a0 a1 a2 h) := by
  unfold f_X1_hit
  refine vv_aload_n (pc := 0) X (kf := 0) (i := 0) rfl 0 rfl dX1_hit_0 ?_
  refine vv_iload_n (pc := 1) X (kf := 1) (i := 1) rfl 1 rfl dX1_hit_1 ?_
  refine vv_rcv (fun b3 t9 c9 fs9 e4 g9 k9 => ?_)
  cases List.mem_singleton.mp k9
  refine vv_xallR (pc := 2) (rest := []) (by rw [e4]; rfl) (fun r8 k8 e8 => zz_callV X (m_X1_patternAt (hlM X) _ _ _ _ _ e8) g9 rfl rfl q3102 q3104 qs47 q132 q3105 nh_X1 rfl (by decide) (by decide) (Nat.le_of_ble_eq_true rfl) dX1_hit_2) (fun v1 h2 => ?_) (fun q5 h6 => ?_)
  · refine vv_astore_n (pc := 5) (lv' := [(3, LR v1), (0, LR (some a0)), (1, LI a1), (2, LI a2)]) X (kf := 3) (i := 3) rfl (by decide) rfl dX1_hit_5 ?_
    refine vv_aload_n (pc := 6) X (kf := 0) (i := 0) rfl 1 rfl dX1_hit_6 ?_
    refine vv_getR (pc := 7) X (fun _ z => by cases List.mem_singleton.mp z; exact fl_X1_35_0) dX1_hit_7 (fun v7 => ?_)
    refine vv_iload_n (pc := 10) X (kf := 1) (i := 1) rfl 2 rfl dX1_hit_10 ?_
    refine vv_iload_n (pc := 11) X (kf := 2) (i := 2) rfl 3 rfl dX1_hit_11 ?_
    refine vv_rcv (fun b10 t9 c9 fs9 e11 g9 k9 => ?_)
    cases List.mem_singleton.mp k9
    refine vv_callI (pc := 12) (rest := []) (by rw [e11]; rfl) (fun r8 k8 e8 => zz_callV X (m_X2_hit (hlM X) _ _ _ _ _ _ e8) g9 rfl rfl q3264 q3265 q3266 q133 q3267 nh_X2 rfl (by decide) (by decide) (Nat.le_of_ble_eq_true rfl) dX1_hit_12) (fun v8 h9 => ?_)
    exact vv_iretI X rfl rfl dX1_hit_15
  · exact vvx_out X (by decide) rfl
theorem m_X1_hit {l : Launch} (hl : l.stackTraces = false) {G : va_G} (a0 : Nat) (a1 : Int) (a2 : Int) (h : HP) : ∀ r hf, f_X1_hit a0 a1 a2 h = some (r, hf) → Ct l yX1_hit (ws_ yX1_hit cX1_hit 4 (some .int)) 9 276 G h [.ref a0, .int (iI a1), .int (iI a2)] (xI r) hf :=
  zz_ofW hl (by decide +kernel) (lv := [(0, LR (some a0)), (1, LI a1), (2, LI a2)]) (by simp [lv_args, lvL, lvV, zz_rfc, zz_rfs, zz_ci, zz_cr, zz_cj, zz_cf, zz_cd]) (by simp [lg_sl, zz_rfc, zz_ci, zz_cr, zz_cj, zz_cf, zz_cd]) (fun _ X => A_X1_hit X a0 a1 a2 h)
-- X0_hit RenamedWordsLaw.hit(LRenamedWords;II[J)I
noncomputable def b_X0_hit_13 (s0 : Option Nat) (h : HP) : Option ((Int) × HP) :=
  some (1, h)
theorem B_X0_hit_13 {M : hp_M} {G : va_G} {h0 : HP} (X : hp_X M G h0 "RenamedWordsLaw" "hit" cX0_hit 5 (some .int) (tableOf [(0, 10, 13, 18)]) 10 307) (s0 : Option Nat) (h : HP) : vv M G h0 5 (hp_End M G h0) jI h 13 [] [LR s0] (b_X0_hit_13 s0 h) := by
  unfold b_X0_hit_13
  refine vv_astore (pc := 13) (lv' := [(4, LR s0)]) X (by decide) rfl dX0_hit_13 ?_
  refine vv_iconst (pc := 15) X dX0_hit_15 ?_
  exact vv_iretI X rfl rfl dX0_hit_16
noncomputable def f_X0_hit (a1 : Option Nat) (a2 : Int) (a3 : Int) (a4 : Option Nat) (h : HP) : Option ((Int) × HP) :=
  (rcv h a1 [0]).bind fun b3 =>
  hbx (f_X1_hit b3 a2 a3 h) (fun q5 h6 =>
      (clsOf h6 q5).bind fun c7 =>
      if c7 = 35 then
        b_X0_hit_13 (some q5) h6
      else
        none) fun v1 h2 =>
  (astJ h2 a4 0 (iL v1)).bind fun h8 =>
  some (0, h8)
theorem A_X0_hit {M : hp_M} {G : va_G} {h0 : HP} (X : hp_X M G h0 "RenamedWordsLaw" "hit" cX0_hit 5 (some .int) (tableOf [(0, 10, 13, 18)]) 10 307) (a1 : Option Nat) (a2 : Int) (a3 : Int) (a4 : Option Nat) (h : HP) : vv M G h0 5 (hp_End M G h0) jI h 0 [(0, LR a1), (1, LI a2), (2, LI a3), (3, LR a4)] [] (f_X0_hit a1 a2 a3 a4 h) := by
  unfold f_X0_hit
  refine vv_aload_n (pc := 0) X (kf := 3) (i := 3) rfl 3 rfl dX0_hit_0 ?_
  refine vv_iconst (pc := 1) X dX0_hit_1 ?_
  refine vv_aload_n (pc := 2) X (kf := 0) (i := 0) rfl 0 rfl dX0_hit_2 ?_
  refine vv_iload_n (pc := 3) X (kf := 1) (i := 1) rfl 1 rfl dX0_hit_3 ?_
  refine vv_iload_n (pc := 4) X (kf := 2) (i := 2) rfl 2 rfl dX0_hit_4 ?_
  refine vv_rcv (fun b3 t9 c9 fs9 e4 g9 k9 => ?_)
  cases List.mem_singleton.mp k9
  refine vv_xallI (pc := 5) (rest := [LI 0, LR a4]) (by rw [e4]; rfl) (fun r8 k8 e8 => zz_callV X (m_X1_hit (hlM X) _ _ _ _ _ _ e8) g9 rfl rfl q3260 q3261 q3262 q132 q3263 nh_X1 rfl (by decide) (by decide) (Nat.le_of_ble_eq_true rfl) dX0_hit_5) (fun v1 h2 => ?_) (fun q5 h6 => ?_)
  · refine vv_i2l (pc := 8) X dX0_hit_8 ?_
    refine vv_lastore (pc := 9) X dX0_hit_9 (fun h8 => ?_)
    refine vv_goto (pc := 10) (tgt := 17) X dX0_hit_10 rfl ?_
    refine vv_iconst (pc := 17) X dX0_hit_17 ?_
    exact vv_iretI X rfl rfl dX0_hit_18
  · refine vvx_cls (fun _ c7 _ g9 => ?_)
    refine vvx_if (fun e9 => ?_) (fun _ => ?_)
    · subst e9
      refine vvx_catch X g9 rfl [] ⟨0, 10, 13, 18⟩ [] rfl (fun z hz => nomatch hz) rfl (by decide) q3041 q2274 ?_
      exact vv_sub [] (by rfl) (B_X0_hit_13 X _ _)
    · exact vvx_none
theorem m_X0_hit {l : Launch} (hl : l.stackTraces = false) {G : va_G} (a1 : Option Nat) (a2 : Int) (a3 : Int) (a4 : Option Nat) (h : HP) : ∀ r hf, f_X0_hit a1 a2 a3 a4 h = some (r, hf) → Ct l yX0_hit (wsW_ yX0_hit cX0_hit 5 (some .int) [(0, 10, 13, 18)]) 10 307 G h [va_rf a1, .int (iI a2), .int (iI a3), va_rf a4] (jI r) hf :=
  zz_ofWH hl (by decide +kernel) (lv := [(0, LR a1), (1, LI a2), (2, LI a3), (3, LR a4)]) (by simp [lv_args, lvL, lvV, zz_rfc, zz_rfs, zz_ci, zz_cr, zz_cj, zz_cf, zz_cd]) (by simp [lg_sl, zz_rfc, zz_ci, zz_cr, zz_cj, zz_cf, zz_cd]) (fun _ X => A_X0_hit X a1 a2 a3 a4 h)
-- X9_nth RenamedWordsModel.nth(IIZ)I
noncomputable def b_X9_nth_68 (h : HP) : Option ((Int) × HP) :=
  some ((-1), h)
theorem B_X9_nth_68 {M : hp_M} {G : va_G} {h0 : HP} (X : hp_X M G h0 "RenamedWordsModel" "nth" cX9_nth 6 (some .int) [] 6 183) (h : HP) : vv M G h0 6 (hp_End M G h0) jI h 68 [] [] (b_X9_nth_68 h) := by
  unfold b_X9_nth_68
  refine vv_iconst (pc := 68) X dX9_nth_68 ?_
  exact vv_iretI X rfl rfl dX9_nth_69
noncomputable def b_X9_nth_62 (r6 : Option Nat → Int → Int → Int → Int → Int → HP → Option ((Int) × HP)) (x0 : Option Nat) (x1 : Int) (x2 : Int) (x3 : Int) (x4 : Int) (x5 : Int) (h : HP) : Option ((Int) × HP) :=
  r6 x0 x1 x2 x3 x4 (x5 + 1) h
theorem B_X9_nth_62 {M : hp_M} {G : va_G} {h0 : HP} (X : hp_X M G h0 "RenamedWordsModel" "nth" cX9_nth 6 (some .int) [] 6 183) (r6 : Option Nat → Int → Int → Int → Int → Int → HP → Option ((Int) × HP)) (hr6 : ∀ (y0 : Option Nat) (y1 : Int) (y2 : Int) (y3 : Int) (y4 : Int) (y5 : Int) (h : HP), vv M G h0 6 (hp_End M G h0) jI h 6 [(0, LR y0), (1, LI y1), (2, LI y2), (3, LI y3), (4, LI y4), (5, LI y5)] [] (r6 y0 y1 y2 y3 y4 y5 h)) (x0 : Option Nat) (x1 : Int) (x2 : Int) (x3 : Int) (x4 : Int) (x5 : Int) (h : HP) : vv M G h0 6 (hp_End M G h0) jI h 62 [(0, LR x0), (1, LI x1), (2, LI x2), (3, LI x3), (4, LI x4), (5, LI x5)] [] (b_X9_nth_62 r6 x0 x1 x2 x3 x4 x5 h) := by
  unfold b_X9_nth_62
  refine vv_iinc (pc := 62) (lv' := [(5, LI (x5 + 1)), (0, LR x0), (1, LI x1), (2, LI x2), (3, LI x3), (4, LI x4)]) X 5 rfl (by decide) rfl dX9_nth_62 ?_
  refine vv_goto (pc := 65) (tgt := 6) X dX9_nth_65 rfl ?_
  exact vv_sub [1, 2, 3, 4, 5, 0] (by rfl) (hr6 _ _ _ _ _ _ _)
noncomputable def b_X9_nth_51 (r6 : Option Nat → Int → Int → Int → Int → Int → HP → Option ((Int) × HP)) (x0 : Option Nat) (x1 : Int) (x2 : Int) (x3 : Int) (x4 : Int) (x5 : Int) (h : HP) : Option ((Int) × HP) :=
  iEQ x4 0
    (some (x5, h))
    (b_X9_nth_62 r6 x0 x1 x2 x3 (x4 + (-1)) x5 h)
theorem B_X9_nth_51 {M : hp_M} {G : va_G} {h0 : HP} (X : hp_X M G h0 "RenamedWordsModel" "nth" cX9_nth 6 (some .int) [] 6 183) (r6 : Option Nat → Int → Int → Int → Int → Int → HP → Option ((Int) × HP)) (hr6 : ∀ (y0 : Option Nat) (y1 : Int) (y2 : Int) (y3 : Int) (y4 : Int) (y5 : Int) (h : HP), vv M G h0 6 (hp_End M G h0) jI h 6 [(0, LR y0), (1, LI y1), (2, LI y2), (3, LI y3), (4, LI y4), (5, LI y5)] [] (r6 y0 y1 y2 y3 y4 y5 h)) (x0 : Option Nat) (x1 : Int) (x2 : Int) (x3 : Int) (x4 : Int) (x5 : Int) (h : HP) : vv M G h0 6 (hp_End M G h0) jI h 51 [(0, LR x0), (1, LI x1), (2, LI x2), (3, LI x3), (4, LI x4), (5, LI x5)] [] (b_X9_nth_51 r6 x0 x1 x2 x3 x4 x5 h) := by
  unfold b_X9_nth_51
  refine vv_iload (pc := 51) X 4 rfl dX9_nth_51 ?_
  refine vv_if_ne (pc := 53) (tgt := 59) X dX9_nth_53 rfl ?_ ?_
  · refine vv_iinc (pc := 59) (lv' := [(4, LI (x4 + (-1))), (0, LR x0), (1, LI x1), (2, LI x2), (3, LI x3), (5, LI x5)]) X 4 rfl (by decide) rfl dX9_nth_59 ?_
    exact vv_sub [1, 2, 3, 4, 0, 5] (by rfl) (B_X9_nth_62 X r6 hr6 _ _ _ _ _ _ _)
  · refine vv_iload (pc := 56) X 5 rfl dX9_nth_56 ?_
    exact vv_iretI X rfl rfl dX9_nth_58
noncomputable def c_X9_nth_6 (r6 : Option Nat → Int → Int → Int → Int → Int → HP → Option ((Int) × HP)) (x0 : Option Nat) (x1 : Int) (x2 : Int) (x3 : Int) (x4 : Int) (x5 : Int) (h : HP) : Option ((Int) × HP) :=
  (rdR h x0 [7] 0).bind fun v1 =>
  (aldI h .int v1 1).bind fun v2 =>
  iLE v2 x5
    (b_X9_nth_68 h)
    (iLT x2 0
      (b_X9_nth_68 h)
      (iEQ x3 0
        ((rcv h x0 [7]).bind fun b5 =>
        hb (f_X9_isCandidate b5 x1 x5 h) fun v3 h4 =>
        iEQ v3 0
          (b_X9_nth_62 r6 x0 x1 x2 x3 x4 x5 h4)
          (b_X9_nth_51 r6 x0 x1 x2 x3 x4 x5 h4))
        ((rcv h x0 [7]).bind fun b9 =>
        hb (f_X9_isThere b9 x1 x5 h) fun v7 h8 =>
        iEQ v7 0
          (b_X9_nth_62 r6 x0 x1 x2 x3 x4 x5 h8)
          (b_X9_nth_51 r6 x0 x1 x2 x3 x4 x5 h8))))
noncomputable def b_X9_nth_6 : Option Nat → Int → Int → Int → Int → Int → HP → Option ((Int) × HP) := fx (fun _ _ _ _ _ _ _ => none) (c_X9_nth_6) FU
theorem C_X9_nth_6 {M : hp_M} {G : va_G} {h0 : HP} (X : hp_X M G h0 "RenamedWordsModel" "nth" cX9_nth 6 (some .int) [] 6 183) (r6 : Option Nat → Int → Int → Int → Int → Int → HP → Option ((Int) × HP)) (hr6 : ∀ (y0 : Option Nat) (y1 : Int) (y2 : Int) (y3 : Int) (y4 : Int) (y5 : Int) (h : HP), vv M G h0 6 (hp_End M G h0) jI h 6 [(0, LR y0), (1, LI y1), (2, LI y2), (3, LI y3), (4, LI y4), (5, LI y5)] [] (r6 y0 y1 y2 y3 y4 y5 h)) (x0 : Option Nat) (x1 : Int) (x2 : Int) (x3 : Int) (x4 : Int) (x5 : Int) (h : HP) : vv M G h0 6 (hp_End M G h0) jI h 6 [(0, LR x0), (1, LI x1), (2, LI x2), (3, LI x3), (4, LI x4), (5, LI x5)] [] (c_X9_nth_6 r6 x0 x1 x2 x3 x4 x5 h) := by
  unfold c_X9_nth_6
  refine vv_iload (pc := 6) X 5 rfl dX9_nth_6 ?_
  refine vv_aload_n (pc := 8) X (kf := 0) (i := 0) rfl 0 rfl dX9_nth_8 ?_
  refine vv_getR (pc := 9) X (fun _ z => by cases List.mem_singleton.mp z; exact fl_X9_9_7) dX9_nth_9 (fun v1 => ?_)
  refine vv_iconst (pc := 12) X dX9_nth_12 ?_
  refine vv_iaload (pc := 13) X dX9_nth_13 (fun v2 => ?_)
  refine vv_icmp_ge (pc := 14) (tgt := 68) X dX9_nth_14 rfl ?_ ?_
  · exact vv_sub [] (by rfl) (B_X9_nth_68 X _)
  · refine vv_iload_n (pc := 17) X (kf := 2) (i := 2) rfl 2 rfl dX9_nth_17 ?_
    refine vv_if_lt (pc := 18) (tgt := 68) X dX9_nth_18 rfl ?_ ?_
    · exact vv_sub [] (by rfl) (B_X9_nth_68 X _)
    · refine vv_iload_n (pc := 21) X (kf := 3) (i := 3) rfl 3 rfl dX9_nth_21 ?_
      refine vv_if_eq (pc := 22) (tgt := 38) X dX9_nth_22 rfl ?_ ?_
      · refine vv_aload_n (pc := 38) X (kf := 0) (i := 0) rfl 0 rfl dX9_nth_38 ?_
        refine vv_iload_n (pc := 39) X (kf := 1) (i := 1) rfl 1 rfl dX9_nth_39 ?_
        refine vv_iload (pc := 40) X 5 rfl dX9_nth_40 ?_
        refine vv_rcv (fun b5 t9 c9 fs9 e6 g9 k9 => ?_)
        cases List.mem_singleton.mp k9
        refine vv_callI (pc := 42) (rest := []) (by rw [e6]; rfl) (fun r8 k8 e8 => zz_callV X (m_X9_isCandidate (hlM X) _ _ _ _ _ _ e8) g9 rfl rfl q3896 q3898 qs118 q164 q3899 nh_X9 rfl (by decide) (by decide) (Nat.le_of_ble_eq_true rfl) dX9_nth_42) (fun v3 h4 => ?_)
        refine vv_if_ne (pc := 45) (tgt := 51) X dX9_nth_45 rfl ?_ ?_
        · exact B_X9_nth_51 X r6 hr6 _ _ _ _ _ _ _
        · refine vv_goto (pc := 48) (tgt := 62) X dX9_nth_48 rfl ?_
          exact B_X9_nth_62 X r6 hr6 _ _ _ _ _ _ _
      · refine vv_aload_n (pc := 25) X (kf := 0) (i := 0) rfl 0 rfl dX9_nth_25 ?_
        refine vv_iload_n (pc := 26) X (kf := 1) (i := 1) rfl 1 rfl dX9_nth_26 ?_
        refine vv_iload (pc := 27) X 5 rfl dX9_nth_27 ?_
        refine vv_rcv (fun b9 t9 c9 fs9 e10 g9 k9 => ?_)
        cases List.mem_singleton.mp k9
        refine vv_callI (pc := 29) (rest := []) (by rw [e10]; rfl) (fun r8 k8 e8 => zz_callV X (m_X9_isThere (hlM X) _ _ _ _ _ _ e8) g9 rfl rfl q3763 q3765 qs92 q164 q3766 nh_X9 rfl (by decide) (by decide) (Nat.le_of_ble_eq_true rfl) dX9_nth_29) (fun v7 h8 => ?_)
        refine vv_if_ne (pc := 32) (tgt := 51) X dX9_nth_32 rfl ?_ ?_
        · exact B_X9_nth_51 X r6 hr6 _ _ _ _ _ _ _
        · refine vv_goto (pc := 35) (tgt := 62) X dX9_nth_35 rfl ?_
          exact B_X9_nth_62 X r6 hr6 _ _ _ _ _ _ _
theorem B_X9_nth_6 {M : hp_M} {G : va_G} {h0 : HP} (X : hp_X M G h0 "RenamedWordsModel" "nth" cX9_nth 6 (some .int) [] 6 183) : ∀ (x0 : Option Nat) (x1 : Int) (x2 : Int) (x3 : Int) (x4 : Int) (x5 : Int) (h : HP), vv M G h0 6 (hp_End M G h0) jI h 6 [(0, LR x0), (1, LI x1), (2, LI x2), (3, LI x3), (4, LI x4), (5, LI x5)] [] (b_X9_nth_6 x0 x1 x2 x3 x4 x5 h) := by
  unfold b_X9_nth_6
  generalize FU = n
  induction n with
  | zero => intro x0 x1 x2 x3 x4 x5 h; exact vv_none
  | succ n ih => exact C_X9_nth_6 X _ ih
noncomputable def f_X9_nth (a0 : Nat) (a1 : Int) (a2 : Int) (a3 : Int) (h : HP) : Option ((Int) × HP) :=
  b_X9_nth_6 (some a0) a1 a2 a3 a2 0 h
theorem A_X9_nth {M : hp_M} {G : va_G} {h0 : HP} (X : hp_X M G h0 "RenamedWordsModel" "nth" cX9_nth 6 (some .int) [] 6 183) (a0 : Nat) (a1 : Int) (a2 : Int) (a3 : Int) (h : HP) : vv M G h0 6 (hp_End M G h0) jI h 0 [(0, LR (some a0)), (1, LI a1), (2, LI a2), (3, LI a3)] [] (f_X9_nth a0 a1 a2 a3 h) := by
  unfold f_X9_nth
  refine vv_iload_n (pc := 0) X (kf := 2) (i := 2) rfl 2 rfl dX9_nth_0 ?_
  refine vv_istore (pc := 1) (lv' := [(4, LI a2), (0, LR (some a0)), (1, LI a1), (2, LI a2), (3, LI a3)]) X (by decide) rfl dX9_nth_1 ?_
  refine vv_iconst (pc := 3) X dX9_nth_3 ?_
  refine vv_istore (pc := 4) (lv' := [(5, LI 0), (4, LI a2), (0, LR (some a0)), (1, LI a1), (2, LI a2), (3, LI a3)]) X (by decide) rfl dX9_nth_4 ?_
  exact vv_sub [2, 3, 4, 5, 1, 0] (by rfl) (B_X9_nth_6 X _ _ _ _ _ _ _)
theorem m_X9_nth {l : Launch} (hl : l.stackTraces = false) {G : va_G} (a0 : Nat) (a1 : Int) (a2 : Int) (a3 : Int) (h : HP) : ∀ r hf, f_X9_nth a0 a1 a2 a3 h = some (r, hf) → Ct l yX9_nth (ws_ yX9_nth cX9_nth 6 (some .int)) 6 183 G h [.ref a0, .int (iI a1), .int (iI a2), .int (iI a3)] (jI r) hf :=
  zz_ofW hl (by decide +kernel) (lv := [(0, LR (some a0)), (1, LI a1), (2, LI a2), (3, LI a3)]) (by simp [lv_args, lvL, lvV, zz_rfc, zz_rfs, zz_ci, zz_cr, zz_cj, zz_cf, zz_cd]) (by simp [lg_sl, zz_rfc, zz_ci, zz_cr, zz_cj, zz_cf, zz_cd]) (fun _ X => A_X9_nth X a0 a1 a2 a3 h)
-- X9_hit RenamedWordsModel.hit(II)I
noncomputable def b_X9_hit_24 (s0 : Int) (h : HP) : Option ((Int) × HP) :=
  some (s0, h)
theorem B_X9_hit_24 {M : hp_M} {G : va_G} {h0 : HP} (X : hp_X M G h0 "RenamedWordsModel" "hit" cX9_hit 3 (some .int) [] 7 216) (s0 : Int) (h : HP) : vv M G h0 3 (hp_End M G h0) jI h 24 [] [LI s0] (b_X9_hit_24 s0 h) := by
  unfold b_X9_hit_24
  exact vv_iretI X rfl rfl dX9_hit_24
noncomputable def f_X9_hit (a0 : Nat) (a1 : Int) (a2 : Int) (h : HP) : Option ((Int) × HP) :=
  (wrI h (some a0) [7] 7 0).bind fun h1 =>
  (rcv h1 (some a0) [7]).bind fun b4 =>
  hb (f_X9_noPattern b4 a1 h1) fun v2 h3 =>
  iEQ v2 0
    ((rcv h3 (some a0) [7]).bind fun b8 =>
    hb (f_X9_nth b8 a1 a2 1 h3) fun v6 h7 =>
    b_X9_hit_24 v6 h7)
    (b_X9_hit_24 0 h3)
theorem A_X9_hit {M : hp_M} {G : va_G} {h0 : HP} (X : hp_X M G h0 "RenamedWordsModel" "hit" cX9_hit 3 (some .int) [] 7 216) (a0 : Nat) (a1 : Int) (a2 : Int) (h : HP) : vv M G h0 3 (hp_End M G h0) jI h 0 [(0, LR (some a0)), (1, LI a1), (2, LI a2)] [] (f_X9_hit a0 a1 a2 h) := by
  unfold f_X9_hit
  refine vv_aload_n (pc := 0) X (kf := 0) (i := 0) rfl 0 rfl dX9_hit_0 ?_
  refine vv_iconst (pc := 1) X dX9_hit_1 ?_
  refine vv_putI (pc := 2) (fin := false) X (fun _ z => by cases List.mem_singleton.mp z; exact fl_X9_69_7) (fun z => nomatch z) (fun z => nomatch z) dX9_hit_2 (fun h1 => ?_)
  refine vv_aload_n (pc := 5) X (kf := 0) (i := 0) rfl 0 rfl dX9_hit_5 ?_
  refine vv_iload_n (pc := 6) X (kf := 1) (i := 1) rfl 1 rfl dX9_hit_6 ?_
  refine vv_rcv (fun b4 t9 c9 fs9 e5 g9 k9 => ?_)
  cases List.mem_singleton.mp k9
  refine vv_callI (pc := 7) (rest := []) (by rw [e5]; rfl) (fun r8 k8 e8 => zz_callV X (m_X9_noPattern (hlM X) _ _ _ _ _ e8) g9 rfl rfl q3876 q3878 qs113 q164 q3879 nh_X9 rfl (by decide) (by decide) (Nat.le_of_ble_eq_true rfl) dX9_hit_7) (fun v2 h3 => ?_)
  refine vv_if_eq (pc := 10) (tgt := 17) X dX9_hit_10 rfl ?_ ?_
  · refine vv_aload_n (pc := 17) X (kf := 0) (i := 0) rfl 0 rfl dX9_hit_17 ?_
    refine vv_iload_n (pc := 18) X (kf := 1) (i := 1) rfl 1 rfl dX9_hit_18 ?_
    refine vv_iload_n (pc := 19) X (kf := 2) (i := 2) rfl 2 rfl dX9_hit_19 ?_
    refine vv_iconst (pc := 20) X dX9_hit_20 ?_
    refine vv_rcv (fun b8 t9 c9 fs9 e9 g9 k9 => ?_)
    cases List.mem_singleton.mp k9
    refine vv_callI (pc := 21) (rest := []) (by rw [e9]; rfl) (fun r8 k8 e8 => zz_callV X (m_X9_nth (hlM X) _ _ _ _ _ _ _ e8) g9 rfl rfl q3966 q3968 qs122 q164 q3969 nh_X9 rfl (by decide) (by decide) (Nat.le_of_ble_eq_true rfl) dX9_hit_21) (fun v6 h7 => ?_)
    exact vv_sub [] (by rfl) (B_X9_hit_24 X _ _)
  · refine vv_iconst (pc := 13) X dX9_hit_13 ?_
    refine vv_goto (pc := 14) (tgt := 24) X dX9_hit_14 rfl ?_
    exact vv_sub [] (by rfl) (B_X9_hit_24 X _ _)
theorem m_X9_hit {l : Launch} (hl : l.stackTraces = false) {G : va_G} (a0 : Nat) (a1 : Int) (a2 : Int) (h : HP) : ∀ r hf, f_X9_hit a0 a1 a2 h = some (r, hf) → Ct l yX9_hit (ws_ yX9_hit cX9_hit 3 (some .int)) 7 216 G h [.ref a0, .int (iI a1), .int (iI a2)] (jI r) hf :=
  zz_ofW hl (by decide +kernel) (lv := [(0, LR (some a0)), (1, LI a1), (2, LI a2)]) (by simp [lv_args, lvL, lvV, zz_rfc, zz_rfs, zz_ci, zz_cr, zz_cj, zz_cf, zz_cd]) (by simp [lg_sl, zz_rfc, zz_ci, zz_cr, zz_cj, zz_cf, zz_cd]) (fun _ X => A_X9_hit X a0 a1 a2 h)
-- J19_numberOfTrailingZeros java/lang/Integer.numberOfTrailingZeros(I)I
noncomputable def b_J19_numberOfTrailingZeros_74 (x0 : Int) (x1 : Int) (h : HP) : Option ((Int) × HP) :=
  some ((x1 + (iUshr x0 1)), h)
theorem B_J19_numberOfTrailingZeros_74 {M : hp_M} {G : va_G} {h0 : HP} (X : hp_X M G h0 "java/lang/Integer" "numberOfTrailingZeros" cJ19_numberOfTrailingZeros 2 (some .int) [] 0 0) (x0 : Int) (x1 : Int) (h : HP) : vv M G h0 2 (hp_End M G h0) jI h 74 [(0, LI x0), (1, LI x1)] [] (b_J19_numberOfTrailingZeros_74 x0 x1 h) := by
  unfold b_J19_numberOfTrailingZeros_74
  refine vv_iload_n (pc := 74) X (kf := 1) (i := 1) rfl 1 rfl dJ19_numberOfTrailingZeros_74 ?_
  refine vv_iload_n (pc := 75) X (kf := 0) (i := 0) rfl 0 rfl dJ19_numberOfTrailingZeros_75 ?_
  refine vv_iconst (pc := 76) X dJ19_numberOfTrailingZeros_76 ?_
  refine vv_iushr (pc := 77) X dJ19_numberOfTrailingZeros_77 ?_
  refine vv_iadd (pc := 78) X dJ19_numberOfTrailingZeros_78 ?_
  exact vv_iretI X rfl rfl dJ19_numberOfTrailingZeros_79
noncomputable def b_J19_numberOfTrailingZeros_62 (x0 : Int) (x1 : Int) (h : HP) : Option ((Int) × HP) :=
  iLE x0 4
    (b_J19_numberOfTrailingZeros_74 x0 x1 h)
    (b_J19_numberOfTrailingZeros_74 (iUshr x0 2) (x1 + 2) h)
theorem B_J19_numberOfTrailingZeros_62 {M : hp_M} {G : va_G} {h0 : HP} (X : hp_X M G h0 "java/lang/Integer" "numberOfTrailingZeros" cJ19_numberOfTrailingZeros 2 (some .int) [] 0 0) (x0 : Int) (x1 : Int) (h : HP) : vv M G h0 2 (hp_End M G h0) jI h 62 [(0, LI x0), (1, LI x1)] [] (b_J19_numberOfTrailingZeros_62 x0 x1 h) := by
  unfold b_J19_numberOfTrailingZeros_62
  refine vv_iload_n (pc := 62) X (kf := 0) (i := 0) rfl 0 rfl dJ19_numberOfTrailingZeros_62 ?_
  refine vv_iconst (pc := 63) X dJ19_numberOfTrailingZeros_63 ?_
  refine vv_icmp_le (pc := 64) (tgt := 74) X dJ19_numberOfTrailingZeros_64 rfl ?_ ?_
  · exact B_J19_numberOfTrailingZeros_74 X _ _ _
  · refine vv_iinc (pc := 67) (lv' := [(1, LI (x1 + 2)), (0, LI x0)]) X 1 rfl (by decide) rfl dJ19_numberOfTrailingZeros_67 ?_
    refine vv_iload_n (pc := 70) X (kf := 0) (i := 0) rfl 1 rfl dJ19_numberOfTrailingZeros_70 ?_
    refine vv_iconst (pc := 71) X dJ19_numberOfTrailingZeros_71 ?_
    refine vv_iushr (pc := 72) X dJ19_numberOfTrailingZeros_72 ?_
    refine vv_istore_n (pc := 73) (lv' := [(0, LI (iUshr x0 2)), (1, LI (x1 + 2))]) X (kf := 0) (i := 0) rfl (by decide) rfl dJ19_numberOfTrailingZeros_73 ?_
    exact B_J19_numberOfTrailingZeros_74 X _ _ _
noncomputable def b_J19_numberOfTrailingZeros_49 (x0 : Int) (x1 : Int) (h : HP) : Option ((Int) × HP) :=
  iLE x0 16
    (b_J19_numberOfTrailingZeros_62 x0 x1 h)
    (b_J19_numberOfTrailingZeros_62 (iUshr x0 4) (x1 + 4) h)
theorem B_J19_numberOfTrailingZeros_49 {M : hp_M} {G : va_G} {h0 : HP} (X : hp_X M G h0 "java/lang/Integer" "numberOfTrailingZeros" cJ19_numberOfTrailingZeros 2 (some .int) [] 0 0) (x0 : Int) (x1 : Int) (h : HP) : vv M G h0 2 (hp_End M G h0) jI h 49 [(0, LI x0), (1, LI x1)] [] (b_J19_numberOfTrailingZeros_49 x0 x1 h) := by
  unfold b_J19_numberOfTrailingZeros_49
  refine vv_iload_n (pc := 49) X (kf := 0) (i := 0) rfl 0 rfl dJ19_numberOfTrailingZeros_49 ?_
  refine vv_bipush (pc := 50) X (by decide) dJ19_numberOfTrailingZeros_50 ?_
  refine vv_icmp_le (pc := 52) (tgt := 62) X dJ19_numberOfTrailingZeros_52 rfl ?_ ?_
  · exact B_J19_numberOfTrailingZeros_62 X _ _ _
  · refine vv_iinc (pc := 55) (lv' := [(1, LI (x1 + 4)), (0, LI x0)]) X 1 rfl (by decide) rfl dJ19_numberOfTrailingZeros_55 ?_
    refine vv_iload_n (pc := 58) X (kf := 0) (i := 0) rfl 1 rfl dJ19_numberOfTrailingZeros_58 ?_
    refine vv_iconst (pc := 59) X dJ19_numberOfTrailingZeros_59 ?_
    refine vv_iushr (pc := 60) X dJ19_numberOfTrailingZeros_60 ?_
    refine vv_istore_n (pc := 61) (lv' := [(0, LI (iUshr x0 4)), (1, LI (x1 + 4))]) X (kf := 0) (i := 0) rfl (by decide) rfl dJ19_numberOfTrailingZeros_61 ?_
    exact B_J19_numberOfTrailingZeros_62 X _ _ _
noncomputable def b_J19_numberOfTrailingZeros_34 (x0 : Int) (x1 : Int) (h : HP) : Option ((Int) × HP) :=
  iLE x0 256
    (b_J19_numberOfTrailingZeros_49 x0 x1 h)
    (b_J19_numberOfTrailingZeros_49 (iUshr x0 8) (x1 + 8) h)
theorem B_J19_numberOfTrailingZeros_34 {M : hp_M} {G : va_G} {h0 : HP} (X : hp_X M G h0 "java/lang/Integer" "numberOfTrailingZeros" cJ19_numberOfTrailingZeros 2 (some .int) [] 0 0) (x0 : Int) (x1 : Int) (h : HP) : vv M G h0 2 (hp_End M G h0) jI h 34 [(0, LI x0), (1, LI x1)] [] (b_J19_numberOfTrailingZeros_34 x0 x1 h) := by
  unfold b_J19_numberOfTrailingZeros_34
  refine vv_iload_n (pc := 34) X (kf := 0) (i := 0) rfl 0 rfl dJ19_numberOfTrailingZeros_34 ?_
  refine vv_sipush (pc := 35) X (by decide) dJ19_numberOfTrailingZeros_35 ?_
  refine vv_icmp_le (pc := 38) (tgt := 49) X dJ19_numberOfTrailingZeros_38 rfl ?_ ?_
  · exact B_J19_numberOfTrailingZeros_49 X _ _ _
  · refine vv_iinc (pc := 41) (lv' := [(1, LI (x1 + 8)), (0, LI x0)]) X 1 rfl (by decide) rfl dJ19_numberOfTrailingZeros_41 ?_
    refine vv_iload_n (pc := 44) X (kf := 0) (i := 0) rfl 1 rfl dJ19_numberOfTrailingZeros_44 ?_
    refine vv_bipush (pc := 45) X (by decide) dJ19_numberOfTrailingZeros_45 ?_
    refine vv_iushr (pc := 47) X dJ19_numberOfTrailingZeros_47 ?_
    refine vv_istore_n (pc := 48) (lv' := [(0, LI (iUshr x0 8)), (1, LI (x1 + 8))]) X (kf := 0) (i := 0) rfl (by decide) rfl dJ19_numberOfTrailingZeros_48 ?_
    exact B_J19_numberOfTrailingZeros_49 X _ _ _
noncomputable def f_J19_numberOfTrailingZeros (a1 : Int) (h : HP) : Option ((Int) × HP) :=
  iLT 0 (iAnd (iXor a1 (-1)) (a1 - 1))
    (iLE (iAnd (iXor a1 (-1)) (a1 - 1)) 65536
      (b_J19_numberOfTrailingZeros_34 (iAnd (iXor a1 (-1)) (a1 - 1)) 1 h)
      (b_J19_numberOfTrailingZeros_34 (iUshr (iAnd (iXor a1 (-1)) (a1 - 1)) 16) (1 + 16) h))
    (some ((iAnd (iAnd (iXor a1 (-1)) (a1 - 1)) 32), h))
theorem A_J19_numberOfTrailingZeros {M : hp_M} {G : va_G} {h0 : HP} (X : hp_X M G h0 "java/lang/Integer" "numberOfTrailingZeros" cJ19_numberOfTrailingZeros 2 (some .int) [] 0 0) (a1 : Int) (h : HP) : vv M G h0 2 (hp_End M G h0) jI h 0 [(0, LI a1)] [] (f_J19_numberOfTrailingZeros a1 h) := by
  unfold f_J19_numberOfTrailingZeros
  refine vv_iload_n (pc := 0) X (kf := 0) (i := 0) rfl 0 rfl dJ19_numberOfTrailingZeros_0 ?_
  refine vv_iconst (pc := 1) X dJ19_numberOfTrailingZeros_1 ?_
  refine vv_ixor (pc := 2) X dJ19_numberOfTrailingZeros_2 ?_
  refine vv_iload_n (pc := 3) X (kf := 0) (i := 0) rfl 0 rfl dJ19_numberOfTrailingZeros_3 ?_
  refine vv_iconst (pc := 4) X dJ19_numberOfTrailingZeros_4 ?_
  refine vv_isub (pc := 5) X dJ19_numberOfTrailingZeros_5 ?_
  refine vv_iand (pc := 6) X dJ19_numberOfTrailingZeros_6 ?_
  refine vv_istore_n (pc := 7) (lv' := [(0, LI (iAnd (iXor a1 (-1)) (a1 - 1)))]) X (kf := 0) (i := 0) rfl (by decide) rfl dJ19_numberOfTrailingZeros_7 ?_
  refine vv_iload_n (pc := 8) X (kf := 0) (i := 0) rfl 0 rfl dJ19_numberOfTrailingZeros_8 ?_
  refine vv_if_gt (pc := 9) (tgt := 17) X dJ19_numberOfTrailingZeros_9 rfl ?_ ?_
  · refine vv_iconst (pc := 17) X dJ19_numberOfTrailingZeros_17 ?_
    refine vv_istore_n (pc := 18) (lv' := [(1, LI 1), (0, LI (iAnd (iXor a1 (-1)) (a1 - 1)))]) X (kf := 1) (i := 1) rfl (by decide) rfl dJ19_numberOfTrailingZeros_18 ?_
    refine vv_iload_n (pc := 19) X (kf := 0) (i := 0) rfl 1 rfl dJ19_numberOfTrailingZeros_19 ?_
    refine vv_ldcwI (pc := 20) (n := 65536) X q1472 (by decide) dJ19_numberOfTrailingZeros_20 ?_
    refine vv_icmp_le (pc := 23) (tgt := 34) X dJ19_numberOfTrailingZeros_23 rfl ?_ ?_
    · exact vv_sub [1, 0] (by rfl) (B_J19_numberOfTrailingZeros_34 X _ _ _)
    · refine vv_iinc (pc := 26) (lv' := [(1, LI (1 + 16)), (0, LI (iAnd (iXor a1 (-1)) (a1 - 1)))]) X 0 rfl (by decide) rfl dJ19_numberOfTrailingZeros_26 ?_
      refine vv_iload_n (pc := 29) X (kf := 0) (i := 0) rfl 1 rfl dJ19_numberOfTrailingZeros_29 ?_
      refine vv_bipush (pc := 30) X (by decide) dJ19_numberOfTrailingZeros_30 ?_
      refine vv_iushr (pc := 32) X dJ19_numberOfTrailingZeros_32 ?_
      refine vv_istore_n (pc := 33) (lv' := [(0, LI (iUshr (iAnd (iXor a1 (-1)) (a1 - 1)) 16)), (1, LI (1 + 16))]) X (kf := 0) (i := 0) rfl (by decide) rfl dJ19_numberOfTrailingZeros_33 ?_
      exact B_J19_numberOfTrailingZeros_34 X _ _ _
  · refine vv_iload_n (pc := 12) X (kf := 0) (i := 0) rfl 0 rfl dJ19_numberOfTrailingZeros_12 ?_
    refine vv_bipush (pc := 13) X (by decide) dJ19_numberOfTrailingZeros_13 ?_
    refine vv_iand (pc := 15) X dJ19_numberOfTrailingZeros_15 ?_
    exact vv_iretI X rfl rfl dJ19_numberOfTrailingZeros_16
theorem m_J19_numberOfTrailingZeros {l : Launch} (hl : l.stackTraces = false) {G : va_G} (a1 : Int) (h : HP) : ∀ r hf, f_J19_numberOfTrailingZeros a1 h = some (r, hf) → Ct l yJ19_numberOfTrailingZeros (ws_ yJ19_numberOfTrailingZeros cJ19_numberOfTrailingZeros 2 (some .int)) 0 0 G h [.int (iI a1)] (jI r) hf :=
  zz_ofW hl (by decide +kernel) (lv := [(0, LI a1)]) (by simp [lv_args, lvL, lvV, zz_rfc, zz_rfs, zz_ci, zz_cr, zz_cj, zz_cf, zz_cd]) (by simp [lg_sl, zz_rfc, zz_ci, zz_cr, zz_cj, zz_cf, zz_cd]) (fun _ X => A_J19_numberOfTrailingZeros X a1 h)
-- J25_numberOfTrailingZeros java/lang/Long.numberOfTrailingZeros(J)I
noncomputable def b_J25_numberOfTrailingZeros_25 (s0 : Int) (h : HP) : Option ((Int) × HP) :=
  some (s0, h)
theorem B_J25_numberOfTrailingZeros_25 {M : hp_M} {G : va_G} {h0 : HP} (X : hp_X M G h0 "java/lang/Long" "numberOfTrailingZeros" cJ25_numberOfTrailingZeros 3 (some .int) [] 1 29) (s0 : Int) (h : HP) : vv M G h0 3 (hp_End M G h0) jI h 25 [] [LI s0] (b_J25_numberOfTrailingZeros_25 s0 h) := by
  unfold b_J25_numberOfTrailingZeros_25
  exact vv_iretI X rfl rfl dJ25_numberOfTrailingZeros_25
noncomputable def f_J25_numberOfTrailingZeros (a1 : Int64) (h : HP) : Option ((Int) × HP) :=
  iEQ (lI a1) 0
    (hb (f_J19_numberOfTrailingZeros (lI (lUshr a1 32)) h) fun v3 h4 =>
    b_J25_numberOfTrailingZeros_25 (32 + v3) h4)
    (hb (f_J19_numberOfTrailingZeros (lI a1) h) fun v1 h2 =>
    b_J25_numberOfTrailingZeros_25 v1 h2)
theorem A_J25_numberOfTrailingZeros {M : hp_M} {G : va_G} {h0 : HP} (X : hp_X M G h0 "java/lang/Long" "numberOfTrailingZeros" cJ25_numberOfTrailingZeros 3 (some .int) [] 1 29) (a1 : Int64) (h : HP) : vv M G h0 3 (hp_End M G h0) jI h 0 [(0, LJ a1)] [] (f_J25_numberOfTrailingZeros a1 h) := by
  unfold f_J25_numberOfTrailingZeros
  refine vv_lload_n (pc := 0) X (kf := 0) (i := 0) rfl 0 rfl dJ25_numberOfTrailingZeros_0 ?_
  refine vv_l2i (pc := 1) X dJ25_numberOfTrailingZeros_1 ?_
  refine vv_istore_n (pc := 2) (lv' := [(2, LI (lI a1)), (0, LJ a1)]) X (kf := 2) (i := 2) rfl (by decide) rfl dJ25_numberOfTrailingZeros_2 ?_
  refine vv_iload_n (pc := 3) X (kf := 2) (i := 2) rfl 0 rfl dJ25_numberOfTrailingZeros_3 ?_
  refine vv_if_ne (pc := 4) (tgt := 21) X dJ25_numberOfTrailingZeros_4 rfl ?_ ?_
  · refine vv_iload_n (pc := 21) X (kf := 2) (i := 2) rfl 0 rfl dJ25_numberOfTrailingZeros_21 ?_
    refine vv_callI (pc := 22) (rest := []) (by rfl) (fun r8 k8 e8 => zz_callS X (m_J19_numberOfTrailingZeros (hlM X) _ _ _ _ e8) q1478 q1479 q155 q1480 nh_J19 rfl (by decide) (by decide) (Nat.le_of_ble_eq_true rfl) dJ25_numberOfTrailingZeros_22) (fun v1 h2 => ?_)
    exact vv_sub [] (by rfl) (B_J25_numberOfTrailingZeros_25 X _ _)
  · refine vv_bipush (pc := 7) X (by decide) dJ25_numberOfTrailingZeros_7 ?_
    refine vv_lload_n (pc := 9) X (kf := 0) (i := 0) rfl 1 rfl dJ25_numberOfTrailingZeros_9 ?_
    refine vv_bipush (pc := 10) X (by decide) dJ25_numberOfTrailingZeros_10 ?_
    refine vv_lushr (pc := 12) X dJ25_numberOfTrailingZeros_12 ?_
    refine vv_l2i (pc := 13) X dJ25_numberOfTrailingZeros_13 ?_
    refine vv_callI (pc := 14) (rest := [LI 32]) (by rfl) (fun r8 k8 e8 => zz_callS X (m_J19_numberOfTrailingZeros (hlM X) _ _ _ _ e8) q1478 q1479 q155 q1480 nh_J19 rfl (by decide) (by decide) (Nat.le_of_ble_eq_true rfl) dJ25_numberOfTrailingZeros_14) (fun v3 h4 => ?_)
    refine vv_iadd (pc := 17) X dJ25_numberOfTrailingZeros_17 ?_
    refine vv_goto (pc := 18) (tgt := 25) X dJ25_numberOfTrailingZeros_18 rfl ?_
    exact vv_sub [] (by rfl) (B_J25_numberOfTrailingZeros_25 X _ _)
theorem m_J25_numberOfTrailingZeros {l : Launch} (hl : l.stackTraces = false) {G : va_G} (a1 : Int64) (h : HP) : ∀ r hf, f_J25_numberOfTrailingZeros a1 h = some (r, hf) → Ct l yJ25_numberOfTrailingZeros (ws_ yJ25_numberOfTrailingZeros cJ25_numberOfTrailingZeros 3 (some .int)) 1 29 G h [.long a1] (jI r) hf :=
  zz_ofW hl (by decide +kernel) (lv := [(0, LJ a1)]) (by simp [lv_args, lvL, lvV, zz_rfc, zz_rfs, zz_ci, zz_cr, zz_cj, zz_cf, zz_cd]) (by simp [lg_sl, zz_rfc, zz_ci, zz_cr, zz_cj, zz_cf, zz_cd]) (fun _ X => A_J25_numberOfTrailingZeros X a1 h)
-- J40_nextSetBit java/util/BitSet.nextSetBit(I)I
noncomputable def c_J40_nextSetBit_63 (r63 : Option Nat → Int → Int64 → HP → Option ((Int) × HP)) (x0 : Option Nat) (x2 : Int) (x3 : Int64) (h : HP) : Option ((Int) × HP) :=
  iEQ (lCmp x3 0) 0
    ((rdI h x0 [33] 1).bind fun v10 =>
    iEQ (x2 + 1) v10
      (some ((-1), h))
      ((rdR h x0 [33] 0).bind fun v11 =>
      (aldJ h v11 (x2 + 1)).bind fun v12 =>
      r63 x0 (x2 + 1) v12 h))
    (hb (f_J25_numberOfTrailingZeros x3 h) fun v13 h14 =>
    some (((x2 * 64) + v13), h14))
noncomputable def b_J40_nextSetBit_63 : Option Nat → Int → Int64 → HP → Option ((Int) × HP) := fx (fun _ _ _ _ => none) (c_J40_nextSetBit_63) FU
theorem C_J40_nextSetBit_63 {M : hp_M} {G : va_G} {h0 : HP} (X : hp_X M G h0 "java/util/BitSet" "nextSetBit" cJ40_nextSetBit 5 (some .int) [] 2 59) (r63 : Option Nat → Int → Int64 → HP → Option ((Int) × HP)) (hr63 : ∀ (y0 : Option Nat) (y2 : Int) (y3 : Int64) (h : HP), vv M G h0 5 (hp_End M G h0) jI h 63 [(0, LR y0), (2, LI y2), (3, LJ y3)] [] (r63 y0 y2 y3 h)) (x0 : Option Nat) (x2 : Int) (x3 : Int64) (h : HP) : vv M G h0 5 (hp_End M G h0) jI h 63 [(0, LR x0), (2, LI x2), (3, LJ x3)] [] (c_J40_nextSetBit_63 r63 x0 x2 x3 h) := by
  unfold c_J40_nextSetBit_63
  refine vv_lload_n (pc := 63) X (kf := 3) (i := 3) rfl 2 rfl dJ40_nextSetBit_63 ?_
  refine vv_lconst (pc := 64) (v := 0) X (by decide) dJ40_nextSetBit_64 ?_
  refine vv_lcmp (pc := 65) X dJ40_nextSetBit_65 ?_
  refine vv_if_eq (pc := 66) (tgt := 79) X dJ40_nextSetBit_66 rfl ?_ ?_
  · refine vv_iinc (pc := 79) (lv' := [(2, LI (x2 + 1)), (0, LR x0), (3, LJ x3)]) X 1 rfl (by decide) rfl dJ40_nextSetBit_79 ?_
    refine vv_iload_n (pc := 82) X (kf := 2) (i := 2) rfl 0 rfl dJ40_nextSetBit_82 ?_
    refine vv_aload_n (pc := 83) X (kf := 0) (i := 0) rfl 1 rfl dJ40_nextSetBit_83 ?_
    refine vv_getI (pc := 84) X (fun _ z => by cases List.mem_singleton.mp z; exact fl_J40_7_33) dJ40_nextSetBit_84 (fun v10 => ?_)
    refine vv_icmp_ne (pc := 87) (tgt := 92) X dJ40_nextSetBit_87 rfl ?_ ?_
    · refine vv_aload_n (pc := 92) X (kf := 0) (i := 0) rfl 1 rfl dJ40_nextSetBit_92 ?_
      refine vv_getR (pc := 93) X (fun _ z => by cases List.mem_singleton.mp z; exact fl_J40_11_33) dJ40_nextSetBit_93 (fun v11 => ?_)
      refine vv_iload_n (pc := 96) X (kf := 2) (i := 2) rfl 0 rfl dJ40_nextSetBit_96 ?_
      refine vv_laload (pc := 97) X dJ40_nextSetBit_97 (fun v12 => ?_)
      refine vv_lstore_n (pc := 98) (lv' := [(3, LJ v12), (2, LI (x2 + 1)), (0, LR x0)]) X (kf := 3) (i := 3) rfl (by decide) rfl dJ40_nextSetBit_98 ?_
      refine vv_goto (pc := 99) (tgt := 63) X dJ40_nextSetBit_99 rfl ?_
      exact vv_sub [2, 1, 0] (by rfl) (hr63 _ _ _ _)
    · refine vv_iconst (pc := 90) X dJ40_nextSetBit_90 ?_
      exact vv_iretI X rfl rfl dJ40_nextSetBit_91
  · refine vv_iload_n (pc := 69) X (kf := 2) (i := 2) rfl 1 rfl dJ40_nextSetBit_69 ?_
    refine vv_bipush (pc := 70) X (by decide) dJ40_nextSetBit_70 ?_
    refine vv_imul (pc := 72) X dJ40_nextSetBit_72 ?_
    refine vv_lload_n (pc := 73) X (kf := 3) (i := 3) rfl 2 rfl dJ40_nextSetBit_73 ?_
    refine vv_callI (pc := 74) (rest := [LI (x2 * 64)]) (by rfl) (fun r8 k8 e8 => zz_callS X (m_J25_numberOfTrailingZeros (hlM X) _ _ _ _ e8) q3279 q1476 q173 q1477 nh_J25 rfl (by decide) (by decide) (Nat.le_of_ble_eq_true rfl) dJ40_nextSetBit_74) (fun v13 h14 => ?_)
    refine vv_iadd (pc := 77) X dJ40_nextSetBit_77 ?_
    exact vv_iretI X rfl rfl dJ40_nextSetBit_78
theorem B_J40_nextSetBit_63 {M : hp_M} {G : va_G} {h0 : HP} (X : hp_X M G h0 "java/util/BitSet" "nextSetBit" cJ40_nextSetBit 5 (some .int) [] 2 59) : ∀ (x0 : Option Nat) (x2 : Int) (x3 : Int64) (h : HP), vv M G h0 5 (hp_End M G h0) jI h 63 [(0, LR x0), (2, LI x2), (3, LJ x3)] [] (b_J40_nextSetBit_63 x0 x2 x3 h) := by
  unfold b_J40_nextSetBit_63
  generalize FU = n
  induction n with
  | zero => intro x0 x2 x3 h; exact vv_none
  | succ n ih => exact C_J40_nextSetBit_63 X _ ih
noncomputable def f_J40_nextSetBit (a0 : Nat) (a1 : Int) (h : HP) : Option ((Int) × HP) :=
  iLE 0 a1
    ((rcv h (some a0) [33]).bind fun b3 =>
    hb (f_J40_checkInvariants b3 h) fun _ h2 =>
    hb (f_J40_wordIndex a1 h2) fun v5 h6 =>
    (rdI h6 (some a0) [33] 1).bind fun v7 =>
    iLT v5 v7
      ((rdR h6 (some a0) [33] 0).bind fun v8 =>
      (aldJ h6 v8 v5).bind fun v9 =>
      b_J40_nextSetBit_63 (some a0) v5 (v9 &&& (lShl (-1 : Int64) a1)) h6)
      (some ((-1), h6)))
    (none)
theorem A_J40_nextSetBit {M : hp_M} {G : va_G} {h0 : HP} (X : hp_X M G h0 "java/util/BitSet" "nextSetBit" cJ40_nextSetBit 5 (some .int) [] 2 59) (a0 : Nat) (a1 : Int) (h : HP) : vv M G h0 5 (hp_End M G h0) jI h 0 [(0, LR (some a0)), (1, LI a1)] [] (f_J40_nextSetBit a0 a1 h) := by
  unfold f_J40_nextSetBit
  refine vv_iload_n (pc := 0) X (kf := 1) (i := 1) rfl 1 rfl dJ40_nextSetBit_0 ?_
  refine vv_if_ge (pc := 1) (tgt := 31) X dJ40_nextSetBit_1 rfl ?_ ?_
  · refine vv_aload_n (pc := 31) X (kf := 0) (i := 0) rfl 0 rfl dJ40_nextSetBit_31 ?_
    refine vv_rcv (fun b3 t9 c9 fs9 e4 g9 k9 => ?_)
    cases List.mem_singleton.mp k9
    refine vv_callV (pc := 32) (rest := []) (by rw [e4]; rfl) (fun r8 k8 e8 => zz_callV X (m_J40_checkInvariants (hlM X) _ _ _ _ e8) g9 rfl rfl q2918 q2920 qs42 q204 q2921 nh_J40 rfl (by decide) (by decide) (Nat.le_of_ble_eq_true rfl) dJ40_nextSetBit_32) (fun v1 h2 => ?_)
    refine vv_iload_n (pc := 35) X (kf := 1) (i := 1) rfl 1 rfl dJ40_nextSetBit_35 ?_
    refine vv_callI (pc := 36) (rest := []) (by rfl) (fun r8 k8 e8 => zz_callS X (m_J40_wordIndex (hlM X) _ _ _ _ e8) q2861 q2862 q204 q2863 nh_J40 rfl (by decide) (by decide) (Nat.le_of_ble_eq_true rfl) dJ40_nextSetBit_36) (fun v5 h6 => ?_)
    refine vv_istore_n (pc := 39) (lv' := [(2, LI v5), (0, LR (some a0)), (1, LI a1)]) X (kf := 2) (i := 2) rfl (by decide) rfl dJ40_nextSetBit_39 ?_
    refine vv_iload_n (pc := 40) X (kf := 2) (i := 2) rfl 0 rfl dJ40_nextSetBit_40 ?_
    refine vv_aload_n (pc := 41) X (kf := 0) (i := 0) rfl 1 rfl dJ40_nextSetBit_41 ?_
    refine vv_getI (pc := 42) X (fun _ z => by cases List.mem_singleton.mp z; exact fl_J40_7_33) dJ40_nextSetBit_42 (fun v7 => ?_)
    refine vv_icmp_lt (pc := 45) (tgt := 50) X dJ40_nextSetBit_45 rfl ?_ ?_
    · refine vv_aload_n (pc := 50) X (kf := 0) (i := 0) rfl 1 rfl dJ40_nextSetBit_50 ?_
      refine vv_getR (pc := 51) X (fun _ z => by cases List.mem_singleton.mp z; exact fl_J40_11_33) dJ40_nextSetBit_51 (fun v8 => ?_)
      refine vv_iload_n (pc := 54) X (kf := 2) (i := 2) rfl 0 rfl dJ40_nextSetBit_54 ?_
      refine vv_laload (pc := 55) X dJ40_nextSetBit_55 (fun v9 => ?_)
      refine vv_ldc2 (pc := 56) X q2917 dJ40_nextSetBit_56 ?_
      refine vv_iload_n (pc := 59) X (kf := 1) (i := 1) rfl 2 rfl dJ40_nextSetBit_59 ?_
      refine vv_lshl (pc := 60) X dJ40_nextSetBit_60 ?_
      refine vv_land (pc := 61) X dJ40_nextSetBit_61 ?_
      refine vv_lstore_n (pc := 62) (lv' := [(3, LJ (v9 &&& (lShl (-1 : Int64) a1))), (2, LI v5), (0, LR (some a0)), (1, LI a1)]) X (kf := 3) (i := 3) rfl (by decide) rfl dJ40_nextSetBit_62 ?_
      exact vv_sub [2, 1, 0] (by rfl) (B_J40_nextSetBit_63 X _ _ _ _)
    · refine vv_iconst (pc := 48) X dJ40_nextSetBit_48 ?_
      exact vv_iretI X rfl rfl dJ40_nextSetBit_49
  · exact vv_none
theorem m_J40_nextSetBit {l : Launch} (hl : l.stackTraces = false) {G : va_G} (a0 : Nat) (a1 : Int) (h : HP) : ∀ r hf, f_J40_nextSetBit a0 a1 h = some (r, hf) → Ct l yJ40_nextSetBit (ws_ yJ40_nextSetBit cJ40_nextSetBit 5 (some .int)) 2 59 G h [.ref a0, .int (iI a1)] (jI r) hf :=
  zz_ofW hl (by decide +kernel) (lv := [(0, LR (some a0)), (1, LI a1)]) (by simp [lv_args, lvL, lvV, zz_rfc, zz_rfs, zz_ci, zz_cr, zz_cj, zz_cf, zz_cd]) (by simp [lg_sl, zz_rfc, zz_ci, zz_cr, zz_cj, zz_cf, zz_cd]) (fun _ X => A_J40_nextSetBit X a0 a1 h)
