/-! STAGE 1c: functions and contracts (printed by gen/mkfuncs.py). -/
set_option maxRecDepth 100000
set_option linter.unusedVariables false
-- J13_hashCode_4 jdk/internal/util/ArraysSupport.hashCode(I[III)I
noncomputable def c_J13_hashCode_4_8 (r8 : Int → Option Nat → Int → Int → HP → Option ((Int) × HP)) (x0 : Int) (x1 : Option Nat) (x4 : Int) (x5 : Int) (h : HP) : Option ((Int) × HP) :=
  iLE x4 x5
    (some (x0, h))
    ((aldI h .int x1 x5).bind fun v1 =>
    r8 ((31 * x0) + v1) x1 x4 (x5 + 1) h)
noncomputable def b_J13_hashCode_4_8 : Int → Option Nat → Int → Int → HP → Option ((Int) × HP) := fx (fun _ _ _ _ _ => none) (c_J13_hashCode_4_8) FU
theorem C_J13_hashCode_4_8 {M : hp_M} {G : va_G} {h0 : HP} (X : hp_X M G h0 "jdk/internal/util/ArraysSupport" "hashCode" cJ13_hashCode_4 6 (some .int) [] 0 0) (r8 : Int → Option Nat → Int → Int → HP → Option ((Int) × HP)) (hr8 : ∀ (y0 : Int) (y1 : Option Nat) (y4 : Int) (y5 : Int) (h : HP), vv M G h0 6 (hp_End M G h0) jI h 8 [(0, LI y0), (1, LR y1), (4, LI y4), (5, LI y5)] [] (r8 y0 y1 y4 y5 h)) (x0 : Int) (x1 : Option Nat) (x4 : Int) (x5 : Int) (h : HP) : vv M G h0 6 (hp_End M G h0) jI h 8 [(0, LI x0), (1, LR x1), (4, LI x4), (5, LI x5)] [] (c_J13_hashCode_4_8 r8 x0 x1 x4 x5 h) := by
  unfold c_J13_hashCode_4_8
  refine vv_iload (pc := 8) X 3 rfl dJ13_hashCode_4_8 ?_
  refine vv_iload (pc := 10) X 2 rfl dJ13_hashCode_4_10 ?_
  refine vv_icmp_ge (pc := 12) (tgt := 31) X dJ13_hashCode_4_12 rfl ?_ ?_
  · refine vv_iload_n (pc := 31) X (kf := 0) (i := 0) rfl 0 rfl dJ13_hashCode_4_31 ?_
    exact vv_iretI X rfl rfl dJ13_hashCode_4_32
  · refine vv_bipush (pc := 15) X (by decide) dJ13_hashCode_4_15 ?_
    refine vv_iload_n (pc := 17) X (kf := 0) (i := 0) rfl 0 rfl dJ13_hashCode_4_17 ?_
    refine vv_imul (pc := 18) X dJ13_hashCode_4_18 ?_
    refine vv_aload_n (pc := 19) X (kf := 1) (i := 1) rfl 1 rfl dJ13_hashCode_4_19 ?_
    refine vv_iload (pc := 20) X 3 rfl dJ13_hashCode_4_20 ?_
    refine vv_iaload (pc := 22) X dJ13_hashCode_4_22 (fun v1 => ?_)
    refine vv_iadd (pc := 23) X dJ13_hashCode_4_23 ?_
    refine vv_istore_n (pc := 24) (lv' := [(0, LI ((31 * x0) + v1)), (1, LR x1), (4, LI x4), (5, LI x5)]) X (kf := 0) (i := 0) rfl (by decide) rfl dJ13_hashCode_4_24 ?_
    refine vv_iinc (pc := 25) (lv' := [(5, LI (x5 + 1)), (0, LI ((31 * x0) + v1)), (1, LR x1), (4, LI x4)]) X 3 rfl (by decide) rfl dJ13_hashCode_4_25 ?_
    refine vv_goto (pc := 28) (tgt := 8) X dJ13_hashCode_4_28 rfl ?_
    exact vv_sub [1, 2, 3, 0] (by rfl) (hr8 _ _ _ _ _)
theorem B_J13_hashCode_4_8 {M : hp_M} {G : va_G} {h0 : HP} (X : hp_X M G h0 "jdk/internal/util/ArraysSupport" "hashCode" cJ13_hashCode_4 6 (some .int) [] 0 0) : ∀ (x0 : Int) (x1 : Option Nat) (x4 : Int) (x5 : Int) (h : HP), vv M G h0 6 (hp_End M G h0) jI h 8 [(0, LI x0), (1, LR x1), (4, LI x4), (5, LI x5)] [] (b_J13_hashCode_4_8 x0 x1 x4 x5 h) := by
  unfold b_J13_hashCode_4_8
  generalize FU = n
  induction n with
  | zero => intro x0 x1 x4 x5 h; exact vv_none
  | succ n ih => exact C_J13_hashCode_4_8 X _ ih
noncomputable def f_J13_hashCode_4 (a1 : Int) (a2 : Option Nat) (a3 : Int) (a4 : Int) (h : HP) : Option ((Int) × HP) :=
  b_J13_hashCode_4_8 a1 a2 (a3 + a4) a3 h
theorem A_J13_hashCode_4 {M : hp_M} {G : va_G} {h0 : HP} (X : hp_X M G h0 "jdk/internal/util/ArraysSupport" "hashCode" cJ13_hashCode_4 6 (some .int) [] 0 0) (a1 : Int) (a2 : Option Nat) (a3 : Int) (a4 : Int) (h : HP) : vv M G h0 6 (hp_End M G h0) jI h 0 [(0, LI a1), (1, LR a2), (2, LI a3), (3, LI a4)] [] (f_J13_hashCode_4 a1 a2 a3 a4 h) := by
  unfold f_J13_hashCode_4
  refine vv_iload_n (pc := 0) X (kf := 2) (i := 2) rfl 2 rfl dJ13_hashCode_4_0 ?_
  refine vv_iload_n (pc := 1) X (kf := 3) (i := 3) rfl 3 rfl dJ13_hashCode_4_1 ?_
  refine vv_iadd (pc := 2) X dJ13_hashCode_4_2 ?_
  refine vv_istore (pc := 3) (lv' := [(4, LI (a3 + a4)), (0, LI a1), (1, LR a2), (2, LI a3), (3, LI a4)]) X (by decide) rfl dJ13_hashCode_4_3 ?_
  refine vv_iload_n (pc := 5) X (kf := 2) (i := 2) rfl 3 rfl dJ13_hashCode_4_5 ?_
  refine vv_istore (pc := 6) (lv' := [(5, LI a3), (4, LI (a3 + a4)), (0, LI a1), (1, LR a2), (2, LI a3), (3, LI a4)]) X (by decide) rfl dJ13_hashCode_4_6 ?_
  exact vv_sub [2, 3, 1, 0] (by rfl) (B_J13_hashCode_4_8 X _ _ _ _ _)
theorem m_J13_hashCode_4 {l : Launch} (hl : l.stackTraces = false) {G : va_G} (a1 : Int) (a2 : Option Nat) (a3 : Int) (a4 : Int) (h : HP) : ∀ r hf, f_J13_hashCode_4 a1 a2 a3 a4 h = some (r, hf) → Ct l yJ13_hashCode_4 (ws_ yJ13_hashCode_4 cJ13_hashCode_4 6 (some .int)) 0 0 G h [.int (iI a1), va_rf a2, .int (iI a3), .int (iI a4)] (jI r) hf :=
  zz_ofW hl (by decide +kernel) (lv := [(0, LI a1), (1, LR a2), (2, LI a3), (3, LI a4)]) (by simp [lv_args, lvL, lvV, zz_rfc, zz_rfs, zz_ci, zz_cr, zz_cj, zz_cf, zz_cd]) (by simp [lg_sl, zz_rfc, zz_ci, zz_cr, zz_cj, zz_cf, zz_cd]) (fun _ X => A_J13_hashCode_4 X a1 a2 a3 a4 h)
-- J13_vectorizedHashCode jdk/internal/util/ArraysSupport.vectorizedHashCode(Ljava/lang/Object;IIII)I
noncomputable def b_J13_vectorizedHashCode_157 (s0 : Int) (h : HP) : Option ((Int) × HP) :=
  some (s0, h)
theorem B_J13_vectorizedHashCode_157 {M : hp_M} {G : va_G} {h0 : HP} (X : hp_X M G h0 "jdk/internal/util/ArraysSupport" "vectorizedHashCode" cJ13_vectorizedHashCode 5 (some .int) [] 1 33) (s0 : Int) (h : HP) : vv M G h0 5 (hp_End M G h0) jI h 157 [] [LI s0] (b_J13_vectorizedHashCode_157 s0 h) := by
  unfold b_J13_vectorizedHashCode_157
  exact vv_iretI X rfl rfl dJ13_vectorizedHashCode_157
noncomputable def f_J13_vectorizedHashCode (a1 : Option Nat) (a2 : Int) (a3 : Int) (a4 : Int) (a5 : Int) (h : HP) : Option ((Int) × HP) :=
  iIN a5
    (if a5 = 4 then
      (chkA h a1 .byte).bind fun _ =>
      hb (f_J13_signedHashCode a4 a1 a2 a3 h) fun v1 h2 =>
      b_J13_vectorizedHashCode_157 v1 h2
    else
    if a5 = 5 then
      (ins h a1 [] []).bind fun v3 =>
      iEQ v3 0
        ((chk h a1 []).bind fun _ =>
        hb (f_J13_hashCode a4 a1 a2 a3 h) fun v4 h5 =>
        b_J13_vectorizedHashCode_157 v4 h5)
        ((chkA h a1 .byte).bind fun _ =>
        hb (f_J13_utf16hashCode a4 a1 a2 a3 h) fun v6 h7 =>
        b_J13_vectorizedHashCode_157 v6 h7)
    else
    if a5 = 6 then
      none
    else
    if a5 = 7 then
      none
    else
    if a5 = 8 then
      (chkA h a1 .byte).bind fun _ =>
      hb (f_J13_hashCode_2 a4 a1 a2 a3 h) fun v8 h9 =>
      b_J13_vectorizedHashCode_157 v8 h9
    else
    if a5 = 9 then
      (chk h a1 []).bind fun _ =>
      hb (f_J13_hashCode_3 a4 a1 a2 a3 h) fun v10 h11 =>
      b_J13_vectorizedHashCode_157 v10 h11
    else
    if a5 = 10 then
      (chk h a1 []).bind fun _ =>
      hb (f_J13_hashCode_4 a4 a1 a2 a3 h) fun v12 h13 =>
      b_J13_vectorizedHashCode_157 v12 h13
    else
    none)
theorem A_J13_vectorizedHashCode {M : hp_M} {G : va_G} {h0 : HP} (X : hp_X M G h0 "jdk/internal/util/ArraysSupport" "vectorizedHashCode" cJ13_vectorizedHashCode 5 (some .int) [] 1 33) (a1 : Option Nat) (a2 : Int) (a3 : Int) (a4 : Int) (a5 : Int) (h : HP) : vv M G h0 5 (hp_End M G h0) jI h 0 [(0, LR a1), (1, LI a2), (2, LI a3), (3, LI a4), (4, LI a5)] [] (f_J13_vectorizedHashCode a1 a2 a3 a4 a5 h) := by
  unfold f_J13_vectorizedHashCode
  refine vv_iload (pc := 0) X 4 rfl dJ13_vectorizedHashCode_0 ?_
  refine vv_iIN (fun hr => ?_)
  refine vv_if (fun e0 => ?_) (fun e0 => ?_)
  · refine vv_tsw (pc := 2) (off := 42) (tgt := 44) X dJ13_vectorizedHashCode_2 hr (by omega) (by omega) (by rw [e0]; rfl) rfl ?_
    refine vv_iload_n (pc := 44) X (kf := 3) (i := 3) rfl 3 rfl dJ13_vectorizedHashCode_44 ?_
    refine vv_aload_n (pc := 45) X (kf := 0) (i := 0) rfl 0 rfl dJ13_vectorizedHashCode_45 ?_
    refine vv_checkcastB (pc := 46) X q1060 dJ13_vectorizedHashCode_46 ?_
    refine vv_iload_n (pc := 49) X (kf := 1) (i := 1) rfl 1 rfl dJ13_vectorizedHashCode_49 ?_
    refine vv_iload_n (pc := 50) X (kf := 2) (i := 2) rfl 2 rfl dJ13_vectorizedHashCode_50 ?_
    refine vv_callI (pc := 51) (rest := []) (by rfl) (fun r8 k8 e8 => zz_callS X (m_J13_signedHashCode (hlM X) _ _ _ _ _ _ _ e8) q1061 q1062 q148 q1063 nh_J13 rfl (by decide) (by decide) (Nat.le_of_ble_eq_true rfl) dJ13_vectorizedHashCode_51) (fun v1 h2 => ?_)
    refine vv_goto (pc := 54) (tgt := 157) X dJ13_vectorizedHashCode_54 rfl ?_
    exact vv_sub [] (by rfl) (B_J13_vectorizedHashCode_157 X _ _)
  refine vv_if (fun e1 => ?_) (fun e1 => ?_)
  · refine vv_tsw (pc := 2) (off := 55) (tgt := 57) X dJ13_vectorizedHashCode_2 hr (by omega) (by omega) (by rw [e1]; rfl) rfl ?_
    refine vv_aload_n (pc := 57) X (kf := 0) (i := 0) rfl 0 rfl dJ13_vectorizedHashCode_57 ?_
    refine vv_instanceof (pc := 58) X ⟨q1060, (fun _ z => nomatch z)⟩ (fun _ z => nomatch z) dJ13_vectorizedHashCode_58 (fun v3 => ?_)
    refine vv_if_eq (pc := 61) (tgt := 77) X dJ13_vectorizedHashCode_61 rfl ?_ ?_
    · refine vv_iload_n (pc := 77) X (kf := 3) (i := 3) rfl 3 rfl dJ13_vectorizedHashCode_77 ?_
      refine vv_aload_n (pc := 78) X (kf := 0) (i := 0) rfl 0 rfl dJ13_vectorizedHashCode_78 ?_
      refine vv_checkcast (pc := 79) X ⟨q1080, (fun _ z => nomatch z)⟩ dJ13_vectorizedHashCode_79 ?_
      refine vv_iload_n (pc := 82) X (kf := 1) (i := 1) rfl 1 rfl dJ13_vectorizedHashCode_82 ?_
      refine vv_iload_n (pc := 83) X (kf := 2) (i := 2) rfl 2 rfl dJ13_vectorizedHashCode_83 ?_
      refine vv_callI (pc := 84) (rest := []) (by rfl) (fun r8 k8 e8 => zz_callS X (m_J13_hashCode (hlM X) _ _ _ _ _ _ _ e8) q1081 q1082 q148 q1083 nh_J13 rfl (by decide) (by decide) (Nat.le_of_ble_eq_true rfl) dJ13_vectorizedHashCode_84) (fun v4 h5 => ?_)
      refine vv_goto (pc := 87) (tgt := 157) X dJ13_vectorizedHashCode_87 rfl ?_
      exact vv_sub [] (by rfl) (B_J13_vectorizedHashCode_157 X _ _)
    · refine vv_iload_n (pc := 64) X (kf := 3) (i := 3) rfl 3 rfl dJ13_vectorizedHashCode_64 ?_
      refine vv_aload_n (pc := 65) X (kf := 0) (i := 0) rfl 0 rfl dJ13_vectorizedHashCode_65 ?_
      refine vv_checkcastB (pc := 66) X q1060 dJ13_vectorizedHashCode_66 ?_
      refine vv_iload_n (pc := 69) X (kf := 1) (i := 1) rfl 1 rfl dJ13_vectorizedHashCode_69 ?_
      refine vv_iload_n (pc := 70) X (kf := 2) (i := 2) rfl 2 rfl dJ13_vectorizedHashCode_70 ?_
      refine vv_callI (pc := 71) (rest := []) (by rfl) (fun r8 k8 e8 => zz_callS X (m_J13_utf16hashCode (hlM X) _ _ _ _ _ _ _ e8) q1064 q1065 q148 q1066 nh_J13 rfl (by decide) (by decide) (Nat.le_of_ble_eq_true rfl) dJ13_vectorizedHashCode_71) (fun v6 h7 => ?_)
      refine vv_goto (pc := 74) (tgt := 157) X dJ13_vectorizedHashCode_74 rfl ?_
      exact vv_sub [] (by rfl) (B_J13_vectorizedHashCode_157 X _ _)
  refine vv_if (fun e2 => ?_) (fun e2 => ?_)
  · refine vv_tsw (pc := 2) (off := 127) (tgt := 129) X dJ13_vectorizedHashCode_2 hr (by omega) (by omega) (by rw [e2]; rfl) rfl ?_
    exact vv_none
  refine vv_if (fun e3 => ?_) (fun e3 => ?_)
  · refine vv_tsw (pc := 2) (off := 127) (tgt := 129) X dJ13_vectorizedHashCode_2 hr (by omega) (by omega) (by rw [e3]; rfl) rfl ?_
    exact vv_none
  refine vv_if (fun e4 => ?_) (fun e4 => ?_)
  · refine vv_tsw (pc := 2) (off := 88) (tgt := 90) X dJ13_vectorizedHashCode_2 hr (by omega) (by omega) (by rw [e4]; rfl) rfl ?_
    refine vv_iload_n (pc := 90) X (kf := 3) (i := 3) rfl 3 rfl dJ13_vectorizedHashCode_90 ?_
    refine vv_aload_n (pc := 91) X (kf := 0) (i := 0) rfl 0 rfl dJ13_vectorizedHashCode_91 ?_
    refine vv_checkcastB (pc := 92) X q1060 dJ13_vectorizedHashCode_92 ?_
    refine vv_iload_n (pc := 95) X (kf := 1) (i := 1) rfl 1 rfl dJ13_vectorizedHashCode_95 ?_
    refine vv_iload_n (pc := 96) X (kf := 2) (i := 2) rfl 2 rfl dJ13_vectorizedHashCode_96 ?_
    refine vv_callI (pc := 97) (rest := []) (by rfl) (fun r8 k8 e8 => zz_callS X (m_J13_hashCode_2 (hlM X) _ _ _ _ _ _ _ e8) q1084 q1085 q148 q1086 nh_J13 rfl (by decide) (by decide) (Nat.le_of_ble_eq_true rfl) dJ13_vectorizedHashCode_97) (fun v8 h9 => ?_)
    refine vv_goto (pc := 100) (tgt := 157) X dJ13_vectorizedHashCode_100 rfl ?_
    exact vv_sub [] (by rfl) (B_J13_vectorizedHashCode_157 X _ _)
  refine vv_if (fun e5 => ?_) (fun e5 => ?_)
  · refine vv_tsw (pc := 2) (off := 101) (tgt := 103) X dJ13_vectorizedHashCode_2 hr (by omega) (by omega) (by rw [e5]; rfl) rfl ?_
    refine vv_iload_n (pc := 103) X (kf := 3) (i := 3) rfl 3 rfl dJ13_vectorizedHashCode_103 ?_
    refine vv_aload_n (pc := 104) X (kf := 0) (i := 0) rfl 0 rfl dJ13_vectorizedHashCode_104 ?_
    refine vv_checkcast (pc := 105) X ⟨q1087, (fun _ z => nomatch z)⟩ dJ13_vectorizedHashCode_105 ?_
    refine vv_iload_n (pc := 108) X (kf := 1) (i := 1) rfl 1 rfl dJ13_vectorizedHashCode_108 ?_
    refine vv_iload_n (pc := 109) X (kf := 2) (i := 2) rfl 2 rfl dJ13_vectorizedHashCode_109 ?_
    refine vv_callI (pc := 110) (rest := []) (by rfl) (fun r8 k8 e8 => zz_callS X (m_J13_hashCode_3 (hlM X) _ _ _ _ _ _ _ e8) q1088 q1089 q148 q1090 nh_J13 rfl (by decide) (by decide) (Nat.le_of_ble_eq_true rfl) dJ13_vectorizedHashCode_110) (fun v10 h11 => ?_)
    refine vv_goto (pc := 113) (tgt := 157) X dJ13_vectorizedHashCode_113 rfl ?_
    exact vv_sub [] (by rfl) (B_J13_vectorizedHashCode_157 X _ _)
  refine vv_if (fun e6 => ?_) (fun e6 => ?_)
  · refine vv_tsw (pc := 2) (off := 114) (tgt := 116) X dJ13_vectorizedHashCode_2 hr (by omega) (by omega) (by rw [e6]; rfl) rfl ?_
    refine vv_iload_n (pc := 116) X (kf := 3) (i := 3) rfl 3 rfl dJ13_vectorizedHashCode_116 ?_
    refine vv_aload_n (pc := 117) X (kf := 0) (i := 0) rfl 0 rfl dJ13_vectorizedHashCode_117 ?_
    refine vv_checkcast (pc := 118) X ⟨q1091, (fun _ z => nomatch z)⟩ dJ13_vectorizedHashCode_118 ?_
    refine vv_iload_n (pc := 121) X (kf := 1) (i := 1) rfl 1 rfl dJ13_vectorizedHashCode_121 ?_
    refine vv_iload_n (pc := 122) X (kf := 2) (i := 2) rfl 2 rfl dJ13_vectorizedHashCode_122 ?_
    refine vv_callI (pc := 123) (rest := []) (by rfl) (fun r8 k8 e8 => zz_callS X (m_J13_hashCode_4 (hlM X) _ _ _ _ _ _ _ e8) q1092 q1093 q148 q1094 nh_J13 rfl (by decide) (by decide) (Nat.le_of_ble_eq_true rfl) dJ13_vectorizedHashCode_123) (fun v12 h13 => ?_)
    refine vv_goto (pc := 126) (tgt := 157) X dJ13_vectorizedHashCode_126 rfl ?_
    exact vv_sub [] (by rfl) (B_J13_vectorizedHashCode_157 X _ _)
  refine vv_tswD (pc := 2) (tgt := 129) X dJ13_vectorizedHashCode_2 hr (by omega) rfl ?_
  exact vv_none
theorem m_J13_vectorizedHashCode {l : Launch} (hl : l.stackTraces = false) {G : va_G} (a1 : Option Nat) (a2 : Int) (a3 : Int) (a4 : Int) (a5 : Int) (h : HP) : ∀ r hf, f_J13_vectorizedHashCode a1 a2 a3 a4 a5 h = some (r, hf) → Ct l yJ13_vectorizedHashCode (ws_ yJ13_vectorizedHashCode cJ13_vectorizedHashCode 5 (some .int)) 1 33 G h [va_rf a1, .int (iI a2), .int (iI a3), .int (iI a4), .int (iI a5)] (jI r) hf :=
  zz_ofW hl (by decide +kernel) (lv := [(0, LR a1), (1, LI a2), (2, LI a3), (3, LI a4), (4, LI a5)]) (by simp [lv_args, lvL, lvV, zz_rfc, zz_rfs, zz_ci, zz_cr, zz_cj, zz_cf, zz_cd]) (by simp [lg_sl, zz_rfc, zz_ci, zz_cr, zz_cj, zz_cf, zz_cd]) (fun _ X => A_J13_vectorizedHashCode X a1 a2 a3 a4 a5 h)
-- J17_hashCode java/lang/StringLatin1.hashCode([B)I
noncomputable def b_J17_hashCode_51 (s0 : Int) (h : HP) : Option ((Int) × HP) :=
  some (s0, h)
theorem B_J17_hashCode_51 {M : hp_M} {G : va_G} {h0 : HP} (X : hp_X M G h0 "java/lang/StringLatin1" "hashCode" cJ17_hashCode 1 (some .int) [] 2 65) (s0 : Int) (h : HP) : vv M G h0 1 (hp_End M G h0) jI h 51 [] [LI s0] (b_J17_hashCode_51 s0 h) := by
  unfold b_J17_hashCode_51
  exact vv_iretI X rfl rfl dJ17_hashCode_51
noncomputable def f_J17_hashCode (a1 : Option Nat) (h : HP) : Option ((Int) × HP) :=
  (alen h a1).bind fun v1 =>
  iIN v1
    (if v1 = 0 then
      b_J17_hashCode_51 0 h
    else
    if v1 = 1 then
      (aldI h .byte a1 0).bind fun v2 =>
      b_J17_hashCode_51 (iAnd v2 255) h
    else
    (alen h a1).bind fun v3 =>
    hb (f_J13_vectorizedHashCode a1 0 v3 0 4 h) fun v4 h5 =>
    b_J17_hashCode_51 v4 h5)
theorem A_J17_hashCode {M : hp_M} {G : va_G} {h0 : HP} (X : hp_X M G h0 "java/lang/StringLatin1" "hashCode" cJ17_hashCode 1 (some .int) [] 2 65) (a1 : Option Nat) (h : HP) : vv M G h0 1 (hp_End M G h0) jI h 0 [(0, LR a1)] [] (f_J17_hashCode a1 h) := by
  unfold f_J17_hashCode
  refine vv_aload_n (pc := 0) X (kf := 0) (i := 0) rfl 0 rfl dJ17_hashCode_0 ?_
  refine vv_alen (pc := 1) X dJ17_hashCode_1 (fun v1 => ?_)
  refine vv_iIN (fun hr => ?_)
  refine vv_if (fun e0 => ?_) (fun e0 => ?_)
  · refine vv_lsw (pc := 2) (off := 26) (tgt := 28) X dJ17_hashCode_2 hr (by decide +kernel) (by rw [e0]; rfl) rfl ?_
    refine vv_iconst (pc := 28) X dJ17_hashCode_28 ?_
    refine vv_goto (pc := 29) (tgt := 51) X dJ17_hashCode_29 rfl ?_
    exact vv_sub [] (by rfl) (B_J17_hashCode_51 X _ _)
  refine vv_if (fun e1 => ?_) (fun e1 => ?_)
  · refine vv_lsw (pc := 2) (off := 30) (tgt := 32) X dJ17_hashCode_2 hr (by decide +kernel) (by rw [e1]; rfl) rfl ?_
    refine vv_aload_n (pc := 32) X (kf := 0) (i := 0) rfl 0 rfl dJ17_hashCode_32 ?_
    refine vv_iconst (pc := 33) X dJ17_hashCode_33 ?_
    refine vv_baload (pc := 34) X dJ17_hashCode_34 (fun v2 => ?_)
    refine vv_sipush (pc := 35) X (by decide) dJ17_hashCode_35 ?_
    refine vv_iand (pc := 38) X dJ17_hashCode_38 ?_
    refine vv_goto (pc := 39) (tgt := 51) X dJ17_hashCode_39 rfl ?_
    exact vv_sub [] (by rfl) (B_J17_hashCode_51 X _ _)
  refine vv_lsw (pc := 2) (off := 40) (tgt := 42) X dJ17_hashCode_2 hr (by decide +kernel) (by simp [Op.lookupswitch.offset, Ne.symm e0, Ne.symm e1]) rfl ?_
  refine vv_aload_n (pc := 42) X (kf := 0) (i := 0) rfl 0 rfl dJ17_hashCode_42 ?_
  refine vv_iconst (pc := 43) X dJ17_hashCode_43 ?_
  refine vv_aload_n (pc := 44) X (kf := 0) (i := 0) rfl 0 rfl dJ17_hashCode_44 ?_
  refine vv_alen (pc := 45) X dJ17_hashCode_45 (fun v3 => ?_)
  refine vv_iconst (pc := 46) X dJ17_hashCode_46 ?_
  refine vv_iconst (pc := 47) X dJ17_hashCode_47 ?_
  refine vv_callI (pc := 48) (rest := []) (by rfl) (fun r8 k8 e8 => zz_callS X (m_J13_vectorizedHashCode (hlM X) _ _ _ _ _ _ _ _ e8) q1057 q1058 q148 q1059 nh_J13 rfl (by decide) (by decide) (Nat.le_of_ble_eq_true rfl) dJ17_hashCode_48) (fun v4 h5 => ?_)
  exact vv_sub [] (by rfl) (B_J17_hashCode_51 X _ _)
theorem m_J17_hashCode {l : Launch} (hl : l.stackTraces = false) {G : va_G} (a1 : Option Nat) (h : HP) : ∀ r hf, f_J17_hashCode a1 h = some (r, hf) → Ct l yJ17_hashCode (ws_ yJ17_hashCode cJ17_hashCode 1 (some .int)) 2 65 G h [va_rf a1] (jI r) hf :=
  zz_ofW hl (by decide +kernel) (lv := [(0, LR a1)]) (by simp [lv_args, lvL, lvV, zz_rfc, zz_rfs, zz_ci, zz_cr, zz_cj, zz_cf, zz_cd]) (by simp [lg_sl, zz_rfc, zz_ci, zz_cr, zz_cj, zz_cf, zz_cd]) (fun _ X => A_J17_hashCode X a1 h)
-- J11_hashCode java/lang/String.hashCode()I
noncomputable def b_J11_hashCode_58 (x1 : Int) (h : HP) : Option ((Int) × HP) :=
  some (x1, h)
theorem B_J11_hashCode_58 {M : hp_M} {G : va_G} {h0 : HP} (X : hp_X M G h0 "java/lang/String" "hashCode" cJ11_hashCode 2 (some .int) [] 3 93) (x1 : Int) (h : HP) : vv M G h0 2 (hp_End M G h0) jI h 58 [(1, LI x1)] [] (b_J11_hashCode_58 x1 h) := by
  unfold b_J11_hashCode_58
  refine vv_iload_n (pc := 58) X (kf := 1) (i := 1) rfl 0 rfl dJ11_hashCode_58 ?_
  exact vv_iretI X rfl rfl dJ11_hashCode_59
noncomputable def f_J11_hashCode (a0 : Nat) (h : HP) : Option ((Int) × HP) :=
  (rdI h (some a0) [26] 2).bind fun v1 =>
  iEQ v1 0
    ((rdI h (some a0) [26] 3).bind fun v2 =>
    iEQ v2 0
      ((rcv h (some a0) [26]).bind fun b5 =>
      hb (f_J11_isLatin1 b5 h) fun v3 h4 =>
      iEQ v3 0
        ((rdR h4 (some a0) [26] 0).bind fun v7 =>
        none)
        ((rdR h4 (some a0) [26] 0).bind fun v8 =>
        hb (f_J17_hashCode v8 h4) fun v9 h10 =>
        iEQ v9 0
          ((wrZ h10 (some a0) [26] 3 1).bind fun h12 =>
          b_J11_hashCode_58 v9 h12)
          ((wrI h10 (some a0) [26] 2 v9).bind fun h11 =>
          b_J11_hashCode_58 v9 h11)))
      (b_J11_hashCode_58 v1 h))
    (b_J11_hashCode_58 v1 h)
theorem A_J11_hashCode {M : hp_M} {G : va_G} {h0 : HP} (X : hp_X M G h0 "java/lang/String" "hashCode" cJ11_hashCode 2 (some .int) [] 3 93) (a0 : Nat) (h : HP) : vv M G h0 2 (hp_End M G h0) jI h 0 [(0, LR (some a0))] [] (f_J11_hashCode a0 h) := by
  unfold f_J11_hashCode
  refine vv_aload_n (pc := 0) X (kf := 0) (i := 0) rfl 0 rfl dJ11_hashCode_0 ?_
  refine vv_getI (pc := 1) X (fun _ z => by cases List.mem_singleton.mp z; exact fl_J11_19_26) dJ11_hashCode_1 (fun v1 => ?_)
  refine vv_istore_n (pc := 4) (lv' := [(1, LI v1), (0, LR (some a0))]) X (kf := 1) (i := 1) rfl (by decide) rfl dJ11_hashCode_4 ?_
  refine vv_iload_n (pc := 5) X (kf := 1) (i := 1) rfl 0 rfl dJ11_hashCode_5 ?_
  refine vv_if_ne (pc := 6) (tgt := 58) X dJ11_hashCode_6 rfl ?_ ?_
  · exact vv_sub [0] (by rfl) (B_J11_hashCode_58 X _ _)
  · refine vv_aload_n (pc := 9) X (kf := 0) (i := 0) rfl 1 rfl dJ11_hashCode_9 ?_
    refine vv_getI (pc := 10) X (fun _ z => by cases List.mem_singleton.mp z; exact fl_J11_23_26) dJ11_hashCode_10 (fun v2 => ?_)
    refine vv_if_ne (pc := 13) (tgt := 58) X dJ11_hashCode_13 rfl ?_ ?_
    · exact vv_sub [0] (by rfl) (B_J11_hashCode_58 X _ _)
    · refine vv_aload_n (pc := 16) X (kf := 0) (i := 0) rfl 1 rfl dJ11_hashCode_16 ?_
      refine vv_rcv (fun b5 t9 c9 fs9 e6 g9 k9 => ?_)
      cases List.mem_singleton.mp k9
      refine vv_callI (pc := 17) (rest := []) (by rw [e6]; rfl) (fun r8 k8 e8 => zz_callV X (m_J11_isLatin1 (hlM X) _ _ _ _ e8) g9 rfl rfl q1024 q1025 q1026 q146 q1027 nh_J11 rfl (by decide) (by decide) (Nat.le_of_ble_eq_true rfl) dJ11_hashCode_17) (fun v3 h4 => ?_)
      refine vv_if_eq (pc := 20) (tgt := 33) X dJ11_hashCode_20 rfl ?_ ?_
      · refine vv_aload_n (pc := 33) X (kf := 0) (i := 0) rfl 1 rfl dJ11_hashCode_33 ?_
        refine vv_getR (pc := 34) X (fun _ z => by cases List.mem_singleton.mp z; exact fl_J11_9_26) dJ11_hashCode_34 (fun v7 => ?_)
        exact vv_none
      · refine vv_aload_n (pc := 23) X (kf := 0) (i := 0) rfl 1 rfl dJ11_hashCode_23 ?_
        refine vv_getR (pc := 24) X (fun _ z => by cases List.mem_singleton.mp z; exact fl_J11_9_26) dJ11_hashCode_24 (fun v8 => ?_)
        refine vv_callI (pc := 27) (rest := []) (by rfl) (fun r8 k8 e8 => zz_callS X (m_J17_hashCode (hlM X) _ _ _ _ e8) q1054 q1055 q153 q1056 nh_J17 rfl (by decide) (by decide) (Nat.le_of_ble_eq_true rfl) dJ11_hashCode_27) (fun v9 h10 => ?_)
        refine vv_goto (pc := 30) (tgt := 40) X dJ11_hashCode_30 rfl ?_
        refine vv_istore_n (pc := 40) (lv' := [(1, LI v9), (0, LR (some a0))]) X (kf := 1) (i := 1) rfl (by decide) rfl dJ11_hashCode_40 ?_
        refine vv_iload_n (pc := 41) X (kf := 1) (i := 1) rfl 0 rfl dJ11_hashCode_41 ?_
        refine vv_if_ne (pc := 42) (tgt := 53) X dJ11_hashCode_42 rfl ?_ ?_
        · refine vv_aload_n (pc := 53) X (kf := 0) (i := 0) rfl 1 rfl dJ11_hashCode_53 ?_
          refine vv_iload_n (pc := 54) X (kf := 1) (i := 1) rfl 0 rfl dJ11_hashCode_54 ?_
          refine vv_putI (pc := 55) (fin := false) X (fun _ z => by cases List.mem_singleton.mp z; exact fl_J11_19_26) (fun z => nomatch z) (fun z => nomatch z) dJ11_hashCode_55 (fun h11 => ?_)
          exact vv_sub [0] (by rfl) (B_J11_hashCode_58 X _ _)
        · refine vv_aload_n (pc := 45) X (kf := 0) (i := 0) rfl 1 rfl dJ11_hashCode_45 ?_
          refine vv_iconst (pc := 46) X dJ11_hashCode_46 ?_
          refine vv_putZ (pc := 47) (fin := false) X (fun _ z => by cases List.mem_singleton.mp z; exact fl_J11_23_26) (fun z => nomatch z) (fun z => nomatch z) dJ11_hashCode_47 (fun h12 => ?_)
          refine vv_goto (pc := 50) (tgt := 58) X dJ11_hashCode_50 rfl ?_
          exact vv_sub [0] (by rfl) (B_J11_hashCode_58 X _ _)
theorem m_J11_hashCode {l : Launch} (hl : l.stackTraces = false) {G : va_G} (a0 : Nat) (h : HP) : ∀ r hf, f_J11_hashCode a0 h = some (r, hf) → Ct l yJ11_hashCode (ws_ yJ11_hashCode cJ11_hashCode 2 (some .int)) 3 93 G h [.ref a0] (jI r) hf :=
  zz_ofW hl (by decide +kernel) (lv := [(0, LR (some a0))]) (by simp [lv_args, lvL, lvV, zz_rfc, zz_rfs, zz_ci, zz_cr, zz_cj, zz_cf, zz_cd]) (by simp [lg_sl, zz_rfc, zz_ci, zz_cr, zz_cj, zz_cf, zz_cd]) (fun _ X => A_J11_hashCode X a0 h)
-- J4_size java/util/ArrayList.size()I
noncomputable def f_J4_size (a0 : Nat) (h : HP) : Option ((Int) × HP) :=
  (rdI h (some a0) [24] 2).bind fun v1 =>
  some (v1, h)
theorem A_J4_size {M : hp_M} {G : va_G} {h0 : HP} (X : hp_X M G h0 "java/util/ArrayList" "size" cJ4_size 1 (some .int) [] 0 0) (a0 : Nat) (h : HP) : vv M G h0 1 (hp_End M G h0) jI h 0 [(0, LR (some a0))] [] (f_J4_size a0 h) := by
  unfold f_J4_size
  refine vv_aload_n (pc := 0) X (kf := 0) (i := 0) rfl 0 rfl dJ4_size_0 ?_
  refine vv_getI (pc := 1) X (fun _ z => by cases List.mem_singleton.mp z; exact fl_J4_48_24) dJ4_size_1 (fun v1 => ?_)
  exact vv_iretI X rfl rfl dJ4_size_4
theorem m_J4_size {l : Launch} (hl : l.stackTraces = false) {G : va_G} (a0 : Nat) (h : HP) : ∀ r hf, f_J4_size a0 h = some (r, hf) → Ct l yJ4_size (ws_ yJ4_size cJ4_size 1 (some .int)) 0 0 G h [.ref a0] (jI r) hf :=
  zz_ofW hl (by decide +kernel) (lv := [(0, LR (some a0))]) (by simp [lv_args, lvL, lvV, zz_rfc, zz_rfs, zz_ci, zz_cr, zz_cj, zz_cf, zz_cd]) (by simp [lg_sl, zz_rfc, zz_ci, zz_cr, zz_cj, zz_cf, zz_cd]) (fun _ X => A_J4_size X a0 h)
-- X2_patternMany RenamedWords$Desk.patternMany()I
noncomputable def f_X2_patternMany (a0 : Nat) (h : HP) : Option ((Int) × HP) :=
  (rdR h (some a0) [1] 1).bind fun v1 =>
  (rdR h v1 [2] 1).bind fun v2 =>
  (rcv h v2 [24]).bind fun b5 =>
  hb (f_J4_size b5 h) fun v3 h4 =>
  some (v3, h4)
theorem A_X2_patternMany {M : hp_M} {G : va_G} {h0 : HP} (X : hp_X M G h0 "RenamedWords$Desk" "patternMany" cX2_patternMany 1 (some .int) [] 1 28) (a0 : Nat) (h : HP) : vv M G h0 1 (hp_End M G h0) jI h 0 [(0, LR (some a0))] [] (f_X2_patternMany a0 h) := by
  unfold f_X2_patternMany
  refine vv_aload_n (pc := 0) X (kf := 0) (i := 0) rfl 0 rfl dX2_patternMany_0 ?_
  refine vv_getR (pc := 1) X (fun _ z => by cases List.mem_singleton.mp z; exact fl_X2_55_1) dX2_patternMany_1 (fun v1 => ?_)
  refine vv_getR (pc := 4) X (fun _ z => by cases List.mem_singleton.mp z; exact fl_X2_111_2) dX2_patternMany_4 (fun v2 => ?_)
  refine vv_rcv (fun b5 t9 c9 fs9 e6 g9 k9 => ?_)
  cases List.mem_singleton.mp k9
  refine vv_callI (pc := 7) (rest := []) (by rw [e6]; rfl) (fun r8 k8 e8 => zz_callF X (m_J4_size (hlM X) _ _ _ _ e8) g9 rfl q1118 (List.mem_of_getElem? (i := 2) rfl) q1124 q1122 q139 q1126 nh_xjava_util_List rfl (by decide) (by decide) (Nat.le_of_ble_eq_true rfl) dX2_patternMany_7) (fun v3 h4 => ?_)
  exact vv_iretI X rfl rfl dX2_patternMany_12
theorem m_X2_patternMany {l : Launch} (hl : l.stackTraces = false) {G : va_G} (a0 : Nat) (h : HP) : ∀ r hf, f_X2_patternMany a0 h = some (r, hf) → Ct l yX2_patternMany (ws_ yX2_patternMany cX2_patternMany 1 (some .int)) 1 28 G h [.ref a0] (jI r) hf :=
  zz_ofW hl (by decide +kernel) (lv := [(0, LR (some a0))]) (by simp [lv_args, lvL, lvV, zz_rfc, zz_rfs, zz_ci, zz_cr, zz_cj, zz_cf, zz_cd]) (by simp [lg_sl, zz_rfc, zz_ci, zz_cr, zz_cj, zz_cf, zz_cd]) (fun _ X => A_X2_patternMany X a0 h)
-- X10_name RenamedWords$Reader.name()Ljava/lang/String;
noncomputable def f_X10_name (a0 : Nat) (h : HP) : Option ((Nat ⊕ Option Nat) × HP) :=
  (rdR h (some a0) [8, 12] 5).bind fun v1 =>
  (rcv h v1 [26]).bind fun b4 =>
  hb (f_J11_length b4 h) fun v2 h3 =>
  hb (f_X1_in (iL v2) 1 (8 : Int64) h3) fun v6 h7 =>
  (rcv h7 (some a0) [8, 12]).bind fun b10 =>
  hbx (f_X10_must b10 v6 1 h7) (fun q12 h13 =>
      some (.inl q12, h13)) fun _ h9 =>
  (rdR h9 (some a0) [8, 12] 5).bind fun v14 =>
  some (.inr v14, h9)
theorem A_X10_name {M : hp_M} {G : va_G} {h0 : HP} (X : hp_X M G h0 "RenamedWords$Reader" "name" cX10_name 1 (some (.object "java/lang/String")) [] 5 152) (a0 : Nat) (h : HP) : vv M G h0 1 (hp_End M G h0) xR h 0 [(0, LR (some a0))] [] (f_X10_name a0 h) := by
  unfold f_X10_name
  refine vv_aload_n (pc := 0) X (kf := 0) (i := 0) rfl 0 rfl dX10_name_0 ?_
  refine vv_aload_n (pc := 1) X (kf := 0) (i := 0) rfl 0 rfl dX10_name_1 ?_
  refine vv_getR (pc := 2) X (fun _ z => by rcases List.mem_cons.mp z with rfl | z; exact fl_X10_33_8; cases List.mem_singleton.mp z; exact fl_X10_33_12) dX10_name_2 (fun v1 => ?_)
  refine vv_rcv (fun b4 t9 c9 fs9 e5 g9 k9 => ?_)
  cases List.mem_singleton.mp k9
  refine vv_callI (pc := 5) (rest := [LR (some a0)]) (by rw [e5]; rfl) (fun r8 k8 e8 => zz_callV X (m_J11_length (hlM X) _ _ _ _ e8) g9 rfl rfl q1019 q429 q430 q146 q431 nh_J11 rfl (by decide) (by decide) (Nat.le_of_ble_eq_true rfl) dX10_name_5) (fun v2 h3 => ?_)
  refine vv_i2l (pc := 8) X dX10_name_8 ?_
  refine vv_lconst (pc := 9) (v := 1) X (by decide) dX10_name_9 ?_
  refine vv_ldc2 (pc := 10) X q1139 dX10_name_10 ?_
  refine vv_callI (pc := 13) (rest := [LR (some a0)]) (by rfl) (fun r8 k8 e8 => zz_callSN X (m_X1_in (hlM X) _ _ _ _ _ _ e8) q872 q873 q132 q874 nh_X1 rfl (by decide) (by decide) (Nat.le_of_ble_eq_true rfl) dX10_name_13) (fun v6 h7 => ?_)
  refine vv_iconst (pc := 16) X dX10_name_16 ?_
  refine vv_rcv (fun b10 t9 c9 fs9 e11 g9 k9 => ?_)
  refine vv_xallV (pc := 17) (stv := [.int (iI v6), .int (iI 1)].reverse ++ .ref b10 :: List.map lvV []) (rest := []) (by rw [e11]; rfl) (fun r8 k8 e8 => by
      rcases List.mem_cons.mp k9 with rfl | k9
      · exact zz_callW X (m_X10_must (hlM X) _ _ _ _ _ _ e8) g9 rfl q1018 q968 q4100 q165 q969 nh_X10 rfl (by decide) (by decide) (Nat.le_of_ble_eq_true rfl) dX10_name_17
      cases List.mem_singleton.mp k9
      exact zz_callW X (m_X10_must (hlM X) _ _ _ _ _ _ e8) g9 rfl q1018 q968 q4099 q165 q969 nh_X10 rfl (by decide) (by decide) (Nat.le_of_ble_eq_true rfl) dX10_name_17) (fun v8 h9 => ?_) (fun q12 h13 => ?_)
  · refine vv_aload_n (pc := 20) X (kf := 0) (i := 0) rfl 0 rfl dX10_name_20 ?_
    refine vv_getR (pc := 21) X (fun _ z => by rcases List.mem_cons.mp z with rfl | z; exact fl_X10_33_8; cases List.mem_singleton.mp z; exact fl_X10_33_12) dX10_name_21 (fun v14 => ?_)
    exact vv_aretO X rfl rfl dX10_name_24
  · exact vvx_out X (by decide) rfl
theorem m_X10_name {l : Launch} (hl : l.stackTraces = false) {G : va_G} (a0 : Nat) (h : HP) : ∀ r hf, f_X10_name a0 h = some (r, hf) → Ct l yX10_name (ws_ yX10_name cX10_name 1 (some (.object "java/lang/String"))) 5 152 G h [.ref a0] (xR r) hf :=
  zz_ofW hl (by decide +kernel) (lv := [(0, LR (some a0))]) (by simp [lv_args, lvL, lvV, zz_rfc, zz_rfs, zz_ci, zz_cr, zz_cj, zz_cf, zz_cd]) (by simp [lg_sl, zz_rfc, zz_ci, zz_cr, zz_cj, zz_cf, zz_cd]) (fun _ X => A_X10_name X a0 h)
-- X13_init RenamedWords$Name.<init>(Ljava/lang/String;)V
noncomputable def f_X13_init (a0 : Nat) (a1 : Option Nat) (h : HP) : Option ((Unit) × HP) :=
  (wrR h (some a0) [10] 0 a1).bind fun h1 =>
  some ((), h1)
theorem A_X13_init {M : hp_M} {G : va_G} {h0 : HP} (X : hp_X M G h0 "RenamedWords$Name" "<init>" cX13_init 2 none [] 1 28) (a0 : Nat) (a1 : Option Nat) (h : HP) : vv M G h0 2 (hp_End M G h0) jV h 0 [(0, LR (some a0)), (1, LR a1)] [] (f_X13_init a0 a1 h) := by
  unfold f_X13_init
  refine vv_aload_n (pc := 0) X (kf := 0) (i := 0) rfl 0 rfl dX13_init_0 ?_
  refine vv_objInit (pc := 1) X rfl q1149 q212 q213 (by decide) (by decide) (Nat.le_of_ble_eq_true rfl) dX13_init_1 ?_
  refine vv_aload_n (pc := 4) X (kf := 0) (i := 0) rfl 0 rfl dX13_init_4 ?_
  refine vv_aload_n (pc := 5) X (kf := 1) (i := 1) rfl 1 rfl dX13_init_5 ?_
  refine vv_putR (pc := 6) (ty9 := (.object "java/lang/String")) (fin := true) X (fun _ z => by cases List.mem_singleton.mp z; exact fl_X13_7_10) (fun _ => rfl) (fun _ => (fun _ z => by cases List.mem_singleton.mp z; exact ⟨_, rfl, rfl⟩)) (by decide +kernel) rfl dX13_init_6 (fun h1 => ?_)
  exact vv_vreturn X rfl rfl dX13_init_9
theorem m_X13_init {l : Launch} (hl : l.stackTraces = false) {G : va_G} (a0 : Nat) (a1 : Option Nat) (h : HP) : ∀ r hf, f_X13_init a0 a1 h = some (r, hf) → Ct l yX13_init (ws_ yX13_init cX13_init 2 none) 1 28 G h [.ref a0, va_rf a1] (jV r) hf :=
  zz_ofW hl (by decide +kernel) (lv := [(0, LR (some a0)), (1, LR a1)]) (by simp [lv_args, lvL, lvV, zz_rfc, zz_rfs, zz_ci, zz_cr, zz_cj, zz_cf, zz_cd]) (by simp [lg_sl, zz_rfc, zz_ci, zz_cr, zz_cj, zz_cf, zz_cd]) (fun _ X => A_X13_init X a0 a1 h)
-- X13_hashCode RenamedWords$Name.hashCode()I
noncomputable def c_X13_hashCode_4 (r4 : Option Nat → Int → Int → HP → Option ((Int) × HP)) (x0 : Option Nat) (x1 : Int) (x2 : Int) (h : HP) : Option ((Int) × HP) :=
  (rdR h x0 [10] 0).bind fun v1 =>
  (rcv h v1 [26]).bind fun b4 =>
  hb (f_J11_length b4 h) fun v2 h3 =>
  iLE v2 x2
    (some (x1, h3))
    ((rdR h3 x0 [10] 0).bind fun v6 =>
    (rcv h3 v6 [26]).bind fun b9 =>
    hb (f_J11_charAt b9 x2 h3) fun v7 h8 =>
    r4 x0 ((31 * x1) + v7) (x2 + 1) h8)
noncomputable def b_X13_hashCode_4 : Option Nat → Int → Int → HP → Option ((Int) × HP) := fx (fun _ _ _ _ => none) (c_X13_hashCode_4) FU
theorem C_X13_hashCode_4 {M : hp_M} {G : va_G} {h0 : HP} (X : hp_X M G h0 "RenamedWords$Name" "hashCode" cX13_hashCode 3 (some .int) [] 4 117) (r4 : Option Nat → Int → Int → HP → Option ((Int) × HP)) (hr4 : ∀ (y0 : Option Nat) (y1 : Int) (y2 : Int) (h : HP), vv M G h0 3 (hp_End M G h0) jI h 4 [(0, LR y0), (1, LI y1), (2, LI y2)] [] (r4 y0 y1 y2 h)) (x0 : Option Nat) (x1 : Int) (x2 : Int) (h : HP) : vv M G h0 3 (hp_End M G h0) jI h 4 [(0, LR x0), (1, LI x1), (2, LI x2)] [] (c_X13_hashCode_4 r4 x0 x1 x2 h) := by
  unfold c_X13_hashCode_4
  refine vv_iload_n (pc := 4) X (kf := 2) (i := 2) rfl 2 rfl dX13_hashCode_4 ?_
  refine vv_aload_n (pc := 5) X (kf := 0) (i := 0) rfl 0 rfl dX13_hashCode_5 ?_
  refine vv_getR (pc := 6) X (fun _ z => by cases List.mem_singleton.mp z; exact fl_X13_7_10) dX13_hashCode_6 (fun v1 => ?_)
  refine vv_rcv (fun b4 t9 c9 fs9 e5 g9 k9 => ?_)
  cases List.mem_singleton.mp k9
  refine vv_callI (pc := 9) (rest := [LI x2]) (by rw [e5]; rfl) (fun r8 k8 e8 => zz_callV X (m_J11_length (hlM X) _ _ _ _ e8) g9 rfl rfl q1184 q429 q430 q146 q431 nh_J11 rfl (by decide) (by decide) (Nat.le_of_ble_eq_true rfl) dX13_hashCode_9) (fun v2 h3 => ?_)
  refine vv_icmp_ge (pc := 12) (tgt := 35) X dX13_hashCode_12 rfl ?_ ?_
  · refine vv_iload_n (pc := 35) X (kf := 1) (i := 1) rfl 1 rfl dX13_hashCode_35 ?_
    exact vv_iretI X rfl rfl dX13_hashCode_36
  · refine vv_bipush (pc := 15) X (by decide) dX13_hashCode_15 ?_
    refine vv_iload_n (pc := 17) X (kf := 1) (i := 1) rfl 1 rfl dX13_hashCode_17 ?_
    refine vv_imul (pc := 18) X dX13_hashCode_18 ?_
    refine vv_aload_n (pc := 19) X (kf := 0) (i := 0) rfl 0 rfl dX13_hashCode_19 ?_
    refine vv_getR (pc := 20) X (fun _ z => by cases List.mem_singleton.mp z; exact fl_X13_7_10) dX13_hashCode_20 (fun v6 => ?_)
    refine vv_iload_n (pc := 23) X (kf := 2) (i := 2) rfl 2 rfl dX13_hashCode_23 ?_
    refine vv_rcv (fun b9 t9 c9 fs9 e10 g9 k9 => ?_)
    cases List.mem_singleton.mp k9
    refine vv_callI (pc := 24) (rest := [LI (31 * x1)]) (by rw [e10]; rfl) (fun r8 k8 e8 => zz_callV X (m_J11_charAt (hlM X) _ _ _ _ _ e8) g9 rfl rfl q1185 q1021 q1022 q146 q1023 nh_J11 rfl (by decide) (by decide) (Nat.le_of_ble_eq_true rfl) dX13_hashCode_24) (fun v7 h8 => ?_)
    refine vv_iadd (pc := 27) X dX13_hashCode_27 ?_
    refine vv_istore_n (pc := 28) (lv' := [(1, LI ((31 * x1) + v7)), (0, LR x0), (2, LI x2)]) X (kf := 1) (i := 1) rfl (by decide) rfl dX13_hashCode_28 ?_
    refine vv_iinc (pc := 29) (lv' := [(2, LI (x2 + 1)), (1, LI ((31 * x1) + v7)), (0, LR x0)]) X 2 rfl (by decide) rfl dX13_hashCode_29 ?_
    refine vv_goto (pc := 32) (tgt := 4) X dX13_hashCode_32 rfl ?_
    exact vv_sub [2, 1, 0] (by rfl) (hr4 _ _ _ _)
theorem B_X13_hashCode_4 {M : hp_M} {G : va_G} {h0 : HP} (X : hp_X M G h0 "RenamedWords$Name" "hashCode" cX13_hashCode 3 (some .int) [] 4 117) : ∀ (x0 : Option Nat) (x1 : Int) (x2 : Int) (h : HP), vv M G h0 3 (hp_End M G h0) jI h 4 [(0, LR x0), (1, LI x1), (2, LI x2)] [] (b_X13_hashCode_4 x0 x1 x2 h) := by
  unfold b_X13_hashCode_4
  generalize FU = n
  induction n with
  | zero => intro x0 x1 x2 h; exact vv_none
  | succ n ih => exact C_X13_hashCode_4 X _ ih
noncomputable def f_X13_hashCode (a0 : Nat) (h : HP) : Option ((Int) × HP) :=
  b_X13_hashCode_4 (some a0) 3 0 h
theorem A_X13_hashCode {M : hp_M} {G : va_G} {h0 : HP} (X : hp_X M G h0 "RenamedWords$Name" "hashCode" cX13_hashCode 3 (some .int) [] 4 117) (a0 : Nat) (h : HP) : vv M G h0 3 (hp_End M G h0) jI h 0 [(0, LR (some a0))] [] (f_X13_hashCode a0 h) := by
  unfold f_X13_hashCode
  refine vv_iconst (pc := 0) X dX13_hashCode_0 ?_
  refine vv_istore_n (pc := 1) (lv' := [(1, LI 3), (0, LR (some a0))]) X (kf := 1) (i := 1) rfl (by decide) rfl dX13_hashCode_1 ?_
  refine vv_iconst (pc := 2) X dX13_hashCode_2 ?_
  refine vv_istore_n (pc := 3) (lv' := [(2, LI 0), (1, LI 3), (0, LR (some a0))]) X (kf := 2) (i := 2) rfl (by decide) rfl dX13_hashCode_3 ?_
  exact vv_sub [2, 1, 0] (by rfl) (B_X13_hashCode_4 X _ _ _ _)
theorem m_X13_hashCode {l : Launch} (hl : l.stackTraces = false) {G : va_G} (a0 : Nat) (h : HP) : ∀ r hf, f_X13_hashCode a0 h = some (r, hf) → Ct l yX13_hashCode (ws_ yX13_hashCode cX13_hashCode 3 (some .int)) 4 117 G h [.ref a0] (jI r) hf :=
  zz_ofW hl (by decide +kernel) (lv := [(0, LR (some a0))]) (by simp [lv_args, lvL, lvV, zz_rfc, zz_rfs, zz_ci, zz_cr, zz_cj, zz_cf, zz_cd]) (by simp [lg_sl, zz_rfc, zz_ci, zz_cr, zz_cj, zz_cf, zz_cd]) (fun _ X => A_X13_hashCode X a0 h)
-- J1_hash java/util/HashMap.hash(Ljava/lang/Object;)I
noncomputable def b_J1_hash_19 (s0 : Int) (h : HP) : Option ((Int) × HP) :=
  some (s0, h)
theorem B_J1_hash_19 {M : hp_M} {G : va_G} {h0 : HP} (X : hp_X M G h0 "java/util/HashMap" "hash" cJ1_hash 2 (some .int) [] 5 147) (s0 : Int) (h : HP) : vv M G h0 2 (hp_End M G h0) jI h 19 [] [LI s0] (b_J1_hash_19 s0 h) := by
  unfold b_J1_hash_19
  exact vv_iretI X rfl rfl dJ1_hash_19
noncomputable def f_J1_hash (a1 : Option Nat) (h : HP) : Option ((Int) × HP) :=
  rNU a1
    (b_J1_hash_19 0 h)
    ((rcv h a1 [10]).bind fun b3 =>
    hb (f_X13_hashCode b3 h) fun v1 h2 =>
    b_J1_hash_19 (iXor v1 (iUshr v1 16)) h2)
theorem A_J1_hash {M : hp_M} {G : va_G} {h0 : HP} (X : hp_X M G h0 "java/util/HashMap" "hash" cJ1_hash 2 (some .int) [] 5 147) (a1 : Option Nat) (h : HP) : vv M G h0 2 (hp_End M G h0) jI h 0 [(0, LR a1)] [] (f_J1_hash a1 h) := by
  unfold f_J1_hash
  refine vv_aload_n (pc := 0) X (kf := 0) (i := 0) rfl 0 rfl dJ1_hash_0 ?_
  refine vv_ifnonnull (pc := 1) (tgt := 8) X dJ1_hash_1 rfl ?_ ?_
  · refine vv_aload_n (pc := 8) X (kf := 0) (i := 0) rfl 0 rfl dJ1_hash_8 ?_
    refine vv_rcv (fun b3 t9 c9 fs9 e4 g9 k9 => ?_)
    cases List.mem_singleton.mp k9
    refine vv_callI (pc := 9) (rest := []) (by rw [e4]; rfl) (fun r8 k8 e8 => zz_callU X (m_X13_hashCode (hlM X) _ _ _ _ e8) g9 rfl q1172 q1174 (va_Decl.abs (X.2.1.2.1 _ q1171 rfl)) (by decide) q1182 q1181 q170 q1183 rfl (by decide) (by decide) (Nat.le_of_ble_eq_true rfl) dJ1_hash_9) (fun v1 h2 => ?_)
    refine vv_dup (pc := 12) X rfl dJ1_hash_12 ?_
    refine vv_istore_n (pc := 13) (lv' := [(1, LI v1), (0, LR a1)]) X (kf := 1) (i := 1) rfl (by decide) rfl dJ1_hash_13 ?_
    refine vv_iload_n (pc := 14) X (kf := 1) (i := 1) rfl 0 rfl dJ1_hash_14 ?_
    refine vv_bipush (pc := 15) X (by decide) dJ1_hash_15 ?_
    refine vv_iushr (pc := 17) X dJ1_hash_17 ?_
    refine vv_ixor (pc := 18) X dJ1_hash_18 ?_
    exact vv_sub [] (by rfl) (B_J1_hash_19 X _ _)
  · refine vv_iconst (pc := 4) X dJ1_hash_4 ?_
    refine vv_goto (pc := 5) (tgt := 19) X dJ1_hash_5 rfl ?_
    exact vv_sub [] (by rfl) (B_J1_hash_19 X _ _)
theorem m_J1_hash {l : Launch} (hl : l.stackTraces = false) {G : va_G} (a1 : Option Nat) (h : HP) : ∀ r hf, f_J1_hash a1 h = some (r, hf) → Ct l yJ1_hash (ws_ yJ1_hash cJ1_hash 2 (some .int)) 5 147 G h [va_rf a1] (jI r) hf :=
  zz_ofW hl (by decide +kernel) (lv := [(0, LR a1)]) (by simp [lv_args, lvL, lvV, zz_rfc, zz_rfs, zz_ci, zz_cr, zz_cj, zz_cf, zz_cd]) (by simp [lg_sl, zz_rfc, zz_ci, zz_cr, zz_cj, zz_cf, zz_cd]) (fun _ X => A_J1_hash X a1 h)
-- X13_equals RenamedWords$Name.equals(Ljava/lang/Object;)Z
noncomputable def b_X13_equals_31 (s0 : Int) (h : HP) : Option ((Int) × HP) :=
  rtZ s0 (some (s0, h))
theorem B_X13_equals_31 {M : hp_M} {G : va_G} {h0 : HP} (X : hp_X M G h0 "RenamedWords$Name" "equals" cX13_equals 3 (some .boolean) [] 2 60) (s0 : Int) (h : HP) : vv M G h0 3 (hp_End M G h0) jI h 31 [] [LI s0] (b_X13_equals_31 s0 h) := by
  unfold b_X13_equals_31
  exact vv_iretZ X rfl rfl dX13_equals_31
noncomputable def b_X13_equals_30 (h : HP) : Option ((Int) × HP) :=
  b_X13_equals_31 0 h
theorem B_X13_equals_30 {M : hp_M} {G : va_G} {h0 : HP} (X : hp_X M G h0 "RenamedWords$Name" "equals" cX13_equals 3 (some .boolean) [] 2 60) (h : HP) : vv M G h0 3 (hp_End M G h0) jI h 30 [] [] (b_X13_equals_30 h) := by
  unfold b_X13_equals_30
  refine vv_iconst (pc := 30) X dX13_equals_30 ?_
  exact B_X13_equals_31 X _ _
noncomputable def f_X13_equals (a0 : Nat) (a1 : Option Nat) (h : HP) : Option ((Int) × HP) :=
  (ins h a1 [10] []).bind fun v1 =>
  iEQ v1 0
    (b_X13_equals_30 h)
    ((chk h a1 [10]).bind fun _ =>
    (rdR h a1 [10] 0).bind fun v2 =>
    (rdR h (some a0) [10] 0).bind fun v3 =>
    (rcv h v2 [26]).bind fun b6 =>
    hb (f_J11_equals b6 v3 h) fun v4 h5 =>
    iEQ v4 0
      (b_X13_equals_30 h5)
      (b_X13_equals_31 1 h5))
theorem A_X13_equals {M : hp_M} {G : va_G} {h0 : HP} (X : hp_X M G h0 "RenamedWords$Name" "equals" cX13_equals 3 (some .boolean) [] 2 60) (a0 : Nat) (a1 : Option Nat) (h : HP) : vv M G h0 3 (hp_End M G h0) jI h 0 [(0, LR (some a0)), (1, LR a1)] [] (f_X13_equals a0 a1 h) := by
  unfold f_X13_equals
  refine vv_aload_n (pc := 0) X (kf := 1) (i := 1) rfl 1 rfl dX13_equals_0 ?_
  refine vv_instanceof (pc := 1) X ⟨q1236, (fun _ z => by cases List.mem_singleton.mp z; exact ⟨_, rfl, Or.inl rfl⟩)⟩ (fun _ z => nomatch z) dX13_equals_1 (fun v1 => ?_)
  refine vv_if_eq (pc := 4) (tgt := 30) X dX13_equals_4 rfl ?_ ?_
  · exact vv_sub [] (by rfl) (B_X13_equals_30 X _)
  · refine vv_aload_n (pc := 7) X (kf := 1) (i := 1) rfl 1 rfl dX13_equals_7 ?_
    refine vv_checkcast (pc := 8) X ⟨q1236, (fun _ z => by cases List.mem_singleton.mp z; exact ⟨_, rfl, Or.inl rfl⟩)⟩ dX13_equals_8 ?_
    refine vv_astore_n (pc := 11) (lv' := [(2, LR a1), (0, LR (some a0)), (1, LR a1)]) X (kf := 2) (i := 2) rfl (by decide) rfl dX13_equals_11 ?_
    refine vv_aload_n (pc := 12) X (kf := 2) (i := 2) rfl 0 rfl dX13_equals_12 ?_
    refine vv_getR (pc := 13) X (fun _ z => by cases List.mem_singleton.mp z; exact fl_X13_7_10) dX13_equals_13 (fun v2 => ?_)
    refine vv_aload_n (pc := 16) X (kf := 0) (i := 0) rfl 1 rfl dX13_equals_16 ?_
    refine vv_getR (pc := 17) X (fun _ z => by cases List.mem_singleton.mp z; exact fl_X13_7_10) dX13_equals_17 (fun v3 => ?_)
    refine vv_rcv (fun b6 t9 c9 fs9 e7 g9 k9 => ?_)
    cases List.mem_singleton.mp k9
    refine vv_callI (pc := 20) (rest := []) (by rw [e7]; rfl) (fun r8 k8 e8 => zz_callV X (m_J11_equals (hlM X) _ _ _ _ _ e8) g9 rfl rfl q1237 q957 q958 q146 q959 nh_J11 rfl (by decide) (by decide) (Nat.le_of_ble_eq_true rfl) dX13_equals_20) (fun v4 h5 => ?_)
    refine vv_if_eq (pc := 23) (tgt := 30) X dX13_equals_23 rfl ?_ ?_
    · exact vv_sub [] (by rfl) (B_X13_equals_30 X _)
    · refine vv_iconst (pc := 26) X dX13_equals_26 ?_
      refine vv_goto (pc := 27) (tgt := 31) X dX13_equals_27 rfl ?_
      exact vv_sub [] (by rfl) (B_X13_equals_31 X _ _)
theorem m_X13_equals {l : Launch} (hl : l.stackTraces = false) {G : va_G} (a0 : Nat) (a1 : Option Nat) (h : HP) : ∀ r hf, f_X13_equals a0 a1 h = some (r, hf) → Ct l yX13_equals (ws_ yX13_equals cX13_equals 3 (some .boolean)) 2 60 G h [.ref a0, va_rf a1] (jI r) hf :=
  zz_ofW hl (by decide +kernel) (lv := [(0, LR (some a0)), (1, LR a1)]) (by simp [lv_args, lvL, lvV, zz_rfc, zz_rfs, zz_ci, zz_cr, zz_cj, zz_cf, zz_cd]) (by simp [lg_sl, zz_rfc, zz_ci, zz_cr, zz_cj, zz_cf, zz_cd]) (fun _ X => A_X13_equals X a0 a1 h)
-- J1_getNode java/util/HashMap.getNode(Ljava/lang/Object;)Ljava/util/HashMap$Node;
noncomputable def b_J1_getNode_148 (h : HP) : Option ((Option Nat) × HP) :=
  some (none, h)
theorem B_J1_getNode_148 {M : hp_M} {G : va_G} {h0 : HP} (X : hp_X M G h0 "java/util/HashMap" "getNode" cJ1_getNode 8 (some (.object "java/util/HashMap$Node")) [] 6 176) (h : HP) : vv M G h0 8 (hp_End M G h0) jR h 148 [] [] (b_J1_getNode_148 h) := by
  unfold b_J1_getNode_148
  refine vv_null (pc := 148) X dJ1_getNode_148 ?_
  exact vv_aretO X rfl rfl dJ1_getNode_149
noncomputable def b_J1_getNode_137 (r99 : Option Nat → Option Nat → Int → HP → Option ((Option Nat) × HP)) (x1 : Option Nat) (x4 : Option Nat) (x6 : Int) (h : HP) : Option ((Option Nat) × HP) :=
  (rdR h x4 [30] 3).bind fun v10 =>
  rNU v10
    (b_J1_getNode_148 h)
    (r99 x1 v10 x6 h)
theorem B_J1_getNode_137 {M : hp_M} {G : va_G} {h0 : HP} (X : hp_X M G h0 "java/util/HashMap" "getNode" cJ1_getNode 8 (some (.object "java/util/HashMap$Node")) [] 6 176) (r99 : Option Nat → Option Nat → Int → HP → Option ((Option Nat) × HP)) (hr99 : ∀ (y1 : Option Nat) (y4 : Option Nat) (y6 : Int) (h : HP), vv M G h0 8 (hp_End M G h0) jR h 99 [(1, LR y1), (4, LR y4), (6, LI y6)] [] (r99 y1 y4 y6 h)) (x1 : Option Nat) (x4 : Option Nat) (x6 : Int) (h : HP) : vv M G h0 8 (hp_End M G h0) jR h 137 [(1, LR x1), (4, LR x4), (6, LI x6)] [] (b_J1_getNode_137 r99 x1 x4 x6 h) := by
  unfold b_J1_getNode_137
  refine vv_aload (pc := 137) X 1 rfl dJ1_getNode_137 ?_
  refine vv_getR (pc := 139) X (fun _ z => by cases List.mem_singleton.mp z; exact fl_J1_177_30) dJ1_getNode_139 (fun v10 => ?_)
  refine vv_dup (pc := 142) X rfl dJ1_getNode_142 ?_
  refine vv_astore (pc := 143) (lv' := [(4, LR v10), (1, LR x1), (6, LI x6)]) X (by decide) rfl dJ1_getNode_143 ?_
  refine vv_ifnonnull (pc := 145) (tgt := 99) X dJ1_getNode_145 rfl ?_ ?_
  · exact vv_sub [1, 0, 2] (by rfl) (hr99 _ _ _ _)
  · exact vv_sub [] (by rfl) (B_J1_getNode_148 X _)
noncomputable def b_J1_getNode_134 (x4 : Option Nat) (h : HP) : Option ((Option Nat) × HP) :=
  some (x4, h)
theorem B_J1_getNode_134 {M : hp_M} {G : va_G} {h0 : HP} (X : hp_X M G h0 "java/util/HashMap" "getNode" cJ1_getNode 8 (some (.object "java/util/HashMap$Node")) [] 6 176) (x4 : Option Nat) (h : HP) : vv M G h0 8 (hp_End M G h0) jR h 134 [(4, LR x4)] [] (b_J1_getNode_134 x4 h) := by
  unfold b_J1_getNode_134
  refine vv_aload (pc := 134) X 0 rfl dJ1_getNode_134 ?_
  exact vv_aretO X rfl rfl dJ1_getNode_136
noncomputable def c_J1_getNode_99 (r99 : Option Nat → Option Nat → Int → HP → Option ((Option Nat) × HP)) (x1 : Option Nat) (x4 : Option Nat) (x6 : Int) (h : HP) : Option ((Option Nat) × HP) :=
  (rdI h x4 [30] 0).bind fun v9 =>
  iEQ v9 x6
    ((rdR h x4 [30] 1).bind fun v11 =>
    rEQ v11 x1
      (b_J1_getNode_134 x4 h)
      (rNU x1
        (b_J1_getNode_137 r99 x1 x4 x6 h)
        ((rcv h x1 [10]).bind fun b14 =>
        hb (f_X13_equals b14 v11 h) fun v12 h13 =>
        iEQ v12 0
          (b_J1_getNode_137 r99 x1 x4 x6 h13)
          (b_J1_getNode_134 x4 h13))))
    (b_J1_getNode_137 r99 x1 x4 x6 h)
noncomputable def b_J1_getNode_99 : Option Nat → Option Nat → Int → HP → Option ((Option Nat) × HP) := fx (fun _ _ _ _ => none) (c_J1_getNode_99) FU
theorem C_J1_getNode_99 {M : hp_M} {G : va_G} {h0 : HP} (X : hp_X M G h0 "java/util/HashMap" "getNode" cJ1_getNode 8 (some (.object "java/util/HashMap$Node")) [] 6 176) (r99 : Option Nat → Option Nat → Int → HP → Option ((Option Nat) × HP)) (hr99 : ∀ (y1 : Option Nat) (y4 : Option Nat) (y6 : Int) (h : HP), vv M G h0 8 (hp_End M G h0) jR h 99 [(1, LR y1), (4, LR y4), (6, LI y6)] [] (r99 y1 y4 y6 h)) (x1 : Option Nat) (x4 : Option Nat) (x6 : Int) (h : HP) : vv M G h0 8 (hp_End M G h0) jR h 99 [(1, LR x1), (4, LR x4), (6, LI x6)] [] (c_J1_getNode_99 r99 x1 x4 x6 h) := by
  unfold c_J1_getNode_99
  refine vv_aload (pc := 99) X 1 rfl dJ1_getNode_99 ?_
  refine vv_getI (pc := 101) X (fun _ z => by cases List.mem_singleton.mp z; exact fl_J1_168_30) dJ1_getNode_101 (fun v9 => ?_)
  refine vv_iload (pc := 104) X 2 rfl dJ1_getNode_104 ?_
  refine vv_icmp_ne (pc := 106) (tgt := 137) X dJ1_getNode_106 rfl ?_ ?_
  · exact B_J1_getNode_137 X r99 hr99 _ _ _ _
  · refine vv_aload (pc := 109) X 1 rfl dJ1_getNode_109 ?_
    refine vv_getR (pc := 111) X (fun _ z => by cases List.mem_singleton.mp z; exact fl_J1_170_30) dJ1_getNode_111 (fun v11 => ?_)
    refine vv_dup (pc := 114) X rfl dJ1_getNode_114 ?_
    refine vv_astore (pc := 115) (lv' := [(7, LR v11), (1, LR x1), (4, LR x4), (6, LI x6)]) X (by decide) rfl dJ1_getNode_115 ?_
    refine vv_aload_n (pc := 117) X (kf := 1) (i := 1) rfl 1 rfl dJ1_getNode_117 ?_
    refine vv_acmp_eq (pc := 118) (tgt := 134) X dJ1_getNode_118 rfl ?_ ?_
    · exact vv_sub [2] (by rfl) (B_J1_getNode_134 X _ _)
    · refine vv_aload_n (pc := 121) X (kf := 1) (i := 1) rfl 1 rfl dJ1_getNode_121 ?_
      refine vv_ifnull (pc := 122) (tgt := 137) X dJ1_getNode_122 rfl ?_ ?_
      · exact vv_sub [1, 2, 3] (by rfl) (B_J1_getNode_137 X r99 hr99 _ _ _ _)
      · refine vv_aload_n (pc := 125) X (kf := 1) (i := 1) rfl 1 rfl dJ1_getNode_125 ?_
        refine vv_aload (pc := 126) X 0 rfl dJ1_getNode_126 ?_
        refine vv_rcv (fun b14 t9 c9 fs9 e15 g9 k9 => ?_)
        cases List.mem_singleton.mp k9
        refine vv_callI (pc := 128) (rest := []) (by rw [e15]; rfl) (fun r8 k8 e8 => zz_callU X (m_X13_equals (hlM X) _ _ _ _ _ e8) g9 rfl q1224 q1226 (va_Decl.of (X.1.2.2.2.2 _ q1225) (X.1.2.2.2.2 _ q1273)) (by decide) q1234 q1233 q170 q1235 rfl (by decide) (by decide) (Nat.le_of_ble_eq_true rfl) dJ1_getNode_128) (fun v12 h13 => ?_)
        refine vv_if_eq (pc := 131) (tgt := 137) X dJ1_getNode_131 rfl ?_ ?_
        · exact vv_sub [1, 2, 3] (by rfl) (B_J1_getNode_137 X r99 hr99 _ _ _ _)
        · exact vv_sub [2] (by rfl) (B_J1_getNode_134 X _ _)
theorem B_J1_getNode_99 {M : hp_M} {G : va_G} {h0 : HP} (X : hp_X M G h0 "java/util/HashMap" "getNode" cJ1_getNode 8 (some (.object "java/util/HashMap$Node")) [] 6 176) : ∀ (x1 : Option Nat) (x4 : Option Nat) (x6 : Int) (h : HP), vv M G h0 8 (hp_End M G h0) jR h 99 [(1, LR x1), (4, LR x4), (6, LI x6)] [] (b_J1_getNode_99 x1 x4 x6 h) := by
  unfold b_J1_getNode_99
  generalize FU = n
  induction n with
  | zero => intro x1 x4 x6 h; exact vv_none
  | succ n ih => exact C_J1_getNode_99 X _ ih
noncomputable def b_J1_getNode_71 (x1 : Option Nat) (x3 : Option Nat) (x6 : Int) (h : HP) : Option ((Option Nat) × HP) :=
  (rdR h x3 [30] 3).bind fun v7 =>
  rNU v7
    (b_J1_getNode_148 h)
    ((ins h x3 [] [30]).bind fun v8 =>
    iEQ v8 0
      (b_J1_getNode_99 x1 v7 x6 h)
      ((chk h x3 []).bind fun _ =>
      none))
theorem B_J1_getNode_71 {M : hp_M} {G : va_G} {h0 : HP} (X : hp_X M G h0 "java/util/HashMap" "getNode" cJ1_getNode 8 (some (.object "java/util/HashMap$Node")) [] 6 176) (x1 : Option Nat) (x3 : Option Nat) (x6 : Int) (h : HP) : vv M G h0 8 (hp_End M G h0) jR h 71 [(1, LR x1), (3, LR x3), (6, LI x6)] [] (b_J1_getNode_71 x1 x3 x6 h) := by
  unfold b_J1_getNode_71
  refine vv_aload_n (pc := 71) X (kf := 3) (i := 3) rfl 1 rfl dJ1_getNode_71 ?_
  refine vv_getR (pc := 72) X (fun _ z => by cases List.mem_singleton.mp z; exact fl_J1_177_30) dJ1_getNode_72 (fun v7 => ?_)
  refine vv_dup (pc := 75) X rfl dJ1_getNode_75 ?_
  refine vv_astore (pc := 76) (lv' := [(4, LR v7), (1, LR x1), (3, LR x3), (6, LI x6)]) X (by decide) rfl dJ1_getNode_76 ?_
  refine vv_ifnull (pc := 78) (tgt := 148) X dJ1_getNode_78 rfl ?_ ?_
  · exact vv_sub [] (by rfl) (B_J1_getNode_148 X _)
  · refine vv_aload_n (pc := 81) X (kf := 3) (i := 3) rfl 2 rfl dJ1_getNode_81 ?_
    refine vv_instanceof (pc := 82) X ⟨q1274, (fun _ z => nomatch z)⟩ (fun _ z => by cases List.mem_singleton.mp z; exact ⟨_, rfl, List.mem_of_getElem? (i := 3) rfl⟩) dJ1_getNode_82 (fun v8 => ?_)
    refine vv_if_eq (pc := 85) (tgt := 99) X dJ1_getNode_85 rfl ?_ ?_
    · exact vv_sub [1, 0, 3] (by rfl) (B_J1_getNode_99 X _ _ _ _)
    · refine vv_aload_n (pc := 88) X (kf := 3) (i := 3) rfl 2 rfl dJ1_getNode_88 ?_
      refine vv_checkcast (pc := 89) X ⟨q1274, (fun _ z => nomatch z)⟩ dJ1_getNode_89 ?_
      refine vv_iload (pc := 92) X 3 rfl dJ1_getNode_92 ?_
      refine vv_aload_n (pc := 94) X (kf := 1) (i := 1) rfl 1 rfl dJ1_getNode_94 ?_
      exact vv_none
noncomputable def b_J1_getNode_69 (x3 : Option Nat) (h : HP) : Option ((Option Nat) × HP) :=
  some (x3, h)
theorem B_J1_getNode_69 {M : hp_M} {G : va_G} {h0 : HP} (X : hp_X M G h0 "java/util/HashMap" "getNode" cJ1_getNode 8 (some (.object "java/util/HashMap$Node")) [] 6 176) (x3 : Option Nat) (h : HP) : vv M G h0 8 (hp_End M G h0) jR h 69 [(3, LR x3)] [] (b_J1_getNode_69 x3 h) := by
  unfold b_J1_getNode_69
  refine vv_aload_n (pc := 69) X (kf := 3) (i := 3) rfl 0 rfl dJ1_getNode_69 ?_
  exact vv_aretO X rfl rfl dJ1_getNode_70
noncomputable def f_J1_getNode (a0 : Nat) (a1 : Option Nat) (h : HP) : Option ((Option Nat) × HP) :=
  (rdR h (some a0) [23] 2).bind fun v1 =>
  rNU v1
    (b_J1_getNode_148 h)
    ((alen h v1).bind fun v2 =>
    iLE v2 0
      (b_J1_getNode_148 h)
      (hb (f_J1_hash a1 h) fun v3 h4 =>
      (aldR h4 "java/util/HashMap$Node" v1 (iAnd (v2 - 1) v3)).bind fun v5 =>
      rNU v5
        (b_J1_getNode_148 h4)
        ((rdI h4 v5 [30] 0).bind fun v6 =>
        iEQ v6 v3
          ((rdR h4 v5 [30] 1).bind fun v16 =>
          rEQ v16 a1
            (b_J1_getNode_69 v5 h4)
            (rNU a1
              (b_J1_getNode_71 a1 v5 v3 h4)
              ((rcv h4 a1 [10]).bind fun b19 =>
              hb (f_X13_equals b19 v16 h4) fun v17 h18 =>
              iEQ v17 0
                (b_J1_getNode_71 a1 v5 v3 h18)
                (b_J1_getNode_69 v5 h18))))
          (b_J1_getNode_71 a1 v5 v3 h4))))
theorem A_J1_getNode {M : hp_M} {G : va_G} {h0 : HP} (X : hp_X M G h0 "java/util/HashMap" "getNode" cJ1_getNode 8 (some (.object "java/util/HashMap$Node")) [] 6 176) (a0 : Nat) (a1 : Option Nat) (h : HP) : vv M G h0 8 (hp_End M G h0) jR h 0 [(0, LR (some a0)), (1, LR a1)] [] (f_J1_getNode a0 a1 h) := by
  unfold f_J1_getNode
  refine vv_aload_n (pc := 0) X (kf := 0) (i := 0) rfl 0 rfl dJ1_getNode_0 ?_
  refine vv_getR (pc := 1) X (fun _ z => by cases List.mem_singleton.mp z; exact fl_J1_105_23) dJ1_getNode_1 (fun v1 => ?_)
  refine vv_dup (pc := 4) X rfl dJ1_getNode_4 ?_
  refine vv_astore_n (pc := 5) (lv' := [(2, LR v1), (0, LR (some a0)), (1, LR a1)]) X (kf := 2) (i := 2) rfl (by decide) rfl dJ1_getNode_5 ?_
  refine vv_ifnull (pc := 6) (tgt := 148) X dJ1_getNode_6 rfl ?_ ?_
  · exact vv_sub [] (by rfl) (B_J1_getNode_148 X _)
  · refine vv_aload_n (pc := 9) X (kf := 2) (i := 2) rfl 0 rfl dJ1_getNode_9 ?_
    refine vv_alen (pc := 10) X dJ1_getNode_10 (fun v2 => ?_)
    refine vv_dup (pc := 11) X rfl dJ1_getNode_11 ?_
    refine vv_istore (pc := 12) (lv' := [(5, LI v2), (2, LR v1), (0, LR (some a0)), (1, LR a1)]) X (by decide) rfl dJ1_getNode_12 ?_
    refine vv_if_le (pc := 14) (tgt := 148) X dJ1_getNode_14 rfl ?_ ?_
    · exact vv_sub [] (by rfl) (B_J1_getNode_148 X _)
    · refine vv_aload_n (pc := 17) X (kf := 2) (i := 2) rfl 1 rfl dJ1_getNode_17 ?_
      refine vv_iload (pc := 18) X 0 rfl dJ1_getNode_18 ?_
      refine vv_iconst (pc := 20) X dJ1_getNode_20 ?_
      refine vv_isub (pc := 21) X dJ1_getNode_21 ?_
      refine vv_aload_n (pc := 22) X (kf := 1) (i := 1) rfl 3 rfl dJ1_getNode_22 ?_
      refine vv_callI (pc := 23) (rest := [LI (v2 - 1), LR v1]) (by rfl) (fun r8 k8 e8 => zz_callS X (m_J1_hash (hlM X) _ _ _ _ e8) q1168 q1169 q136 q1170 nh_J1 rfl (by decide) (by decide) (Nat.le_of_ble_eq_true rfl) dJ1_getNode_23) (fun v3 h4 => ?_)
      refine vv_dup (pc := 26) X rfl dJ1_getNode_26 ?_
      refine vv_istore (pc := 27) (lv' := [(6, LI v3), (5, LI v2), (2, LR v1), (0, LR (some a0)), (1, LR a1)]) X (by decide) rfl dJ1_getNode_27 ?_
      refine vv_iand (pc := 29) X dJ1_getNode_29 ?_
      refine vv_aaload (pc := 30) X dJ1_getNode_30 (fun v5 => ?_)
      refine vv_dup (pc := 31) X rfl dJ1_getNode_31 ?_
      refine vv_astore_n (pc := 32) (lv' := [(3, LR v5), (6, LI v3), (5, LI v2), (2, LR v1), (0, LR (some a0)), (1, LR a1)]) X (kf := 3) (i := 3) rfl (by decide) rfl dJ1_getNode_32 ?_
      refine vv_ifnull (pc := 33) (tgt := 148) X dJ1_getNode_33 rfl ?_ ?_
      · exact vv_sub [] (by rfl) (B_J1_getNode_148 X _)
      · refine vv_aload_n (pc := 36) X (kf := 3) (i := 3) rfl 0 rfl dJ1_getNode_36 ?_
        refine vv_getI (pc := 37) X (fun _ z => by cases List.mem_singleton.mp z; exact fl_J1_168_30) dJ1_getNode_37 (fun v6 => ?_)
        refine vv_iload (pc := 40) X 1 rfl dJ1_getNode_40 ?_
        refine vv_icmp_ne (pc := 42) (tgt := 71) X dJ1_getNode_42 rfl ?_ ?_
        · exact vv_sub [5, 0, 1] (by rfl) (B_J1_getNode_71 X _ _ _ _)
        · refine vv_aload_n (pc := 45) X (kf := 3) (i := 3) rfl 0 rfl dJ1_getNode_45 ?_
          refine vv_getR (pc := 46) X (fun _ z => by cases List.mem_singleton.mp z; exact fl_J1_170_30) dJ1_getNode_46 (fun v16 => ?_)
          refine vv_dup (pc := 49) X rfl dJ1_getNode_49 ?_
          refine vv_astore (pc := 50) (lv' := [(7, LR v16), (3, LR v5), (6, LI v3), (5, LI v2), (2, LR v1), (0, LR (some a0)), (1, LR a1)]) X (by decide) rfl dJ1_getNode_50 ?_
          refine vv_aload_n (pc := 52) X (kf := 1) (i := 1) rfl 6 rfl dJ1_getNode_52 ?_
          refine vv_acmp_eq (pc := 53) (tgt := 69) X dJ1_getNode_53 rfl ?_ ?_
          · exact vv_sub [1] (by rfl) (B_J1_getNode_69 X _ _)
          · refine vv_aload_n (pc := 56) X (kf := 1) (i := 1) rfl 6 rfl dJ1_getNode_56 ?_
            refine vv_ifnull (pc := 57) (tgt := 71) X dJ1_getNode_57 rfl ?_ ?_
            · exact vv_sub [6, 1, 2] (by rfl) (B_J1_getNode_71 X _ _ _ _)
            · refine vv_aload_n (pc := 60) X (kf := 1) (i := 1) rfl 6 rfl dJ1_getNode_60 ?_
              refine vv_aload (pc := 61) X 0 rfl dJ1_getNode_61 ?_
              refine vv_rcv (fun b19 t9 c9 fs9 e20 g9 k9 => ?_)
              cases List.mem_singleton.mp k9
              refine vv_callI (pc := 63) (rest := []) (by rw [e20]; rfl) (fun r8 k8 e8 => zz_callU X (m_X13_equals (hlM X) _ _ _ _ _ e8) g9 rfl q1224 q1226 (va_Decl.of (X.1.2.2.2.2 _ q1225) (X.1.2.2.2.2 _ q1273)) (by decide) q1234 q1233 q170 q1235 rfl (by decide) (by decide) (Nat.le_of_ble_eq_true rfl) dJ1_getNode_63) (fun v17 h18 => ?_)
              refine vv_if_eq (pc := 66) (tgt := 71) X dJ1_getNode_66 rfl ?_ ?_
              · exact vv_sub [6, 1, 2] (by rfl) (B_J1_getNode_71 X _ _ _ _)
              · exact vv_sub [1] (by rfl) (B_J1_getNode_69 X _ _)
theorem m_J1_getNode {l : Launch} (hl : l.stackTraces = false) {G : va_G} (a0 : Nat) (a1 : Option Nat) (h : HP) : ∀ r hf, f_J1_getNode a0 a1 h = some (r, hf) → Ct l yJ1_getNode (ws_ yJ1_getNode cJ1_getNode 8 (some (.object "java/util/HashMap$Node"))) 6 176 G h [.ref a0, va_rf a1] (jR r) hf :=
  zz_ofW hl (by decide +kernel) (lv := [(0, LR (some a0)), (1, LR a1)]) (by simp [lv_args, lvL, lvV, zz_rfc, zz_rfs, zz_ci, zz_cr, zz_cj, zz_cf, zz_cd]) (by simp [lg_sl, zz_rfc, zz_ci, zz_cr, zz_cj, zz_cf, zz_cd]) (fun _ X => A_J1_getNode X a0 a1 h)
